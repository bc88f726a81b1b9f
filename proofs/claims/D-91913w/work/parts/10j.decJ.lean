set_option maxRecDepth 100000
def dkwJ2_init_2 : List UInt8 := [182, 0, 25, 27, 182, 0, 29, 182, 0, 32, 183, 0, 36, 191, 177]
abbrev dktJ2_init_2 : List UInt8 := dkwJ2_init_2 ++ []
def dkwJ2_init_1 : List UInt8 := [178, 0, 15, 181, 0, 9, 167, 0, 30, 187, 0, 18, 89, 187, 0, 20, 89, 183, 0, 22, 18, 23]
abbrev dktJ2_init_1 : List UInt8 := dkwJ2_init_1 ++ dktJ2_init_2
def dkwJ2_init_0 : List UInt8 := [42, 183, 0, 1, 27, 158, 0, 14, 42, 27, 189, 0, 7, 181, 0, 9, 167, 0, 44, 27, 154, 0, 13, 42]
abbrev dktJ2_init_0 : List UInt8 := dkwJ2_init_0 ++ dktJ2_init_1
theorem dksJ2_init_0 : cJ2_init.data.toList.drop 0 = dktJ2_init_0 := by decide +kernel
theorem dksJ2_init_1 : cJ2_init.data.toList.drop 24 = dktJ2_init_1 := dk_seg dksJ2_init_0 24 rfl rfl
theorem dksJ2_init_2 : cJ2_init.data.toList.drop 46 = dktJ2_init_2 := dk_seg dksJ2_init_1 22 rfl rfl
theorem dJ2_init_0 : decode cJ2_init 0 = .ok (.aload_n 0, 1) := dk_42 (dk_at dksJ2_init_0 0 rfl rfl)
theorem dJ2_init_1 : decode cJ2_init 1 = .ok (.invokespecial 1, 3) := dk_183 0 1 (dk_at dksJ2_init_0 1 rfl rfl)
theorem dJ2_init_4 : decode cJ2_init 4 = .ok (.iload_n 1, 1) := dk_27 (dk_at dksJ2_init_0 4 rfl rfl)
theorem dJ2_init_5 : decode cJ2_init 5 = .ok (.ifCond .le 14, 3) := dk_158 0 14 (dk_at dksJ2_init_0 5 rfl rfl)
theorem dJ2_init_8 : decode cJ2_init 8 = .ok (.aload_n 0, 1) := dk_42 (dk_at dksJ2_init_0 8 rfl rfl)
theorem dJ2_init_9 : decode cJ2_init 9 = .ok (.iload_n 1, 1) := dk_27 (dk_at dksJ2_init_0 9 rfl rfl)
theorem dJ2_init_10 : decode cJ2_init 10 = .ok (.anewarray 7, 3) := dk_189 0 7 (dk_at dksJ2_init_0 10 rfl rfl)
theorem dJ2_init_13 : decode cJ2_init 13 = .ok (.putfield 9, 3) := dk_181 0 9 (dk_at dksJ2_init_0 13 rfl rfl)
theorem dJ2_init_16 : decode cJ2_init 16 = .ok (.goto 44, 3) := dk_167 0 44 (dk_at dksJ2_init_0 16 rfl rfl)
theorem dJ2_init_19 : decode cJ2_init 19 = .ok (.iload_n 1, 1) := dk_27 (dk_at dksJ2_init_0 19 rfl rfl)
theorem dJ2_init_20 : decode cJ2_init 20 = .ok (.ifCond .ne 13, 3) := dk_154 0 13 (dk_at dksJ2_init_0 20 rfl rfl)
theorem dJ2_init_23 : decode cJ2_init 23 = .ok (.aload_n 0, 1) := dk_42 (dk_at dksJ2_init_0 23 rfl rfl)
theorem dJ2_init_24 : decode cJ2_init 24 = .ok (.getstatic 15, 3) := dk_178 0 15 (dk_at dksJ2_init_1 0 rfl rfl)
theorem dJ2_init_27 : decode cJ2_init 27 = .ok (.putfield 9, 3) := dk_181 0 9 (dk_at dksJ2_init_1 3 rfl rfl)
theorem dJ2_init_30 : decode cJ2_init 30 = .ok (.goto 30, 3) := dk_167 0 30 (dk_at dksJ2_init_1 6 rfl rfl)
theorem dJ2_init_33 : decode cJ2_init 33 = .ok (.new 18, 3) := dk_187 0 18 (dk_at dksJ2_init_1 9 rfl rfl)
theorem dJ2_init_36 : decode cJ2_init 36 = .ok (.dup, 1) := dk_89 (dk_at dksJ2_init_1 12 rfl rfl)
theorem dJ2_init_37 : decode cJ2_init 37 = .ok (.new 20, 3) := dk_187 0 20 (dk_at dksJ2_init_1 13 rfl rfl)
theorem dJ2_init_40 : decode cJ2_init 40 = .ok (.dup, 1) := dk_89 (dk_at dksJ2_init_1 16 rfl rfl)
theorem dJ2_init_41 : decode cJ2_init 41 = .ok (.invokespecial 22, 3) := dk_183 0 22 (dk_at dksJ2_init_1 17 rfl rfl)
theorem dJ2_init_44 : decode cJ2_init 44 = .ok (.ldc 23, 2) := dk_18 23 (dk_at dksJ2_init_1 20 rfl rfl)
theorem dJ2_init_46 : decode cJ2_init 46 = .ok (.invokevirtual 25, 3) := dk_182 0 25 (dk_at dksJ2_init_2 0 rfl rfl)
theorem dJ2_init_49 : decode cJ2_init 49 = .ok (.iload_n 1, 1) := dk_27 (dk_at dksJ2_init_2 3 rfl rfl)
theorem dJ2_init_50 : decode cJ2_init 50 = .ok (.invokevirtual 29, 3) := dk_182 0 29 (dk_at dksJ2_init_2 4 rfl rfl)
theorem dJ2_init_53 : decode cJ2_init 53 = .ok (.invokevirtual 32, 3) := dk_182 0 32 (dk_at dksJ2_init_2 7 rfl rfl)
theorem dJ2_init_56 : decode cJ2_init 56 = .ok (.invokespecial 36, 3) := dk_183 0 36 (dk_at dksJ2_init_2 10 rfl rfl)
theorem dJ2_init_59 : decode cJ2_init 59 = .ok (.athrow, 1) := dk_191 (dk_at dksJ2_init_2 13 rfl rfl)
theorem dJ2_init_60 : decode cJ2_init 60 = .ok (.return_, 1) := dk_177 (dk_at dksJ2_init_2 14 rfl rfl)
theorem dJ2_size_0 : decode cJ2_size 0 = .ok (.aload_n 0, 1) := by decide +kernel
theorem dJ2_size_1 : decode cJ2_size 1 = .ok (.getfield 48, 3) := by decide +kernel
theorem dJ2_size_4 : decode cJ2_size 4 = .ok (.ireturn, 1) := by decide +kernel
def dkwJ2_add_1 : List UInt8 := [172]
abbrev dktJ2_add_1 : List UInt8 := dkwJ2_add_1 ++ []
def dkwJ2_add_0 : List UInt8 := [42, 89, 180, 0, 63, 4, 96, 181, 0, 63, 42, 43, 42, 180, 0, 9, 42, 180, 0, 48, 182, 0, 131, 4]
abbrev dktJ2_add_0 : List UInt8 := dkwJ2_add_0 ++ dktJ2_add_1
theorem dksJ2_add_0 : cJ2_add.data.toList.drop 0 = dktJ2_add_0 := by decide +kernel
theorem dksJ2_add_1 : cJ2_add.data.toList.drop 24 = dktJ2_add_1 := dk_seg dksJ2_add_0 24 rfl rfl
theorem dJ2_add_0 : decode cJ2_add 0 = .ok (.aload_n 0, 1) := dk_42 (dk_at dksJ2_add_0 0 rfl rfl)
theorem dJ2_add_1 : decode cJ2_add 1 = .ok (.dup, 1) := dk_89 (dk_at dksJ2_add_0 1 rfl rfl)
theorem dJ2_add_2 : decode cJ2_add 2 = .ok (.getfield 63, 3) := dk_180 0 63 (dk_at dksJ2_add_0 2 rfl rfl)
theorem dJ2_add_5 : decode cJ2_add 5 = .ok (.iconst 1, 1) := dk_4 (dk_at dksJ2_add_0 5 rfl rfl)
theorem dJ2_add_6 : decode cJ2_add 6 = .ok (.iadd, 1) := dk_96 (dk_at dksJ2_add_0 6 rfl rfl)
theorem dJ2_add_7 : decode cJ2_add 7 = .ok (.putfield 63, 3) := dk_181 0 63 (dk_at dksJ2_add_0 7 rfl rfl)
theorem dJ2_add_10 : decode cJ2_add 10 = .ok (.aload_n 0, 1) := dk_42 (dk_at dksJ2_add_0 10 rfl rfl)
theorem dJ2_add_11 : decode cJ2_add 11 = .ok (.aload_n 1, 1) := dk_43 (dk_at dksJ2_add_0 11 rfl rfl)
theorem dJ2_add_12 : decode cJ2_add 12 = .ok (.aload_n 0, 1) := dk_42 (dk_at dksJ2_add_0 12 rfl rfl)
theorem dJ2_add_13 : decode cJ2_add 13 = .ok (.getfield 9, 3) := dk_180 0 9 (dk_at dksJ2_add_0 13 rfl rfl)
theorem dJ2_add_16 : decode cJ2_add 16 = .ok (.aload_n 0, 1) := dk_42 (dk_at dksJ2_add_0 16 rfl rfl)
theorem dJ2_add_17 : decode cJ2_add 17 = .ok (.getfield 48, 3) := dk_180 0 48 (dk_at dksJ2_add_0 17 rfl rfl)
theorem dJ2_add_20 : decode cJ2_add 20 = .ok (.invokevirtual 131, 3) := dk_182 0 131 (dk_at dksJ2_add_0 20 rfl rfl)
theorem dJ2_add_23 : decode cJ2_add 23 = .ok (.iconst 1, 1) := dk_4 (dk_at dksJ2_add_0 23 rfl rfl)
theorem dJ2_add_24 : decode cJ2_add 24 = .ok (.ireturn, 1) := dk_172 (dk_at dksJ2_add_1 0 rfl rfl)
def dkwJ2_add_2_0 : List UInt8 := [29, 44, 190, 160, 0, 8, 42, 182, 0, 129, 77, 44, 29, 43, 83, 42, 29, 4, 96, 181, 0, 48, 177]
abbrev dktJ2_add_2_0 : List UInt8 := dkwJ2_add_2_0 ++ []
theorem dksJ2_add_2_0 : cJ2_add_2.data.toList.drop 0 = dktJ2_add_2_0 := by decide +kernel
theorem dJ2_add_2_0 : decode cJ2_add_2 0 = .ok (.iload_n 3, 1) := dk_29 (dk_at dksJ2_add_2_0 0 rfl rfl)
theorem dJ2_add_2_1 : decode cJ2_add_2 1 = .ok (.aload_n 2, 1) := dk_44 (dk_at dksJ2_add_2_0 1 rfl rfl)
theorem dJ2_add_2_2 : decode cJ2_add_2 2 = .ok (.arraylength, 1) := dk_190 (dk_at dksJ2_add_2_0 2 rfl rfl)
theorem dJ2_add_2_3 : decode cJ2_add_2 3 = .ok (.if_icmp .ne 8, 3) := dk_160 0 8 (dk_at dksJ2_add_2_0 3 rfl rfl)
theorem dJ2_add_2_6 : decode cJ2_add_2 6 = .ok (.aload_n 0, 1) := dk_42 (dk_at dksJ2_add_2_0 6 rfl rfl)
theorem dJ2_add_2_7 : decode cJ2_add_2 7 = .ok (.invokevirtual 129, 3) := dk_182 0 129 (dk_at dksJ2_add_2_0 7 rfl rfl)
theorem dJ2_add_2_10 : decode cJ2_add_2 10 = .ok (.astore_n 2, 1) := dk_77 (dk_at dksJ2_add_2_0 10 rfl rfl)
theorem dJ2_add_2_11 : decode cJ2_add_2 11 = .ok (.aload_n 2, 1) := dk_44 (dk_at dksJ2_add_2_0 11 rfl rfl)
theorem dJ2_add_2_12 : decode cJ2_add_2 12 = .ok (.iload_n 3, 1) := dk_29 (dk_at dksJ2_add_2_0 12 rfl rfl)
theorem dJ2_add_2_13 : decode cJ2_add_2 13 = .ok (.aload_n 1, 1) := dk_43 (dk_at dksJ2_add_2_0 13 rfl rfl)
theorem dJ2_add_2_14 : decode cJ2_add_2 14 = .ok (.aastore, 1) := dk_83 (dk_at dksJ2_add_2_0 14 rfl rfl)
theorem dJ2_add_2_15 : decode cJ2_add_2 15 = .ok (.aload_n 0, 1) := dk_42 (dk_at dksJ2_add_2_0 15 rfl rfl)
theorem dJ2_add_2_16 : decode cJ2_add_2 16 = .ok (.iload_n 3, 1) := dk_29 (dk_at dksJ2_add_2_0 16 rfl rfl)
theorem dJ2_add_2_17 : decode cJ2_add_2 17 = .ok (.iconst 1, 1) := dk_4 (dk_at dksJ2_add_2_0 17 rfl rfl)
theorem dJ2_add_2_18 : decode cJ2_add_2 18 = .ok (.iadd, 1) := dk_96 (dk_at dksJ2_add_2_0 18 rfl rfl)
theorem dJ2_add_2_19 : decode cJ2_add_2 19 = .ok (.putfield 48, 3) := dk_181 0 48 (dk_at dksJ2_add_2_0 19 rfl rfl)
theorem dJ2_add_2_22 : decode cJ2_add_2 22 = .ok (.return_, 1) := dk_177 (dk_at dksJ2_add_2_0 22 rfl rfl)
def dkwJ2_grow_0 : List UInt8 := [42, 42, 180, 0, 48, 4, 96, 182, 0, 69, 176]
abbrev dktJ2_grow_0 : List UInt8 := dkwJ2_grow_0 ++ []
theorem dksJ2_grow_0 : cJ2_grow.data.toList.drop 0 = dktJ2_grow_0 := by decide +kernel
theorem dJ2_grow_0 : decode cJ2_grow 0 = .ok (.aload_n 0, 1) := dk_42 (dk_at dksJ2_grow_0 0 rfl rfl)
theorem dJ2_grow_1 : decode cJ2_grow 1 = .ok (.aload_n 0, 1) := dk_42 (dk_at dksJ2_grow_0 1 rfl rfl)
theorem dJ2_grow_2 : decode cJ2_grow 2 = .ok (.getfield 48, 3) := dk_180 0 48 (dk_at dksJ2_grow_0 2 rfl rfl)
theorem dJ2_grow_5 : decode cJ2_grow 5 = .ok (.iconst 1, 1) := dk_4 (dk_at dksJ2_grow_0 5 rfl rfl)
theorem dJ2_grow_6 : decode cJ2_grow 6 = .ok (.iadd, 1) := dk_96 (dk_at dksJ2_grow_0 6 rfl rfl)
theorem dJ2_grow_7 : decode cJ2_grow 7 = .ok (.invokevirtual 69, 3) := dk_182 0 69 (dk_at dksJ2_grow_0 7 rfl rfl)
theorem dJ2_grow_10 : decode cJ2_grow 10 = .ok (.areturn, 1) := dk_176 (dk_at dksJ2_grow_0 10 rfl rfl)
def dkwJ2_grow_2_2 : List UInt8 := [27, 184, 0, 79, 189, 0, 7, 90, 181, 0, 9, 176]
abbrev dktJ2_grow_2_2 : List UInt8 := dkwJ2_grow_2_2 ++ []
def dkwJ2_grow_2_1 : List UInt8 := [28, 4, 122, 184, 0, 73, 62, 42, 42, 180, 0, 9, 29, 184, 0, 66, 90, 181, 0, 9, 176, 42, 16, 10]
abbrev dktJ2_grow_2_1 : List UInt8 := dkwJ2_grow_2_1 ++ dktJ2_grow_2_2
def dkwJ2_grow_2_0 : List UInt8 := [42, 180, 0, 9, 190, 61, 28, 157, 0, 13, 42, 180, 0, 9, 178, 0, 39, 165, 0, 28, 28, 27, 28, 100]
abbrev dktJ2_grow_2_0 : List UInt8 := dkwJ2_grow_2_0 ++ dktJ2_grow_2_1
theorem dksJ2_grow_2_0 : cJ2_grow_2.data.toList.drop 0 = dktJ2_grow_2_0 := by decide +kernel
theorem dksJ2_grow_2_1 : cJ2_grow_2.data.toList.drop 24 = dktJ2_grow_2_1 := dk_seg dksJ2_grow_2_0 24 rfl rfl
theorem dksJ2_grow_2_2 : cJ2_grow_2.data.toList.drop 48 = dktJ2_grow_2_2 := dk_seg dksJ2_grow_2_1 24 rfl rfl
theorem dJ2_grow_2_0 : decode cJ2_grow_2 0 = .ok (.aload_n 0, 1) := dk_42 (dk_at dksJ2_grow_2_0 0 rfl rfl)
theorem dJ2_grow_2_1 : decode cJ2_grow_2 1 = .ok (.getfield 9, 3) := dk_180 0 9 (dk_at dksJ2_grow_2_0 1 rfl rfl)
theorem dJ2_grow_2_4 : decode cJ2_grow_2 4 = .ok (.arraylength, 1) := dk_190 (dk_at dksJ2_grow_2_0 4 rfl rfl)
theorem dJ2_grow_2_5 : decode cJ2_grow_2 5 = .ok (.istore_n 2, 1) := dk_61 (dk_at dksJ2_grow_2_0 5 rfl rfl)
theorem dJ2_grow_2_6 : decode cJ2_grow_2 6 = .ok (.iload_n 2, 1) := dk_28 (dk_at dksJ2_grow_2_0 6 rfl rfl)
theorem dJ2_grow_2_7 : decode cJ2_grow_2 7 = .ok (.ifCond .gt 13, 3) := dk_157 0 13 (dk_at dksJ2_grow_2_0 7 rfl rfl)
theorem dJ2_grow_2_10 : decode cJ2_grow_2 10 = .ok (.aload_n 0, 1) := dk_42 (dk_at dksJ2_grow_2_0 10 rfl rfl)
theorem dJ2_grow_2_11 : decode cJ2_grow_2 11 = .ok (.getfield 9, 3) := dk_180 0 9 (dk_at dksJ2_grow_2_0 11 rfl rfl)
theorem dJ2_grow_2_14 : decode cJ2_grow_2 14 = .ok (.getstatic 39, 3) := dk_178 0 39 (dk_at dksJ2_grow_2_0 14 rfl rfl)
theorem dJ2_grow_2_17 : decode cJ2_grow_2 17 = .ok (.if_acmp .eq 28, 3) := dk_165 0 28 (dk_at dksJ2_grow_2_0 17 rfl rfl)
theorem dJ2_grow_2_20 : decode cJ2_grow_2 20 = .ok (.iload_n 2, 1) := dk_28 (dk_at dksJ2_grow_2_0 20 rfl rfl)
theorem dJ2_grow_2_21 : decode cJ2_grow_2 21 = .ok (.iload_n 1, 1) := dk_27 (dk_at dksJ2_grow_2_0 21 rfl rfl)
theorem dJ2_grow_2_22 : decode cJ2_grow_2 22 = .ok (.iload_n 2, 1) := dk_28 (dk_at dksJ2_grow_2_0 22 rfl rfl)
theorem dJ2_grow_2_23 : decode cJ2_grow_2 23 = .ok (.isub, 1) := dk_100 (dk_at dksJ2_grow_2_0 23 rfl rfl)
theorem dJ2_grow_2_24 : decode cJ2_grow_2 24 = .ok (.iload_n 2, 1) := dk_28 (dk_at dksJ2_grow_2_1 0 rfl rfl)
theorem dJ2_grow_2_25 : decode cJ2_grow_2 25 = .ok (.iconst 1, 1) := dk_4 (dk_at dksJ2_grow_2_1 1 rfl rfl)
theorem dJ2_grow_2_26 : decode cJ2_grow_2 26 = .ok (.ishr, 1) := dk_122 (dk_at dksJ2_grow_2_1 2 rfl rfl)
theorem dJ2_grow_2_27 : decode cJ2_grow_2 27 = .ok (.invokestatic 73, 3) := dk_184 0 73 (dk_at dksJ2_grow_2_1 3 rfl rfl)
theorem dJ2_grow_2_30 : decode cJ2_grow_2 30 = .ok (.istore_n 3, 1) := dk_62 (dk_at dksJ2_grow_2_1 6 rfl rfl)
theorem dJ2_grow_2_31 : decode cJ2_grow_2 31 = .ok (.aload_n 0, 1) := dk_42 (dk_at dksJ2_grow_2_1 7 rfl rfl)
theorem dJ2_grow_2_32 : decode cJ2_grow_2 32 = .ok (.aload_n 0, 1) := dk_42 (dk_at dksJ2_grow_2_1 8 rfl rfl)
theorem dJ2_grow_2_33 : decode cJ2_grow_2 33 = .ok (.getfield 9, 3) := dk_180 0 9 (dk_at dksJ2_grow_2_1 9 rfl rfl)
theorem dJ2_grow_2_36 : decode cJ2_grow_2 36 = .ok (.iload_n 3, 1) := dk_29 (dk_at dksJ2_grow_2_1 12 rfl rfl)
theorem dJ2_grow_2_37 : decode cJ2_grow_2 37 = .ok (.invokestatic 66, 3) := dk_184 0 66 (dk_at dksJ2_grow_2_1 13 rfl rfl)
theorem dJ2_grow_2_40 : decode cJ2_grow_2 40 = .ok (.dup_x1, 1) := dk_90 (dk_at dksJ2_grow_2_1 16 rfl rfl)
theorem dJ2_grow_2_41 : decode cJ2_grow_2 41 = .ok (.putfield 9, 3) := dk_181 0 9 (dk_at dksJ2_grow_2_1 17 rfl rfl)
theorem dJ2_grow_2_44 : decode cJ2_grow_2 44 = .ok (.areturn, 1) := dk_176 (dk_at dksJ2_grow_2_1 20 rfl rfl)
theorem dJ2_grow_2_45 : decode cJ2_grow_2 45 = .ok (.aload_n 0, 1) := dk_42 (dk_at dksJ2_grow_2_1 21 rfl rfl)
theorem dJ2_grow_2_46 : decode cJ2_grow_2 46 = .ok (.bipush 10, 2) := dk_16 10 (dk_at dksJ2_grow_2_1 22 rfl rfl)
theorem dJ2_grow_2_48 : decode cJ2_grow_2 48 = .ok (.iload_n 1, 1) := dk_27 (dk_at dksJ2_grow_2_2 0 rfl rfl)
theorem dJ2_grow_2_49 : decode cJ2_grow_2 49 = .ok (.invokestatic 79, 3) := dk_184 0 79 (dk_at dksJ2_grow_2_2 1 rfl rfl)
theorem dJ2_grow_2_52 : decode cJ2_grow_2 52 = .ok (.anewarray 7, 3) := dk_189 0 7 (dk_at dksJ2_grow_2_2 4 rfl rfl)
theorem dJ2_grow_2_55 : decode cJ2_grow_2 55 = .ok (.dup_x1, 1) := dk_90 (dk_at dksJ2_grow_2_2 7 rfl rfl)
theorem dJ2_grow_2_56 : decode cJ2_grow_2 56 = .ok (.putfield 9, 3) := dk_181 0 9 (dk_at dksJ2_grow_2_2 8 rfl rfl)
theorem dJ2_grow_2_59 : decode cJ2_grow_2 59 = .ok (.areturn, 1) := dk_176 (dk_at dksJ2_grow_2_2 11 rfl rfl)
def dkwJ2_get_0 : List UInt8 := [27, 42, 180, 0, 48, 184, 0, 118, 87, 42, 27, 182, 0, 123, 176]
abbrev dktJ2_get_0 : List UInt8 := dkwJ2_get_0 ++ []
theorem dksJ2_get_0 : cJ2_get.data.toList.drop 0 = dktJ2_get_0 := by decide +kernel
theorem dJ2_get_0 : decode cJ2_get 0 = .ok (.iload_n 1, 1) := dk_27 (dk_at dksJ2_get_0 0 rfl rfl)
theorem dJ2_get_1 : decode cJ2_get 1 = .ok (.aload_n 0, 1) := dk_42 (dk_at dksJ2_get_0 1 rfl rfl)
theorem dJ2_get_2 : decode cJ2_get 2 = .ok (.getfield 48, 3) := dk_180 0 48 (dk_at dksJ2_get_0 2 rfl rfl)
theorem dJ2_get_5 : decode cJ2_get 5 = .ok (.invokestatic 118, 3) := dk_184 0 118 (dk_at dksJ2_get_0 5 rfl rfl)
theorem dJ2_get_8 : decode cJ2_get 8 = .ok (.pop, 1) := dk_87 (dk_at dksJ2_get_0 8 rfl rfl)
theorem dJ2_get_9 : decode cJ2_get 9 = .ok (.aload_n 0, 1) := dk_42 (dk_at dksJ2_get_0 9 rfl rfl)
theorem dJ2_get_10 : decode cJ2_get 10 = .ok (.iload_n 1, 1) := dk_27 (dk_at dksJ2_get_0 10 rfl rfl)
theorem dJ2_get_11 : decode cJ2_get 11 = .ok (.invokevirtual 123, 3) := dk_182 0 123 (dk_at dksJ2_get_0 11 rfl rfl)
theorem dJ2_get_14 : decode cJ2_get 14 = .ok (.areturn, 1) := dk_176 (dk_at dksJ2_get_0 14 rfl rfl)
def dkwJ2_elementData_0 : List UInt8 := [42, 180, 0, 9, 27, 50, 176]
abbrev dktJ2_elementData_0 : List UInt8 := dkwJ2_elementData_0 ++ []
theorem dksJ2_elementData_0 : cJ2_elementData.data.toList.drop 0 = dktJ2_elementData_0 := by decide +kernel
theorem dJ2_elementData_0 : decode cJ2_elementData 0 = .ok (.aload_n 0, 1) := dk_42 (dk_at dksJ2_elementData_0 0 rfl rfl)
theorem dJ2_elementData_1 : decode cJ2_elementData 1 = .ok (.getfield 9, 3) := dk_180 0 9 (dk_at dksJ2_elementData_0 1 rfl rfl)
theorem dJ2_elementData_4 : decode cJ2_elementData 4 = .ok (.iload_n 1, 1) := dk_27 (dk_at dksJ2_elementData_0 4 rfl rfl)
theorem dJ2_elementData_5 : decode cJ2_elementData 5 = .ok (.aaload, 1) := dk_50 (dk_at dksJ2_elementData_0 5 rfl rfl)
theorem dJ2_elementData_6 : decode cJ2_elementData 6 = .ok (.areturn, 1) := dk_176 (dk_at dksJ2_elementData_0 6 rfl rfl)
def dkwJ3_length_0 : List UInt8 := [42, 180, 0, 9, 190, 42, 182, 1, 79, 122, 172]
abbrev dktJ3_length_0 : List UInt8 := dkwJ3_length_0 ++ []
theorem dksJ3_length_0 : cJ3_length.data.toList.drop 0 = dktJ3_length_0 := by decide +kernel
theorem dJ3_length_0 : decode cJ3_length 0 = .ok (.aload_n 0, 1) := dk_42 (dk_at dksJ3_length_0 0 rfl rfl)
theorem dJ3_length_1 : decode cJ3_length 1 = .ok (.getfield 9, 3) := dk_180 0 9 (dk_at dksJ3_length_0 1 rfl rfl)
theorem dJ3_length_4 : decode cJ3_length 4 = .ok (.arraylength, 1) := dk_190 (dk_at dksJ3_length_0 4 rfl rfl)
theorem dJ3_length_5 : decode cJ3_length 5 = .ok (.aload_n 0, 1) := dk_42 (dk_at dksJ3_length_0 5 rfl rfl)
theorem dJ3_length_6 : decode cJ3_length 6 = .ok (.invokevirtual 335, 3) := dk_182 1 79 (dk_at dksJ3_length_0 6 rfl rfl)
theorem dJ3_length_9 : decode cJ3_length 9 = .ok (.ishr, 1) := dk_122 (dk_at dksJ3_length_0 9 rfl rfl)
theorem dJ3_length_10 : decode cJ3_length 10 = .ok (.ireturn, 1) := dk_172 (dk_at dksJ3_length_0 10 rfl rfl)
def dkwJ3_coder_0 : List UInt8 := [178, 0, 38, 153, 0, 10, 42, 180, 0, 15, 167, 0, 4, 4, 172]
abbrev dktJ3_coder_0 : List UInt8 := dkwJ3_coder_0 ++ []
theorem dksJ3_coder_0 : cJ3_coder.data.toList.drop 0 = dktJ3_coder_0 := by decide +kernel
theorem dJ3_coder_0 : decode cJ3_coder 0 = .ok (.getstatic 38, 3) := dk_178 0 38 (dk_at dksJ3_coder_0 0 rfl rfl)
theorem dJ3_coder_3 : decode cJ3_coder 3 = .ok (.ifCond .eq 10, 3) := dk_153 0 10 (dk_at dksJ3_coder_0 3 rfl rfl)
theorem dJ3_coder_6 : decode cJ3_coder 6 = .ok (.aload_n 0, 1) := dk_42 (dk_at dksJ3_coder_0 6 rfl rfl)
theorem dJ3_coder_7 : decode cJ3_coder 7 = .ok (.getfield 15, 3) := dk_180 0 15 (dk_at dksJ3_coder_0 7 rfl rfl)
theorem dJ3_coder_10 : decode cJ3_coder 10 = .ok (.goto 4, 3) := dk_167 0 4 (dk_at dksJ3_coder_0 10 rfl rfl)
theorem dJ3_coder_13 : decode cJ3_coder 13 = .ok (.iconst 1, 1) := dk_4 (dk_at dksJ3_coder_0 13 rfl rfl)
theorem dJ3_coder_14 : decode cJ3_coder 14 = .ok (.ireturn, 1) := dk_172 (dk_at dksJ3_coder_0 14 rfl rfl)
def dkwJ3_charAt_1 : List UInt8 := [172]
abbrev dktJ3_charAt_1 : List UInt8 := dkwJ3_charAt_1 ++ []
def dkwJ3_charAt_0 : List UInt8 := [42, 182, 1, 236, 153, 0, 12, 42, 180, 0, 9, 27, 184, 1, 239, 172, 42, 180, 0, 9, 27, 184, 1, 242]
abbrev dktJ3_charAt_0 : List UInt8 := dkwJ3_charAt_0 ++ dktJ3_charAt_1
theorem dksJ3_charAt_0 : cJ3_charAt.data.toList.drop 0 = dktJ3_charAt_0 := by decide +kernel
theorem dksJ3_charAt_1 : cJ3_charAt.data.toList.drop 24 = dktJ3_charAt_1 := dk_seg dksJ3_charAt_0 24 rfl rfl
theorem dJ3_charAt_0 : decode cJ3_charAt 0 = .ok (.aload_n 0, 1) := dk_42 (dk_at dksJ3_charAt_0 0 rfl rfl)
theorem dJ3_charAt_1 : decode cJ3_charAt 1 = .ok (.invokevirtual 492, 3) := dk_182 1 236 (dk_at dksJ3_charAt_0 1 rfl rfl)
theorem dJ3_charAt_4 : decode cJ3_charAt 4 = .ok (.ifCond .eq 12, 3) := dk_153 0 12 (dk_at dksJ3_charAt_0 4 rfl rfl)
theorem dJ3_charAt_7 : decode cJ3_charAt 7 = .ok (.aload_n 0, 1) := dk_42 (dk_at dksJ3_charAt_0 7 rfl rfl)
theorem dJ3_charAt_8 : decode cJ3_charAt 8 = .ok (.getfield 9, 3) := dk_180 0 9 (dk_at dksJ3_charAt_0 8 rfl rfl)
theorem dJ3_charAt_11 : decode cJ3_charAt 11 = .ok (.iload_n 1, 1) := dk_27 (dk_at dksJ3_charAt_0 11 rfl rfl)
theorem dJ3_charAt_12 : decode cJ3_charAt 12 = .ok (.invokestatic 495, 3) := dk_184 1 239 (dk_at dksJ3_charAt_0 12 rfl rfl)
theorem dJ3_charAt_15 : decode cJ3_charAt 15 = .ok (.ireturn, 1) := dk_172 (dk_at dksJ3_charAt_0 15 rfl rfl)
theorem dJ3_charAt_16 : decode cJ3_charAt 16 = .ok (.aload_n 0, 1) := dk_42 (dk_at dksJ3_charAt_0 16 rfl rfl)
theorem dJ3_charAt_17 : decode cJ3_charAt 17 = .ok (.getfield 9, 3) := dk_180 0 9 (dk_at dksJ3_charAt_0 17 rfl rfl)
theorem dJ3_charAt_20 : decode cJ3_charAt 20 = .ok (.iload_n 1, 1) := dk_27 (dk_at dksJ3_charAt_0 20 rfl rfl)
theorem dJ3_charAt_21 : decode cJ3_charAt 21 = .ok (.invokestatic 498, 3) := dk_184 1 242 (dk_at dksJ3_charAt_0 21 rfl rfl)
theorem dJ3_charAt_24 : decode cJ3_charAt 24 = .ok (.ireturn, 1) := dk_172 (dk_at dksJ3_charAt_1 0 rfl rfl)
def dkwJ3_isLatin1_0 : List UInt8 := [178, 0, 38, 153, 0, 14, 42, 180, 0, 15, 154, 0, 7, 4, 167, 0, 4, 3, 172]
abbrev dktJ3_isLatin1_0 : List UInt8 := dkwJ3_isLatin1_0 ++ []
theorem dksJ3_isLatin1_0 : cJ3_isLatin1.data.toList.drop 0 = dktJ3_isLatin1_0 := by decide +kernel
theorem dJ3_isLatin1_0 : decode cJ3_isLatin1 0 = .ok (.getstatic 38, 3) := dk_178 0 38 (dk_at dksJ3_isLatin1_0 0 rfl rfl)
theorem dJ3_isLatin1_3 : decode cJ3_isLatin1 3 = .ok (.ifCond .eq 14, 3) := dk_153 0 14 (dk_at dksJ3_isLatin1_0 3 rfl rfl)
theorem dJ3_isLatin1_6 : decode cJ3_isLatin1 6 = .ok (.aload_n 0, 1) := dk_42 (dk_at dksJ3_isLatin1_0 6 rfl rfl)
theorem dJ3_isLatin1_7 : decode cJ3_isLatin1 7 = .ok (.getfield 15, 3) := dk_180 0 15 (dk_at dksJ3_isLatin1_0 7 rfl rfl)
theorem dJ3_isLatin1_10 : decode cJ3_isLatin1 10 = .ok (.ifCond .ne 7, 3) := dk_154 0 7 (dk_at dksJ3_isLatin1_0 10 rfl rfl)
theorem dJ3_isLatin1_13 : decode cJ3_isLatin1 13 = .ok (.iconst 1, 1) := dk_4 (dk_at dksJ3_isLatin1_0 13 rfl rfl)
theorem dJ3_isLatin1_14 : decode cJ3_isLatin1 14 = .ok (.goto 4, 3) := dk_167 0 4 (dk_at dksJ3_isLatin1_0 14 rfl rfl)
theorem dJ3_isLatin1_17 : decode cJ3_isLatin1 17 = .ok (.iconst 0, 1) := dk_3 (dk_at dksJ3_isLatin1_0 17 rfl rfl)
theorem dJ3_isLatin1_18 : decode cJ3_isLatin1 18 = .ok (.ireturn, 1) := dk_172 (dk_at dksJ3_isLatin1_0 18 rfl rfl)
def dkwJ3_checkIndex_0 : List UInt8 := [26, 27, 178, 4, 29, 184, 4, 35, 87, 177]
abbrev dktJ3_checkIndex_0 : List UInt8 := dkwJ3_checkIndex_0 ++ []
theorem dksJ3_checkIndex_0 : cJ3_checkIndex.data.toList.drop 0 = dktJ3_checkIndex_0 := by decide +kernel
theorem dJ3_checkIndex_0 : decode cJ3_checkIndex 0 = .ok (.iload_n 0, 1) := dk_26 (dk_at dksJ3_checkIndex_0 0 rfl rfl)
theorem dJ3_checkIndex_1 : decode cJ3_checkIndex 1 = .ok (.iload_n 1, 1) := dk_27 (dk_at dksJ3_checkIndex_0 1 rfl rfl)
theorem dJ3_checkIndex_2 : decode cJ3_checkIndex 2 = .ok (.getstatic 1053, 3) := dk_178 4 29 (dk_at dksJ3_checkIndex_0 2 rfl rfl)
theorem dJ3_checkIndex_5 : decode cJ3_checkIndex 5 = .ok (.invokestatic 1059, 3) := dk_184 4 35 (dk_at dksJ3_checkIndex_0 5 rfl rfl)
theorem dJ3_checkIndex_8 : decode cJ3_checkIndex 8 = .ok (.pop, 1) := dk_87 (dk_at dksJ3_checkIndex_0 8 rfl rfl)
theorem dJ3_checkIndex_9 : decode cJ3_checkIndex 9 = .ok (.return_, 1) := dk_177 (dk_at dksJ3_checkIndex_0 9 rfl rfl)
def dkwJ3_indexOf_0 : List UInt8 := [42, 27, 3, 182, 2, 121, 172]
abbrev dktJ3_indexOf_0 : List UInt8 := dkwJ3_indexOf_0 ++ []
theorem dksJ3_indexOf_0 : cJ3_indexOf.data.toList.drop 0 = dktJ3_indexOf_0 := by decide +kernel
theorem dJ3_indexOf_0 : decode cJ3_indexOf 0 = .ok (.aload_n 0, 1) := dk_42 (dk_at dksJ3_indexOf_0 0 rfl rfl)
theorem dJ3_indexOf_1 : decode cJ3_indexOf 1 = .ok (.iload_n 1, 1) := dk_27 (dk_at dksJ3_indexOf_0 1 rfl rfl)
theorem dJ3_indexOf_2 : decode cJ3_indexOf 2 = .ok (.iconst 0, 1) := dk_3 (dk_at dksJ3_indexOf_0 2 rfl rfl)
theorem dJ3_indexOf_3 : decode cJ3_indexOf 3 = .ok (.invokevirtual 633, 3) := dk_182 2 121 (dk_at dksJ3_indexOf_0 3 rfl rfl)
theorem dJ3_indexOf_6 : decode cJ3_indexOf 6 = .ok (.ireturn, 1) := dk_172 (dk_at dksJ3_indexOf_0 6 rfl rfl)
def dkwJ3_indexOf_2_1 : List UInt8 := [180, 0, 9, 27, 28, 42, 182, 1, 249, 184, 2, 128, 172]
abbrev dktJ3_indexOf_2_1 : List UInt8 := dkwJ3_indexOf_2_1 ++ []
def dkwJ3_indexOf_2_0 : List UInt8 := [42, 182, 1, 236, 153, 0, 19, 42, 180, 0, 9, 27, 28, 42, 182, 1, 249, 184, 2, 125, 167, 0, 16, 42]
abbrev dktJ3_indexOf_2_0 : List UInt8 := dkwJ3_indexOf_2_0 ++ dktJ3_indexOf_2_1
theorem dksJ3_indexOf_2_0 : cJ3_indexOf_2.data.toList.drop 0 = dktJ3_indexOf_2_0 := by decide +kernel
theorem dksJ3_indexOf_2_1 : cJ3_indexOf_2.data.toList.drop 24 = dktJ3_indexOf_2_1 := dk_seg dksJ3_indexOf_2_0 24 rfl rfl
theorem dJ3_indexOf_2_0 : decode cJ3_indexOf_2 0 = .ok (.aload_n 0, 1) := dk_42 (dk_at dksJ3_indexOf_2_0 0 rfl rfl)
theorem dJ3_indexOf_2_1 : decode cJ3_indexOf_2 1 = .ok (.invokevirtual 492, 3) := dk_182 1 236 (dk_at dksJ3_indexOf_2_0 1 rfl rfl)
theorem dJ3_indexOf_2_4 : decode cJ3_indexOf_2 4 = .ok (.ifCond .eq 19, 3) := dk_153 0 19 (dk_at dksJ3_indexOf_2_0 4 rfl rfl)
theorem dJ3_indexOf_2_7 : decode cJ3_indexOf_2 7 = .ok (.aload_n 0, 1) := dk_42 (dk_at dksJ3_indexOf_2_0 7 rfl rfl)
theorem dJ3_indexOf_2_8 : decode cJ3_indexOf_2 8 = .ok (.getfield 9, 3) := dk_180 0 9 (dk_at dksJ3_indexOf_2_0 8 rfl rfl)
theorem dJ3_indexOf_2_11 : decode cJ3_indexOf_2 11 = .ok (.iload_n 1, 1) := dk_27 (dk_at dksJ3_indexOf_2_0 11 rfl rfl)
theorem dJ3_indexOf_2_12 : decode cJ3_indexOf_2 12 = .ok (.iload_n 2, 1) := dk_28 (dk_at dksJ3_indexOf_2_0 12 rfl rfl)
theorem dJ3_indexOf_2_13 : decode cJ3_indexOf_2 13 = .ok (.aload_n 0, 1) := dk_42 (dk_at dksJ3_indexOf_2_0 13 rfl rfl)
theorem dJ3_indexOf_2_14 : decode cJ3_indexOf_2 14 = .ok (.invokevirtual 505, 3) := dk_182 1 249 (dk_at dksJ3_indexOf_2_0 14 rfl rfl)
theorem dJ3_indexOf_2_17 : decode cJ3_indexOf_2 17 = .ok (.invokestatic 637, 3) := dk_184 2 125 (dk_at dksJ3_indexOf_2_0 17 rfl rfl)
theorem dJ3_indexOf_2_20 : decode cJ3_indexOf_2 20 = .ok (.goto 16, 3) := dk_167 0 16 (dk_at dksJ3_indexOf_2_0 20 rfl rfl)
theorem dJ3_indexOf_2_23 : decode cJ3_indexOf_2 23 = .ok (.aload_n 0, 1) := dk_42 (dk_at dksJ3_indexOf_2_0 23 rfl rfl)
theorem dJ3_indexOf_2_24 : decode cJ3_indexOf_2 24 = .ok (.getfield 9, 3) := dk_180 0 9 (dk_at dksJ3_indexOf_2_1 0 rfl rfl)
theorem dJ3_indexOf_2_27 : decode cJ3_indexOf_2 27 = .ok (.iload_n 1, 1) := dk_27 (dk_at dksJ3_indexOf_2_1 3 rfl rfl)
theorem dJ3_indexOf_2_28 : decode cJ3_indexOf_2 28 = .ok (.iload_n 2, 1) := dk_28 (dk_at dksJ3_indexOf_2_1 4 rfl rfl)
theorem dJ3_indexOf_2_29 : decode cJ3_indexOf_2 29 = .ok (.aload_n 0, 1) := dk_42 (dk_at dksJ3_indexOf_2_1 5 rfl rfl)
theorem dJ3_indexOf_2_30 : decode cJ3_indexOf_2 30 = .ok (.invokevirtual 505, 3) := dk_182 1 249 (dk_at dksJ3_indexOf_2_1 6 rfl rfl)
theorem dJ3_indexOf_2_33 : decode cJ3_indexOf_2 33 = .ok (.invokestatic 640, 3) := dk_184 2 128 (dk_at dksJ3_indexOf_2_1 9 rfl rfl)
theorem dJ3_indexOf_2_36 : decode cJ3_indexOf_2 36 = .ok (.ireturn, 1) := dk_172 (dk_at dksJ3_indexOf_2_1 12 rfl rfl)
def dkwJ3_checkBoundsBeginEnd_0 : List UInt8 := [26, 27, 28, 178, 4, 29, 184, 4, 38, 87, 177]
abbrev dktJ3_checkBoundsBeginEnd_0 : List UInt8 := dkwJ3_checkBoundsBeginEnd_0 ++ []
theorem dksJ3_checkBoundsBeginEnd_0 : cJ3_checkBoundsBeginEnd.data.toList.drop 0 = dktJ3_checkBoundsBeginEnd_0 := by decide +kernel
theorem dJ3_checkBoundsBeginEnd_0 : decode cJ3_checkBoundsBeginEnd 0 = .ok (.iload_n 0, 1) := dk_26 (dk_at dksJ3_checkBoundsBeginEnd_0 0 rfl rfl)
theorem dJ3_checkBoundsBeginEnd_1 : decode cJ3_checkBoundsBeginEnd 1 = .ok (.iload_n 1, 1) := dk_27 (dk_at dksJ3_checkBoundsBeginEnd_0 1 rfl rfl)
theorem dJ3_checkBoundsBeginEnd_2 : decode cJ3_checkBoundsBeginEnd 2 = .ok (.iload_n 2, 1) := dk_28 (dk_at dksJ3_checkBoundsBeginEnd_0 2 rfl rfl)
theorem dJ3_checkBoundsBeginEnd_3 : decode cJ3_checkBoundsBeginEnd 3 = .ok (.getstatic 1053, 3) := dk_178 4 29 (dk_at dksJ3_checkBoundsBeginEnd_0 3 rfl rfl)
theorem dJ3_checkBoundsBeginEnd_6 : decode cJ3_checkBoundsBeginEnd 6 = .ok (.invokestatic 1062, 3) := dk_184 4 38 (dk_at dksJ3_checkBoundsBeginEnd_0 6 rfl rfl)
theorem dJ3_checkBoundsBeginEnd_9 : decode cJ3_checkBoundsBeginEnd 9 = .ok (.pop, 1) := dk_87 (dk_at dksJ3_checkBoundsBeginEnd_0 9 rfl rfl)
theorem dJ3_checkBoundsBeginEnd_10 : decode cJ3_checkBoundsBeginEnd 10 = .ok (.return_, 1) := dk_177 (dk_at dksJ3_checkBoundsBeginEnd_0 10 rfl rfl)
def dkwJ4_charAt_0 : List UInt8 := [27, 42, 190, 184, 0, 9, 42, 27, 51, 17, 0, 255, 126, 146, 172]
abbrev dktJ4_charAt_0 : List UInt8 := dkwJ4_charAt_0 ++ []
theorem dksJ4_charAt_0 : cJ4_charAt.data.toList.drop 0 = dktJ4_charAt_0 := by decide +kernel
theorem dJ4_charAt_0 : decode cJ4_charAt 0 = .ok (.iload_n 1, 1) := dk_27 (dk_at dksJ4_charAt_0 0 rfl rfl)
theorem dJ4_charAt_1 : decode cJ4_charAt 1 = .ok (.aload_n 0, 1) := dk_42 (dk_at dksJ4_charAt_0 1 rfl rfl)
theorem dJ4_charAt_2 : decode cJ4_charAt 2 = .ok (.arraylength, 1) := dk_190 (dk_at dksJ4_charAt_0 2 rfl rfl)
theorem dJ4_charAt_3 : decode cJ4_charAt 3 = .ok (.invokestatic 9, 3) := dk_184 0 9 (dk_at dksJ4_charAt_0 3 rfl rfl)
theorem dJ4_charAt_6 : decode cJ4_charAt 6 = .ok (.aload_n 0, 1) := dk_42 (dk_at dksJ4_charAt_0 6 rfl rfl)
theorem dJ4_charAt_7 : decode cJ4_charAt 7 = .ok (.iload_n 1, 1) := dk_27 (dk_at dksJ4_charAt_0 7 rfl rfl)
theorem dJ4_charAt_8 : decode cJ4_charAt 8 = .ok (.baload, 1) := dk_51 (dk_at dksJ4_charAt_0 8 rfl rfl)
theorem dJ4_charAt_9 : decode cJ4_charAt 9 = .ok (.sipush 255, 3) := dk_17 0 255 (dk_at dksJ4_charAt_0 9 rfl rfl)
theorem dJ4_charAt_12 : decode cJ4_charAt 12 = .ok (.iand, 1) := dk_126 (dk_at dksJ4_charAt_0 12 rfl rfl)
theorem dJ4_charAt_13 : decode cJ4_charAt 13 = .ok (.i2c, 1) := dk_146 (dk_at dksJ4_charAt_0 13 rfl rfl)
theorem dJ4_charAt_14 : decode cJ4_charAt 14 = .ok (.ireturn, 1) := dk_172 (dk_at dksJ4_charAt_0 14 rfl rfl)
def dkwJ4_indexOf_1 : List UInt8 := [161, 0, 5, 2, 172, 42, 27, 28, 29, 184, 0, 95, 172]
abbrev dktJ4_indexOf_1 : List UInt8 := dkwJ4_indexOf_1 ++ []
def dkwJ4_indexOf_0 : List UInt8 := [27, 184, 0, 88, 154, 0, 5, 2, 172, 28, 3, 184, 0, 92, 61, 29, 42, 190, 184, 0, 38, 62, 28, 29]
abbrev dktJ4_indexOf_0 : List UInt8 := dkwJ4_indexOf_0 ++ dktJ4_indexOf_1
theorem dksJ4_indexOf_0 : cJ4_indexOf.data.toList.drop 0 = dktJ4_indexOf_0 := by decide +kernel
theorem dksJ4_indexOf_1 : cJ4_indexOf.data.toList.drop 24 = dktJ4_indexOf_1 := dk_seg dksJ4_indexOf_0 24 rfl rfl
theorem dJ4_indexOf_0 : decode cJ4_indexOf 0 = .ok (.iload_n 1, 1) := dk_27 (dk_at dksJ4_indexOf_0 0 rfl rfl)
theorem dJ4_indexOf_1 : decode cJ4_indexOf 1 = .ok (.invokestatic 88, 3) := dk_184 0 88 (dk_at dksJ4_indexOf_0 1 rfl rfl)
theorem dJ4_indexOf_4 : decode cJ4_indexOf 4 = .ok (.ifCond .ne 5, 3) := dk_154 0 5 (dk_at dksJ4_indexOf_0 4 rfl rfl)
theorem dJ4_indexOf_7 : decode cJ4_indexOf 7 = .ok (.iconst (-1), 1) := dk_2 (dk_at dksJ4_indexOf_0 7 rfl rfl)
theorem dJ4_indexOf_8 : decode cJ4_indexOf 8 = .ok (.ireturn, 1) := dk_172 (dk_at dksJ4_indexOf_0 8 rfl rfl)
theorem dJ4_indexOf_9 : decode cJ4_indexOf 9 = .ok (.iload_n 2, 1) := dk_28 (dk_at dksJ4_indexOf_0 9 rfl rfl)
theorem dJ4_indexOf_10 : decode cJ4_indexOf 10 = .ok (.iconst 0, 1) := dk_3 (dk_at dksJ4_indexOf_0 10 rfl rfl)
theorem dJ4_indexOf_11 : decode cJ4_indexOf 11 = .ok (.invokestatic 92, 3) := dk_184 0 92 (dk_at dksJ4_indexOf_0 11 rfl rfl)
theorem dJ4_indexOf_14 : decode cJ4_indexOf 14 = .ok (.istore_n 2, 1) := dk_61 (dk_at dksJ4_indexOf_0 14 rfl rfl)
theorem dJ4_indexOf_15 : decode cJ4_indexOf 15 = .ok (.iload_n 3, 1) := dk_29 (dk_at dksJ4_indexOf_0 15 rfl rfl)
theorem dJ4_indexOf_16 : decode cJ4_indexOf 16 = .ok (.aload_n 0, 1) := dk_42 (dk_at dksJ4_indexOf_0 16 rfl rfl)
theorem dJ4_indexOf_17 : decode cJ4_indexOf 17 = .ok (.arraylength, 1) := dk_190 (dk_at dksJ4_indexOf_0 17 rfl rfl)
theorem dJ4_indexOf_18 : decode cJ4_indexOf 18 = .ok (.invokestatic 38, 3) := dk_184 0 38 (dk_at dksJ4_indexOf_0 18 rfl rfl)
theorem dJ4_indexOf_21 : decode cJ4_indexOf 21 = .ok (.istore_n 3, 1) := dk_62 (dk_at dksJ4_indexOf_0 21 rfl rfl)
theorem dJ4_indexOf_22 : decode cJ4_indexOf 22 = .ok (.iload_n 2, 1) := dk_28 (dk_at dksJ4_indexOf_0 22 rfl rfl)
theorem dJ4_indexOf_23 : decode cJ4_indexOf 23 = .ok (.iload_n 3, 1) := dk_29 (dk_at dksJ4_indexOf_0 23 rfl rfl)
theorem dJ4_indexOf_24 : decode cJ4_indexOf 24 = .ok (.if_icmp .lt 5, 3) := dk_161 0 5 (dk_at dksJ4_indexOf_1 0 rfl rfl)
theorem dJ4_indexOf_27 : decode cJ4_indexOf 27 = .ok (.iconst (-1), 1) := dk_2 (dk_at dksJ4_indexOf_1 3 rfl rfl)
theorem dJ4_indexOf_28 : decode cJ4_indexOf 28 = .ok (.ireturn, 1) := dk_172 (dk_at dksJ4_indexOf_1 4 rfl rfl)
theorem dJ4_indexOf_29 : decode cJ4_indexOf 29 = .ok (.aload_n 0, 1) := dk_42 (dk_at dksJ4_indexOf_1 5 rfl rfl)
theorem dJ4_indexOf_30 : decode cJ4_indexOf 30 = .ok (.iload_n 1, 1) := dk_27 (dk_at dksJ4_indexOf_1 6 rfl rfl)
theorem dJ4_indexOf_31 : decode cJ4_indexOf 31 = .ok (.iload_n 2, 1) := dk_28 (dk_at dksJ4_indexOf_1 7 rfl rfl)
theorem dJ4_indexOf_32 : decode cJ4_indexOf 32 = .ok (.iload_n 3, 1) := dk_29 (dk_at dksJ4_indexOf_1 8 rfl rfl)
theorem dJ4_indexOf_33 : decode cJ4_indexOf 33 = .ok (.invokestatic 95, 3) := dk_184 0 95 (dk_at dksJ4_indexOf_1 9 rfl rfl)
theorem dJ4_indexOf_36 : decode cJ4_indexOf 36 = .ok (.ireturn, 1) := dk_172 (dk_at dksJ4_indexOf_1 12 rfl rfl)
def dkwJ4_canEncode_0 : List UInt8 := [26, 155, 0, 14, 26, 17, 0, 255, 163, 0, 7, 4, 167, 0, 4, 3, 172]
abbrev dktJ4_canEncode_0 : List UInt8 := dkwJ4_canEncode_0 ++ []
theorem dksJ4_canEncode_0 : cJ4_canEncode.data.toList.drop 0 = dktJ4_canEncode_0 := by decide +kernel
theorem dJ4_canEncode_0 : decode cJ4_canEncode 0 = .ok (.iload_n 0, 1) := dk_26 (dk_at dksJ4_canEncode_0 0 rfl rfl)
theorem dJ4_canEncode_1 : decode cJ4_canEncode 1 = .ok (.ifCond .lt 14, 3) := dk_155 0 14 (dk_at dksJ4_canEncode_0 1 rfl rfl)
theorem dJ4_canEncode_4 : decode cJ4_canEncode 4 = .ok (.iload_n 0, 1) := dk_26 (dk_at dksJ4_canEncode_0 4 rfl rfl)
theorem dJ4_canEncode_5 : decode cJ4_canEncode 5 = .ok (.sipush 255, 3) := dk_17 0 255 (dk_at dksJ4_canEncode_0 5 rfl rfl)
theorem dJ4_canEncode_8 : decode cJ4_canEncode 8 = .ok (.if_icmp .gt 7, 3) := dk_163 0 7 (dk_at dksJ4_canEncode_0 8 rfl rfl)
theorem dJ4_canEncode_11 : decode cJ4_canEncode 11 = .ok (.iconst 1, 1) := dk_4 (dk_at dksJ4_canEncode_0 11 rfl rfl)
theorem dJ4_canEncode_12 : decode cJ4_canEncode 12 = .ok (.goto 4, 3) := dk_167 0 4 (dk_at dksJ4_canEncode_0 12 rfl rfl)
theorem dJ4_canEncode_15 : decode cJ4_canEncode 15 = .ok (.iconst 0, 1) := dk_3 (dk_at dksJ4_canEncode_0 15 rfl rfl)
theorem dJ4_canEncode_16 : decode cJ4_canEncode 16 = .ok (.ireturn, 1) := dk_172 (dk_at dksJ4_canEncode_0 16 rfl rfl)
def dkwJ4_indexOfChar_1 : List UInt8 := [172, 132, 5, 1, 167, 255, 235, 2, 172]
abbrev dktJ4_indexOfChar_1 : List UInt8 := dkwJ4_indexOfChar_1 ++ []
def dkwJ4_indexOfChar_0 : List UInt8 := [27, 145, 54, 4, 28, 54, 5, 21, 5, 29, 162, 0, 21, 42, 21, 5, 51, 21, 4, 160, 0, 6, 21, 5]
abbrev dktJ4_indexOfChar_0 : List UInt8 := dkwJ4_indexOfChar_0 ++ dktJ4_indexOfChar_1
theorem dksJ4_indexOfChar_0 : cJ4_indexOfChar.data.toList.drop 0 = dktJ4_indexOfChar_0 := by decide +kernel
theorem dksJ4_indexOfChar_1 : cJ4_indexOfChar.data.toList.drop 24 = dktJ4_indexOfChar_1 := dk_seg dksJ4_indexOfChar_0 24 rfl rfl
theorem dJ4_indexOfChar_0 : decode cJ4_indexOfChar 0 = .ok (.iload_n 1, 1) := dk_27 (dk_at dksJ4_indexOfChar_0 0 rfl rfl)
theorem dJ4_indexOfChar_1 : decode cJ4_indexOfChar 1 = .ok (.i2b, 1) := dk_145 (dk_at dksJ4_indexOfChar_0 1 rfl rfl)
theorem dJ4_indexOfChar_2 : decode cJ4_indexOfChar 2 = .ok (.istore 4, 2) := dk_54 4 (dk_at dksJ4_indexOfChar_0 2 rfl rfl)
theorem dJ4_indexOfChar_4 : decode cJ4_indexOfChar 4 = .ok (.iload_n 2, 1) := dk_28 (dk_at dksJ4_indexOfChar_0 4 rfl rfl)
theorem dJ4_indexOfChar_5 : decode cJ4_indexOfChar 5 = .ok (.istore 5, 2) := dk_54 5 (dk_at dksJ4_indexOfChar_0 5 rfl rfl)
theorem dJ4_indexOfChar_7 : decode cJ4_indexOfChar 7 = .ok (.iload 5, 2) := dk_21 5 (dk_at dksJ4_indexOfChar_0 7 rfl rfl)
theorem dJ4_indexOfChar_9 : decode cJ4_indexOfChar 9 = .ok (.iload_n 3, 1) := dk_29 (dk_at dksJ4_indexOfChar_0 9 rfl rfl)
theorem dJ4_indexOfChar_10 : decode cJ4_indexOfChar 10 = .ok (.if_icmp .ge 21, 3) := dk_162 0 21 (dk_at dksJ4_indexOfChar_0 10 rfl rfl)
theorem dJ4_indexOfChar_13 : decode cJ4_indexOfChar 13 = .ok (.aload_n 0, 1) := dk_42 (dk_at dksJ4_indexOfChar_0 13 rfl rfl)
theorem dJ4_indexOfChar_14 : decode cJ4_indexOfChar 14 = .ok (.iload 5, 2) := dk_21 5 (dk_at dksJ4_indexOfChar_0 14 rfl rfl)
theorem dJ4_indexOfChar_16 : decode cJ4_indexOfChar 16 = .ok (.baload, 1) := dk_51 (dk_at dksJ4_indexOfChar_0 16 rfl rfl)
theorem dJ4_indexOfChar_17 : decode cJ4_indexOfChar 17 = .ok (.iload 4, 2) := dk_21 4 (dk_at dksJ4_indexOfChar_0 17 rfl rfl)
theorem dJ4_indexOfChar_19 : decode cJ4_indexOfChar 19 = .ok (.if_icmp .ne 6, 3) := dk_160 0 6 (dk_at dksJ4_indexOfChar_0 19 rfl rfl)
theorem dJ4_indexOfChar_22 : decode cJ4_indexOfChar 22 = .ok (.iload 5, 2) := dk_21 5 (dk_at dksJ4_indexOfChar_0 22 rfl rfl)
theorem dJ4_indexOfChar_24 : decode cJ4_indexOfChar 24 = .ok (.ireturn, 1) := dk_172 (dk_at dksJ4_indexOfChar_1 0 rfl rfl)
theorem dJ4_indexOfChar_25 : decode cJ4_indexOfChar 25 = .ok (.iinc 5 1, 3) := dk_132 5 1 (dk_at dksJ4_indexOfChar_1 1 rfl rfl)
theorem dJ4_indexOfChar_28 : decode cJ4_indexOfChar 28 = .ok (.goto (-21), 3) := dk_167 255 235 (dk_at dksJ4_indexOfChar_1 4 rfl rfl)
theorem dJ4_indexOfChar_31 : decode cJ4_indexOfChar 31 = .ok (.iconst (-1), 1) := dk_2 (dk_at dksJ4_indexOfChar_1 7 rfl rfl)
theorem dJ4_indexOfChar_32 : decode cJ4_indexOfChar 32 = .ok (.ireturn, 1) := dk_172 (dk_at dksJ4_indexOfChar_1 8 rfl rfl)
def dkwJ5_checkIndex_0 : List UInt8 := [26, 155, 0, 8, 26, 27, 161, 0, 10, 44, 26, 27, 184, 0, 95, 191, 26, 172]
abbrev dktJ5_checkIndex_0 : List UInt8 := dkwJ5_checkIndex_0 ++ []
theorem dksJ5_checkIndex_0 : cJ5_checkIndex.data.toList.drop 0 = dktJ5_checkIndex_0 := by decide +kernel
theorem dJ5_checkIndex_0 : decode cJ5_checkIndex 0 = .ok (.iload_n 0, 1) := dk_26 (dk_at dksJ5_checkIndex_0 0 rfl rfl)
theorem dJ5_checkIndex_1 : decode cJ5_checkIndex 1 = .ok (.ifCond .lt 8, 3) := dk_155 0 8 (dk_at dksJ5_checkIndex_0 1 rfl rfl)
theorem dJ5_checkIndex_4 : decode cJ5_checkIndex 4 = .ok (.iload_n 0, 1) := dk_26 (dk_at dksJ5_checkIndex_0 4 rfl rfl)
theorem dJ5_checkIndex_5 : decode cJ5_checkIndex 5 = .ok (.iload_n 1, 1) := dk_27 (dk_at dksJ5_checkIndex_0 5 rfl rfl)
theorem dJ5_checkIndex_6 : decode cJ5_checkIndex 6 = .ok (.if_icmp .lt 10, 3) := dk_161 0 10 (dk_at dksJ5_checkIndex_0 6 rfl rfl)
theorem dJ5_checkIndex_9 : decode cJ5_checkIndex 9 = .ok (.aload_n 2, 1) := dk_44 (dk_at dksJ5_checkIndex_0 9 rfl rfl)
theorem dJ5_checkIndex_10 : decode cJ5_checkIndex 10 = .ok (.iload_n 0, 1) := dk_26 (dk_at dksJ5_checkIndex_0 10 rfl rfl)
theorem dJ5_checkIndex_11 : decode cJ5_checkIndex 11 = .ok (.iload_n 1, 1) := dk_27 (dk_at dksJ5_checkIndex_0 11 rfl rfl)
theorem dJ5_checkIndex_12 : decode cJ5_checkIndex 12 = .ok (.invokestatic 95, 3) := dk_184 0 95 (dk_at dksJ5_checkIndex_0 12 rfl rfl)
theorem dJ5_checkIndex_15 : decode cJ5_checkIndex 15 = .ok (.athrow, 1) := dk_191 (dk_at dksJ5_checkIndex_0 15 rfl rfl)
theorem dJ5_checkIndex_16 : decode cJ5_checkIndex 16 = .ok (.iload_n 0, 1) := dk_26 (dk_at dksJ5_checkIndex_0 16 rfl rfl)
theorem dJ5_checkIndex_17 : decode cJ5_checkIndex 17 = .ok (.ireturn, 1) := dk_172 (dk_at dksJ5_checkIndex_0 17 rfl rfl)
def dkwJ5_checkFromToIndex_0 : List UInt8 := [26, 155, 0, 13, 26, 27, 163, 0, 8, 27, 28, 164, 0, 11, 45, 26, 27, 28, 184, 0, 99, 191, 26, 172]
abbrev dktJ5_checkFromToIndex_0 : List UInt8 := dkwJ5_checkFromToIndex_0 ++ []
theorem dksJ5_checkFromToIndex_0 : cJ5_checkFromToIndex.data.toList.drop 0 = dktJ5_checkFromToIndex_0 := by decide +kernel
theorem dJ5_checkFromToIndex_0 : decode cJ5_checkFromToIndex 0 = .ok (.iload_n 0, 1) := dk_26 (dk_at dksJ5_checkFromToIndex_0 0 rfl rfl)
theorem dJ5_checkFromToIndex_1 : decode cJ5_checkFromToIndex 1 = .ok (.ifCond .lt 13, 3) := dk_155 0 13 (dk_at dksJ5_checkFromToIndex_0 1 rfl rfl)
theorem dJ5_checkFromToIndex_4 : decode cJ5_checkFromToIndex 4 = .ok (.iload_n 0, 1) := dk_26 (dk_at dksJ5_checkFromToIndex_0 4 rfl rfl)
theorem dJ5_checkFromToIndex_5 : decode cJ5_checkFromToIndex 5 = .ok (.iload_n 1, 1) := dk_27 (dk_at dksJ5_checkFromToIndex_0 5 rfl rfl)
theorem dJ5_checkFromToIndex_6 : decode cJ5_checkFromToIndex 6 = .ok (.if_icmp .gt 8, 3) := dk_163 0 8 (dk_at dksJ5_checkFromToIndex_0 6 rfl rfl)
theorem dJ5_checkFromToIndex_9 : decode cJ5_checkFromToIndex 9 = .ok (.iload_n 1, 1) := dk_27 (dk_at dksJ5_checkFromToIndex_0 9 rfl rfl)
theorem dJ5_checkFromToIndex_10 : decode cJ5_checkFromToIndex 10 = .ok (.iload_n 2, 1) := dk_28 (dk_at dksJ5_checkFromToIndex_0 10 rfl rfl)
theorem dJ5_checkFromToIndex_11 : decode cJ5_checkFromToIndex 11 = .ok (.if_icmp .le 11, 3) := dk_164 0 11 (dk_at dksJ5_checkFromToIndex_0 11 rfl rfl)
theorem dJ5_checkFromToIndex_14 : decode cJ5_checkFromToIndex 14 = .ok (.aload_n 3, 1) := dk_45 (dk_at dksJ5_checkFromToIndex_0 14 rfl rfl)
theorem dJ5_checkFromToIndex_15 : decode cJ5_checkFromToIndex 15 = .ok (.iload_n 0, 1) := dk_26 (dk_at dksJ5_checkFromToIndex_0 15 rfl rfl)
theorem dJ5_checkFromToIndex_16 : decode cJ5_checkFromToIndex 16 = .ok (.iload_n 1, 1) := dk_27 (dk_at dksJ5_checkFromToIndex_0 16 rfl rfl)
theorem dJ5_checkFromToIndex_17 : decode cJ5_checkFromToIndex 17 = .ok (.iload_n 2, 1) := dk_28 (dk_at dksJ5_checkFromToIndex_0 17 rfl rfl)
theorem dJ5_checkFromToIndex_18 : decode cJ5_checkFromToIndex 18 = .ok (.invokestatic 99, 3) := dk_184 0 99 (dk_at dksJ5_checkFromToIndex_0 18 rfl rfl)
theorem dJ5_checkFromToIndex_21 : decode cJ5_checkFromToIndex 21 = .ok (.athrow, 1) := dk_191 (dk_at dksJ5_checkFromToIndex_0 21 rfl rfl)
theorem dJ5_checkFromToIndex_22 : decode cJ5_checkFromToIndex 22 = .ok (.iload_n 0, 1) := dk_26 (dk_at dksJ5_checkFromToIndex_0 22 rfl rfl)
theorem dJ5_checkFromToIndex_23 : decode cJ5_checkFromToIndex 23 = .ok (.ireturn, 1) := dk_172 (dk_at dksJ5_checkFromToIndex_0 23 rfl rfl)
def dkwJ9_newLength_1 : List UInt8 := [184, 0, 201, 172]
abbrev dktJ9_newLength_1 : List UInt8 := dkwJ9_newLength_1 ++ []
def dkwJ9_newLength_0 : List UInt8 := [26, 27, 28, 184, 0, 194, 96, 62, 3, 29, 162, 0, 11, 29, 18, 200, 163, 0, 5, 29, 172, 26, 27]
abbrev dktJ9_newLength_0 : List UInt8 := dkwJ9_newLength_0 ++ dktJ9_newLength_1
theorem dksJ9_newLength_0 : cJ9_newLength.data.toList.drop 0 = dktJ9_newLength_0 := by decide +kernel
theorem dksJ9_newLength_1 : cJ9_newLength.data.toList.drop 23 = dktJ9_newLength_1 := dk_seg dksJ9_newLength_0 23 rfl rfl
theorem dJ9_newLength_0 : decode cJ9_newLength 0 = .ok (.iload_n 0, 1) := dk_26 (dk_at dksJ9_newLength_0 0 rfl rfl)
theorem dJ9_newLength_1 : decode cJ9_newLength 1 = .ok (.iload_n 1, 1) := dk_27 (dk_at dksJ9_newLength_0 1 rfl rfl)
theorem dJ9_newLength_2 : decode cJ9_newLength 2 = .ok (.iload_n 2, 1) := dk_28 (dk_at dksJ9_newLength_0 2 rfl rfl)
theorem dJ9_newLength_3 : decode cJ9_newLength 3 = .ok (.invokestatic 194, 3) := dk_184 0 194 (dk_at dksJ9_newLength_0 3 rfl rfl)
theorem dJ9_newLength_6 : decode cJ9_newLength 6 = .ok (.iadd, 1) := dk_96 (dk_at dksJ9_newLength_0 6 rfl rfl)
theorem dJ9_newLength_7 : decode cJ9_newLength 7 = .ok (.istore_n 3, 1) := dk_62 (dk_at dksJ9_newLength_0 7 rfl rfl)
theorem dJ9_newLength_8 : decode cJ9_newLength 8 = .ok (.iconst 0, 1) := dk_3 (dk_at dksJ9_newLength_0 8 rfl rfl)
theorem dJ9_newLength_9 : decode cJ9_newLength 9 = .ok (.iload_n 3, 1) := dk_29 (dk_at dksJ9_newLength_0 9 rfl rfl)
theorem dJ9_newLength_10 : decode cJ9_newLength 10 = .ok (.if_icmp .ge 11, 3) := dk_162 0 11 (dk_at dksJ9_newLength_0 10 rfl rfl)
theorem dJ9_newLength_13 : decode cJ9_newLength 13 = .ok (.iload_n 3, 1) := dk_29 (dk_at dksJ9_newLength_0 13 rfl rfl)
theorem dJ9_newLength_14 : decode cJ9_newLength 14 = .ok (.ldc 200, 2) := dk_18 200 (dk_at dksJ9_newLength_0 14 rfl rfl)
theorem dJ9_newLength_16 : decode cJ9_newLength 16 = .ok (.if_icmp .gt 5, 3) := dk_163 0 5 (dk_at dksJ9_newLength_0 16 rfl rfl)
theorem dJ9_newLength_19 : decode cJ9_newLength 19 = .ok (.iload_n 3, 1) := dk_29 (dk_at dksJ9_newLength_0 19 rfl rfl)
theorem dJ9_newLength_20 : decode cJ9_newLength 20 = .ok (.ireturn, 1) := dk_172 (dk_at dksJ9_newLength_0 20 rfl rfl)
theorem dJ9_newLength_21 : decode cJ9_newLength 21 = .ok (.iload_n 0, 1) := dk_26 (dk_at dksJ9_newLength_0 21 rfl rfl)
theorem dJ9_newLength_22 : decode cJ9_newLength 22 = .ok (.iload_n 1, 1) := dk_27 (dk_at dksJ9_newLength_0 22 rfl rfl)
theorem dJ9_newLength_23 : decode cJ9_newLength 23 = .ok (.invokestatic 201, 3) := dk_184 0 201 (dk_at dksJ9_newLength_1 0 rfl rfl)
theorem dJ9_newLength_26 : decode cJ9_newLength 26 = .ok (.ireturn, 1) := dk_172 (dk_at dksJ9_newLength_1 3 rfl rfl)
def dkwJ9_hugeLength_2 : List UInt8 := [191, 28, 18, 200, 163, 0, 6, 18, 200, 172, 28, 172]
abbrev dktJ9_hugeLength_2 : List UInt8 := dkwJ9_hugeLength_2 ++ []
def dkwJ9_hugeLength_1 : List UInt8 := [26, 182, 0, 98, 18, 208, 182, 0, 94, 27, 182, 0, 98, 18, 210, 182, 0, 94, 182, 0, 101, 183, 0, 212]
abbrev dktJ9_hugeLength_1 : List UInt8 := dkwJ9_hugeLength_1 ++ dktJ9_hugeLength_2
def dkwJ9_hugeLength_0 : List UInt8 := [26, 27, 96, 61, 28, 156, 0, 44, 187, 0, 204, 89, 187, 0, 89, 89, 183, 0, 91, 18, 206, 182, 0, 94]
abbrev dktJ9_hugeLength_0 : List UInt8 := dkwJ9_hugeLength_0 ++ dktJ9_hugeLength_1
theorem dksJ9_hugeLength_0 : cJ9_hugeLength.data.toList.drop 0 = dktJ9_hugeLength_0 := by decide +kernel
theorem dksJ9_hugeLength_1 : cJ9_hugeLength.data.toList.drop 24 = dktJ9_hugeLength_1 := dk_seg dksJ9_hugeLength_0 24 rfl rfl
theorem dksJ9_hugeLength_2 : cJ9_hugeLength.data.toList.drop 48 = dktJ9_hugeLength_2 := dk_seg dksJ9_hugeLength_1 24 rfl rfl
theorem dJ9_hugeLength_0 : decode cJ9_hugeLength 0 = .ok (.iload_n 0, 1) := dk_26 (dk_at dksJ9_hugeLength_0 0 rfl rfl)
theorem dJ9_hugeLength_1 : decode cJ9_hugeLength 1 = .ok (.iload_n 1, 1) := dk_27 (dk_at dksJ9_hugeLength_0 1 rfl rfl)
theorem dJ9_hugeLength_2 : decode cJ9_hugeLength 2 = .ok (.iadd, 1) := dk_96 (dk_at dksJ9_hugeLength_0 2 rfl rfl)
theorem dJ9_hugeLength_3 : decode cJ9_hugeLength 3 = .ok (.istore_n 2, 1) := dk_61 (dk_at dksJ9_hugeLength_0 3 rfl rfl)
theorem dJ9_hugeLength_4 : decode cJ9_hugeLength 4 = .ok (.iload_n 2, 1) := dk_28 (dk_at dksJ9_hugeLength_0 4 rfl rfl)
theorem dJ9_hugeLength_5 : decode cJ9_hugeLength 5 = .ok (.ifCond .ge 44, 3) := dk_156 0 44 (dk_at dksJ9_hugeLength_0 5 rfl rfl)
theorem dJ9_hugeLength_8 : decode cJ9_hugeLength 8 = .ok (.new 204, 3) := dk_187 0 204 (dk_at dksJ9_hugeLength_0 8 rfl rfl)
theorem dJ9_hugeLength_11 : decode cJ9_hugeLength 11 = .ok (.dup, 1) := dk_89 (dk_at dksJ9_hugeLength_0 11 rfl rfl)
theorem dJ9_hugeLength_12 : decode cJ9_hugeLength 12 = .ok (.new 89, 3) := dk_187 0 89 (dk_at dksJ9_hugeLength_0 12 rfl rfl)
theorem dJ9_hugeLength_15 : decode cJ9_hugeLength 15 = .ok (.dup, 1) := dk_89 (dk_at dksJ9_hugeLength_0 15 rfl rfl)
theorem dJ9_hugeLength_16 : decode cJ9_hugeLength 16 = .ok (.invokespecial 91, 3) := dk_183 0 91 (dk_at dksJ9_hugeLength_0 16 rfl rfl)
theorem dJ9_hugeLength_19 : decode cJ9_hugeLength 19 = .ok (.ldc 206, 2) := dk_18 206 (dk_at dksJ9_hugeLength_0 19 rfl rfl)
theorem dJ9_hugeLength_21 : decode cJ9_hugeLength 21 = .ok (.invokevirtual 94, 3) := dk_182 0 94 (dk_at dksJ9_hugeLength_0 21 rfl rfl)
theorem dJ9_hugeLength_24 : decode cJ9_hugeLength 24 = .ok (.iload_n 0, 1) := dk_26 (dk_at dksJ9_hugeLength_1 0 rfl rfl)
theorem dJ9_hugeLength_25 : decode cJ9_hugeLength 25 = .ok (.invokevirtual 98, 3) := dk_182 0 98 (dk_at dksJ9_hugeLength_1 1 rfl rfl)
theorem dJ9_hugeLength_28 : decode cJ9_hugeLength 28 = .ok (.ldc 208, 2) := dk_18 208 (dk_at dksJ9_hugeLength_1 4 rfl rfl)
theorem dJ9_hugeLength_30 : decode cJ9_hugeLength 30 = .ok (.invokevirtual 94, 3) := dk_182 0 94 (dk_at dksJ9_hugeLength_1 6 rfl rfl)
theorem dJ9_hugeLength_33 : decode cJ9_hugeLength 33 = .ok (.iload_n 1, 1) := dk_27 (dk_at dksJ9_hugeLength_1 9 rfl rfl)
theorem dJ9_hugeLength_34 : decode cJ9_hugeLength 34 = .ok (.invokevirtual 98, 3) := dk_182 0 98 (dk_at dksJ9_hugeLength_1 10 rfl rfl)
theorem dJ9_hugeLength_37 : decode cJ9_hugeLength 37 = .ok (.ldc 210, 2) := dk_18 210 (dk_at dksJ9_hugeLength_1 13 rfl rfl)
theorem dJ9_hugeLength_39 : decode cJ9_hugeLength 39 = .ok (.invokevirtual 94, 3) := dk_182 0 94 (dk_at dksJ9_hugeLength_1 15 rfl rfl)
theorem dJ9_hugeLength_42 : decode cJ9_hugeLength 42 = .ok (.invokevirtual 101, 3) := dk_182 0 101 (dk_at dksJ9_hugeLength_1 18 rfl rfl)
theorem dJ9_hugeLength_45 : decode cJ9_hugeLength 45 = .ok (.invokespecial 212, 3) := dk_183 0 212 (dk_at dksJ9_hugeLength_1 21 rfl rfl)
theorem dJ9_hugeLength_48 : decode cJ9_hugeLength 48 = .ok (.athrow, 1) := dk_191 (dk_at dksJ9_hugeLength_2 0 rfl rfl)
theorem dJ9_hugeLength_49 : decode cJ9_hugeLength 49 = .ok (.iload_n 2, 1) := dk_28 (dk_at dksJ9_hugeLength_2 1 rfl rfl)
theorem dJ9_hugeLength_50 : decode cJ9_hugeLength 50 = .ok (.ldc 200, 2) := dk_18 200 (dk_at dksJ9_hugeLength_2 2 rfl rfl)
theorem dJ9_hugeLength_52 : decode cJ9_hugeLength 52 = .ok (.if_icmp .gt 6, 3) := dk_163 0 6 (dk_at dksJ9_hugeLength_2 4 rfl rfl)
theorem dJ9_hugeLength_55 : decode cJ9_hugeLength 55 = .ok (.ldc 200, 2) := dk_18 200 (dk_at dksJ9_hugeLength_2 7 rfl rfl)
theorem dJ9_hugeLength_57 : decode cJ9_hugeLength 57 = .ok (.ireturn, 1) := dk_172 (dk_at dksJ9_hugeLength_2 9 rfl rfl)
theorem dJ9_hugeLength_58 : decode cJ9_hugeLength 58 = .ok (.iload_n 2, 1) := dk_28 (dk_at dksJ9_hugeLength_2 10 rfl rfl)
theorem dJ9_hugeLength_59 : decode cJ9_hugeLength 59 = .ok (.ireturn, 1) := dk_172 (dk_at dksJ9_hugeLength_2 11 rfl rfl)
def dkwJ10_max_0 : List UInt8 := [26, 27, 161, 0, 7, 26, 167, 0, 4, 27, 172]
abbrev dktJ10_max_0 : List UInt8 := dkwJ10_max_0 ++ []
theorem dksJ10_max_0 : cJ10_max.data.toList.drop 0 = dktJ10_max_0 := by decide +kernel
theorem dJ10_max_0 : decode cJ10_max 0 = .ok (.iload_n 0, 1) := dk_26 (dk_at dksJ10_max_0 0 rfl rfl)
theorem dJ10_max_1 : decode cJ10_max 1 = .ok (.iload_n 1, 1) := dk_27 (dk_at dksJ10_max_0 1 rfl rfl)
theorem dJ10_max_2 : decode cJ10_max 2 = .ok (.if_icmp .lt 7, 3) := dk_161 0 7 (dk_at dksJ10_max_0 2 rfl rfl)
theorem dJ10_max_5 : decode cJ10_max 5 = .ok (.iload_n 0, 1) := dk_26 (dk_at dksJ10_max_0 5 rfl rfl)
theorem dJ10_max_6 : decode cJ10_max 6 = .ok (.goto 4, 3) := dk_167 0 4 (dk_at dksJ10_max_0 6 rfl rfl)
theorem dJ10_max_9 : decode cJ10_max 9 = .ok (.iload_n 1, 1) := dk_27 (dk_at dksJ10_max_0 9 rfl rfl)
theorem dJ10_max_10 : decode cJ10_max 10 = .ok (.ireturn, 1) := dk_172 (dk_at dksJ10_max_0 10 rfl rfl)
def dkwJ10_min_0 : List UInt8 := [26, 27, 163, 0, 7, 26, 167, 0, 4, 27, 172]
abbrev dktJ10_min_0 : List UInt8 := dkwJ10_min_0 ++ []
theorem dksJ10_min_0 : cJ10_min.data.toList.drop 0 = dktJ10_min_0 := by decide +kernel
theorem dJ10_min_0 : decode cJ10_min 0 = .ok (.iload_n 0, 1) := dk_26 (dk_at dksJ10_min_0 0 rfl rfl)
theorem dJ10_min_1 : decode cJ10_min 1 = .ok (.iload_n 1, 1) := dk_27 (dk_at dksJ10_min_0 1 rfl rfl)
theorem dJ10_min_2 : decode cJ10_min 2 = .ok (.if_icmp .gt 7, 3) := dk_163 0 7 (dk_at dksJ10_min_0 2 rfl rfl)
theorem dJ10_min_5 : decode cJ10_min 5 = .ok (.iload_n 0, 1) := dk_26 (dk_at dksJ10_min_0 5 rfl rfl)
theorem dJ10_min_6 : decode cJ10_min 6 = .ok (.goto 4, 3) := dk_167 0 4 (dk_at dksJ10_min_0 6 rfl rfl)
theorem dJ10_min_9 : decode cJ10_min 9 = .ok (.iload_n 1, 1) := dk_27 (dk_at dksJ10_min_0 9 rfl rfl)
theorem dJ10_min_10 : decode cJ10_min 10 = .ok (.ireturn, 1) := dk_172 (dk_at dksJ10_min_0 10 rfl rfl)
def dkwJ11_copyOf_0 : List UInt8 := [42, 27, 42, 182, 0, 86, 184, 1, 44, 176]
abbrev dktJ11_copyOf_0 : List UInt8 := dkwJ11_copyOf_0 ++ []
theorem dksJ11_copyOf_0 : cJ11_copyOf.data.toList.drop 0 = dktJ11_copyOf_0 := by decide +kernel
theorem dJ11_copyOf_0 : decode cJ11_copyOf 0 = .ok (.aload_n 0, 1) := dk_42 (dk_at dksJ11_copyOf_0 0 rfl rfl)
theorem dJ11_copyOf_1 : decode cJ11_copyOf 1 = .ok (.iload_n 1, 1) := dk_27 (dk_at dksJ11_copyOf_0 1 rfl rfl)
theorem dJ11_copyOf_2 : decode cJ11_copyOf 2 = .ok (.aload_n 0, 1) := dk_42 (dk_at dksJ11_copyOf_0 2 rfl rfl)
theorem dJ11_copyOf_3 : decode cJ11_copyOf 3 = .ok (.invokevirtual 86, 3) := dk_182 0 86 (dk_at dksJ11_copyOf_0 3 rfl rfl)
theorem dJ11_copyOf_6 : decode cJ11_copyOf 6 = .ok (.invokestatic 300, 3) := dk_184 1 44 (dk_at dksJ11_copyOf_0 6 rfl rfl)
theorem dJ11_copyOf_9 : decode cJ11_copyOf 9 = .ok (.areturn, 1) := dk_176 (dk_at dksJ11_copyOf_0 9 rfl rfl)
def dkwJ11_copyOf_2_1 : List UInt8 := [78, 42, 3, 45, 3, 42, 190, 27, 184, 1, 48, 184, 0, 150, 45, 176]
abbrev dktJ11_copyOf_2_1 : List UInt8 := dkwJ11_copyOf_2_1 ++ []
def dkwJ11_copyOf_2_0 : List UInt8 := [44, 18, 110, 166, 0, 10, 27, 189, 0, 2, 167, 0, 14, 44, 182, 0, 90, 27, 184, 0, 95, 192, 0, 110]
abbrev dktJ11_copyOf_2_0 : List UInt8 := dkwJ11_copyOf_2_0 ++ dktJ11_copyOf_2_1
theorem dksJ11_copyOf_2_0 : cJ11_copyOf_2.data.toList.drop 0 = dktJ11_copyOf_2_0 := by decide +kernel
theorem dksJ11_copyOf_2_1 : cJ11_copyOf_2.data.toList.drop 24 = dktJ11_copyOf_2_1 := dk_seg dksJ11_copyOf_2_0 24 rfl rfl
theorem dJ11_copyOf_2_0 : decode cJ11_copyOf_2 0 = .ok (.aload_n 2, 1) := dk_44 (dk_at dksJ11_copyOf_2_0 0 rfl rfl)
theorem dJ11_copyOf_2_1 : decode cJ11_copyOf_2 1 = .ok (.ldc 110, 2) := dk_18 110 (dk_at dksJ11_copyOf_2_0 1 rfl rfl)
theorem dJ11_copyOf_2_3 : decode cJ11_copyOf_2 3 = .ok (.if_acmp .ne 10, 3) := dk_166 0 10 (dk_at dksJ11_copyOf_2_0 3 rfl rfl)
theorem dJ11_copyOf_2_6 : decode cJ11_copyOf_2 6 = .ok (.iload_n 1, 1) := dk_27 (dk_at dksJ11_copyOf_2_0 6 rfl rfl)
theorem dJ11_copyOf_2_7 : decode cJ11_copyOf_2 7 = .ok (.anewarray 2, 3) := dk_189 0 2 (dk_at dksJ11_copyOf_2_0 7 rfl rfl)
theorem dJ11_copyOf_2_10 : decode cJ11_copyOf_2 10 = .ok (.goto 14, 3) := dk_167 0 14 (dk_at dksJ11_copyOf_2_0 10 rfl rfl)
theorem dJ11_copyOf_2_13 : decode cJ11_copyOf_2 13 = .ok (.aload_n 2, 1) := dk_44 (dk_at dksJ11_copyOf_2_0 13 rfl rfl)
theorem dJ11_copyOf_2_14 : decode cJ11_copyOf_2 14 = .ok (.invokevirtual 90, 3) := dk_182 0 90 (dk_at dksJ11_copyOf_2_0 14 rfl rfl)
theorem dJ11_copyOf_2_17 : decode cJ11_copyOf_2 17 = .ok (.iload_n 1, 1) := dk_27 (dk_at dksJ11_copyOf_2_0 17 rfl rfl)
theorem dJ11_copyOf_2_18 : decode cJ11_copyOf_2 18 = .ok (.invokestatic 95, 3) := dk_184 0 95 (dk_at dksJ11_copyOf_2_0 18 rfl rfl)
theorem dJ11_copyOf_2_21 : decode cJ11_copyOf_2 21 = .ok (.checkcast 110, 3) := dk_192 0 110 (dk_at dksJ11_copyOf_2_0 21 rfl rfl)
theorem dJ11_copyOf_2_24 : decode cJ11_copyOf_2 24 = .ok (.astore_n 3, 1) := dk_78 (dk_at dksJ11_copyOf_2_1 0 rfl rfl)
theorem dJ11_copyOf_2_25 : decode cJ11_copyOf_2 25 = .ok (.aload_n 0, 1) := dk_42 (dk_at dksJ11_copyOf_2_1 1 rfl rfl)
theorem dJ11_copyOf_2_26 : decode cJ11_copyOf_2 26 = .ok (.iconst 0, 1) := dk_3 (dk_at dksJ11_copyOf_2_1 2 rfl rfl)
theorem dJ11_copyOf_2_27 : decode cJ11_copyOf_2 27 = .ok (.aload_n 3, 1) := dk_45 (dk_at dksJ11_copyOf_2_1 3 rfl rfl)
theorem dJ11_copyOf_2_28 : decode cJ11_copyOf_2 28 = .ok (.iconst 0, 1) := dk_3 (dk_at dksJ11_copyOf_2_1 4 rfl rfl)
theorem dJ11_copyOf_2_29 : decode cJ11_copyOf_2 29 = .ok (.aload_n 0, 1) := dk_42 (dk_at dksJ11_copyOf_2_1 5 rfl rfl)
theorem dJ11_copyOf_2_30 : decode cJ11_copyOf_2 30 = .ok (.arraylength, 1) := dk_190 (dk_at dksJ11_copyOf_2_1 6 rfl rfl)
theorem dJ11_copyOf_2_31 : decode cJ11_copyOf_2 31 = .ok (.iload_n 1, 1) := dk_27 (dk_at dksJ11_copyOf_2_1 7 rfl rfl)
theorem dJ11_copyOf_2_32 : decode cJ11_copyOf_2 32 = .ok (.invokestatic 304, 3) := dk_184 1 48 (dk_at dksJ11_copyOf_2_1 8 rfl rfl)
theorem dJ11_copyOf_2_35 : decode cJ11_copyOf_2 35 = .ok (.invokestatic 150, 3) := dk_184 0 150 (dk_at dksJ11_copyOf_2_1 11 rfl rfl)
theorem dJ11_copyOf_2_38 : decode cJ11_copyOf_2 38 = .ok (.aload_n 3, 1) := dk_45 (dk_at dksJ11_copyOf_2_1 14 rfl rfl)
theorem dJ11_copyOf_2_39 : decode cJ11_copyOf_2 39 = .ok (.areturn, 1) := dk_176 (dk_at dksJ11_copyOf_2_1 15 rfl rfl)
def dkwJ13_checkIndex_0 : List UInt8 := [26, 27, 1, 184, 0, 105, 172]
abbrev dktJ13_checkIndex_0 : List UInt8 := dkwJ13_checkIndex_0 ++ []
theorem dksJ13_checkIndex_0 : cJ13_checkIndex.data.toList.drop 0 = dktJ13_checkIndex_0 := by decide +kernel
theorem dJ13_checkIndex_0 : decode cJ13_checkIndex 0 = .ok (.iload_n 0, 1) := dk_26 (dk_at dksJ13_checkIndex_0 0 rfl rfl)
theorem dJ13_checkIndex_1 : decode cJ13_checkIndex 1 = .ok (.iload_n 1, 1) := dk_27 (dk_at dksJ13_checkIndex_0 1 rfl rfl)
theorem dJ13_checkIndex_2 : decode cJ13_checkIndex 2 = .ok (.aconst_null, 1) := dk_1 (dk_at dksJ13_checkIndex_0 2 rfl rfl)
theorem dJ13_checkIndex_3 : decode cJ13_checkIndex 3 = .ok (.invokestatic 105, 3) := dk_184 0 105 (dk_at dksJ13_checkIndex_0 3 rfl rfl)
theorem dJ13_checkIndex_6 : decode cJ13_checkIndex 6 = .ok (.ireturn, 1) := dk_172 (dk_at dksJ13_checkIndex_0 6 rfl rfl)
theorem dJ14_init_0 : decode cJ14_init 0 = .ok (.aload_n 0, 1) := by decide +kernel
theorem dJ14_init_1 : decode cJ14_init 1 = .ok (.invokespecial 1, 3) := by decide +kernel
theorem dJ14_init_4 : decode cJ14_init 4 = .ok (.return_, 1) := by decide +kernel
theorem dJ15_init_0 : decode cJ15_init 0 = .ok (.aload_n 0, 1) := by decide +kernel
theorem dJ15_init_1 : decode cJ15_init 1 = .ok (.invokespecial 1, 3) := by decide +kernel
theorem dJ15_init_4 : decode cJ15_init 4 = .ok (.return_, 1) := by decide +kernel
def dkwJ16_bitCount_2 : List UInt8 := [26, 16, 63, 126, 172]
abbrev dktJ16_bitCount_2 : List UInt8 := dkwJ16_bitCount_2 ++ []
def dkwJ16_bitCount_1 : List UInt8 := [26, 26, 7, 124, 96, 19, 1, 11, 126, 59, 26, 26, 16, 8, 124, 96, 59, 26, 26, 16, 16, 124, 96, 59]
abbrev dktJ16_bitCount_1 : List UInt8 := dkwJ16_bitCount_1 ++ dktJ16_bitCount_2
def dkwJ16_bitCount_0 : List UInt8 := [26, 26, 4, 124, 19, 1, 9, 126, 100, 59, 26, 19, 1, 10, 126, 26, 5, 124, 19, 1, 10, 126, 96, 59]
abbrev dktJ16_bitCount_0 : List UInt8 := dkwJ16_bitCount_0 ++ dktJ16_bitCount_1
theorem dksJ16_bitCount_0 : cJ16_bitCount.data.toList.drop 0 = dktJ16_bitCount_0 := by decide +kernel
theorem dksJ16_bitCount_1 : cJ16_bitCount.data.toList.drop 24 = dktJ16_bitCount_1 := dk_seg dksJ16_bitCount_0 24 rfl rfl
theorem dksJ16_bitCount_2 : cJ16_bitCount.data.toList.drop 48 = dktJ16_bitCount_2 := dk_seg dksJ16_bitCount_1 24 rfl rfl
theorem dJ16_bitCount_0 : decode cJ16_bitCount 0 = .ok (.iload_n 0, 1) := dk_26 (dk_at dksJ16_bitCount_0 0 rfl rfl)
theorem dJ16_bitCount_1 : decode cJ16_bitCount 1 = .ok (.iload_n 0, 1) := dk_26 (dk_at dksJ16_bitCount_0 1 rfl rfl)
theorem dJ16_bitCount_2 : decode cJ16_bitCount 2 = .ok (.iconst 1, 1) := dk_4 (dk_at dksJ16_bitCount_0 2 rfl rfl)
theorem dJ16_bitCount_3 : decode cJ16_bitCount 3 = .ok (.iushr, 1) := dk_124 (dk_at dksJ16_bitCount_0 3 rfl rfl)
theorem dJ16_bitCount_4 : decode cJ16_bitCount 4 = .ok (.ldc_w 265, 3) := dk_19 1 9 (dk_at dksJ16_bitCount_0 4 rfl rfl)
theorem dJ16_bitCount_7 : decode cJ16_bitCount 7 = .ok (.iand, 1) := dk_126 (dk_at dksJ16_bitCount_0 7 rfl rfl)
theorem dJ16_bitCount_8 : decode cJ16_bitCount 8 = .ok (.isub, 1) := dk_100 (dk_at dksJ16_bitCount_0 8 rfl rfl)
theorem dJ16_bitCount_9 : decode cJ16_bitCount 9 = .ok (.istore_n 0, 1) := dk_59 (dk_at dksJ16_bitCount_0 9 rfl rfl)
theorem dJ16_bitCount_10 : decode cJ16_bitCount 10 = .ok (.iload_n 0, 1) := dk_26 (dk_at dksJ16_bitCount_0 10 rfl rfl)
theorem dJ16_bitCount_11 : decode cJ16_bitCount 11 = .ok (.ldc_w 266, 3) := dk_19 1 10 (dk_at dksJ16_bitCount_0 11 rfl rfl)
theorem dJ16_bitCount_14 : decode cJ16_bitCount 14 = .ok (.iand, 1) := dk_126 (dk_at dksJ16_bitCount_0 14 rfl rfl)
theorem dJ16_bitCount_15 : decode cJ16_bitCount 15 = .ok (.iload_n 0, 1) := dk_26 (dk_at dksJ16_bitCount_0 15 rfl rfl)
theorem dJ16_bitCount_16 : decode cJ16_bitCount 16 = .ok (.iconst 2, 1) := dk_5 (dk_at dksJ16_bitCount_0 16 rfl rfl)
theorem dJ16_bitCount_17 : decode cJ16_bitCount 17 = .ok (.iushr, 1) := dk_124 (dk_at dksJ16_bitCount_0 17 rfl rfl)
theorem dJ16_bitCount_18 : decode cJ16_bitCount 18 = .ok (.ldc_w 266, 3) := dk_19 1 10 (dk_at dksJ16_bitCount_0 18 rfl rfl)
theorem dJ16_bitCount_21 : decode cJ16_bitCount 21 = .ok (.iand, 1) := dk_126 (dk_at dksJ16_bitCount_0 21 rfl rfl)
theorem dJ16_bitCount_22 : decode cJ16_bitCount 22 = .ok (.iadd, 1) := dk_96 (dk_at dksJ16_bitCount_0 22 rfl rfl)
theorem dJ16_bitCount_23 : decode cJ16_bitCount 23 = .ok (.istore_n 0, 1) := dk_59 (dk_at dksJ16_bitCount_0 23 rfl rfl)
theorem dJ16_bitCount_24 : decode cJ16_bitCount 24 = .ok (.iload_n 0, 1) := dk_26 (dk_at dksJ16_bitCount_1 0 rfl rfl)
theorem dJ16_bitCount_25 : decode cJ16_bitCount 25 = .ok (.iload_n 0, 1) := dk_26 (dk_at dksJ16_bitCount_1 1 rfl rfl)
theorem dJ16_bitCount_26 : decode cJ16_bitCount 26 = .ok (.iconst 4, 1) := dk_7 (dk_at dksJ16_bitCount_1 2 rfl rfl)
theorem dJ16_bitCount_27 : decode cJ16_bitCount 27 = .ok (.iushr, 1) := dk_124 (dk_at dksJ16_bitCount_1 3 rfl rfl)
theorem dJ16_bitCount_28 : decode cJ16_bitCount 28 = .ok (.iadd, 1) := dk_96 (dk_at dksJ16_bitCount_1 4 rfl rfl)
theorem dJ16_bitCount_29 : decode cJ16_bitCount 29 = .ok (.ldc_w 267, 3) := dk_19 1 11 (dk_at dksJ16_bitCount_1 5 rfl rfl)
theorem dJ16_bitCount_32 : decode cJ16_bitCount 32 = .ok (.iand, 1) := dk_126 (dk_at dksJ16_bitCount_1 8 rfl rfl)
theorem dJ16_bitCount_33 : decode cJ16_bitCount 33 = .ok (.istore_n 0, 1) := dk_59 (dk_at dksJ16_bitCount_1 9 rfl rfl)
theorem dJ16_bitCount_34 : decode cJ16_bitCount 34 = .ok (.iload_n 0, 1) := dk_26 (dk_at dksJ16_bitCount_1 10 rfl rfl)
theorem dJ16_bitCount_35 : decode cJ16_bitCount 35 = .ok (.iload_n 0, 1) := dk_26 (dk_at dksJ16_bitCount_1 11 rfl rfl)
theorem dJ16_bitCount_36 : decode cJ16_bitCount 36 = .ok (.bipush 8, 2) := dk_16 8 (dk_at dksJ16_bitCount_1 12 rfl rfl)
theorem dJ16_bitCount_38 : decode cJ16_bitCount 38 = .ok (.iushr, 1) := dk_124 (dk_at dksJ16_bitCount_1 14 rfl rfl)
theorem dJ16_bitCount_39 : decode cJ16_bitCount 39 = .ok (.iadd, 1) := dk_96 (dk_at dksJ16_bitCount_1 15 rfl rfl)
theorem dJ16_bitCount_40 : decode cJ16_bitCount 40 = .ok (.istore_n 0, 1) := dk_59 (dk_at dksJ16_bitCount_1 16 rfl rfl)
theorem dJ16_bitCount_41 : decode cJ16_bitCount 41 = .ok (.iload_n 0, 1) := dk_26 (dk_at dksJ16_bitCount_1 17 rfl rfl)
theorem dJ16_bitCount_42 : decode cJ16_bitCount 42 = .ok (.iload_n 0, 1) := dk_26 (dk_at dksJ16_bitCount_1 18 rfl rfl)
theorem dJ16_bitCount_43 : decode cJ16_bitCount 43 = .ok (.bipush 16, 2) := dk_16 16 (dk_at dksJ16_bitCount_1 19 rfl rfl)
theorem dJ16_bitCount_45 : decode cJ16_bitCount 45 = .ok (.iushr, 1) := dk_124 (dk_at dksJ16_bitCount_1 21 rfl rfl)
theorem dJ16_bitCount_46 : decode cJ16_bitCount 46 = .ok (.iadd, 1) := dk_96 (dk_at dksJ16_bitCount_1 22 rfl rfl)
theorem dJ16_bitCount_47 : decode cJ16_bitCount 47 = .ok (.istore_n 0, 1) := dk_59 (dk_at dksJ16_bitCount_1 23 rfl rfl)
theorem dJ16_bitCount_48 : decode cJ16_bitCount 48 = .ok (.iload_n 0, 1) := dk_26 (dk_at dksJ16_bitCount_2 0 rfl rfl)
theorem dJ16_bitCount_49 : decode cJ16_bitCount 49 = .ok (.bipush 63, 2) := dk_16 63 (dk_at dksJ16_bitCount_2 1 rfl rfl)
theorem dJ16_bitCount_51 : decode cJ16_bitCount 51 = .ok (.iand, 1) := dk_126 (dk_at dksJ16_bitCount_2 3 rfl rfl)
theorem dJ16_bitCount_52 : decode cJ16_bitCount 52 = .ok (.ireturn, 1) := dk_172 (dk_at dksJ16_bitCount_2 4 rfl rfl)
theorem dJ0_init_0 : decode cJ0_init 0 = .ok (.aload_n 0, 1) := by decide +kernel
theorem dJ0_init_1 : decode cJ0_init 1 = .ok (.invokespecial 1, 3) := by decide +kernel
theorem dJ0_init_4 : decode cJ0_init 4 = .ok (.return_, 1) := by decide +kernel
def dkwJ1_init_0 : List UInt8 := [42, 183, 0, 1, 42, 3, 181, 0, 7, 177]
abbrev dktJ1_init_0 : List UInt8 := dkwJ1_init_0 ++ []
theorem dksJ1_init_0 : cJ1_init.data.toList.drop 0 = dktJ1_init_0 := by decide +kernel
theorem dJ1_init_0 : decode cJ1_init 0 = .ok (.aload_n 0, 1) := dk_42 (dk_at dksJ1_init_0 0 rfl rfl)
theorem dJ1_init_1 : decode cJ1_init 1 = .ok (.invokespecial 1, 3) := dk_183 0 1 (dk_at dksJ1_init_0 1 rfl rfl)
theorem dJ1_init_4 : decode cJ1_init 4 = .ok (.aload_n 0, 1) := dk_42 (dk_at dksJ1_init_0 4 rfl rfl)
theorem dJ1_init_5 : decode cJ1_init 5 = .ok (.iconst 0, 1) := dk_3 (dk_at dksJ1_init_0 5 rfl rfl)
theorem dJ1_init_6 : decode cJ1_init 6 = .ok (.putfield 7, 3) := dk_181 0 7 (dk_at dksJ1_init_0 6 rfl rfl)
theorem dJ1_init_9 : decode cJ1_init 9 = .ok (.return_, 1) := dk_177 (dk_at dksJ1_init_0 9 rfl rfl)
def dkwJ7_init_1 : List UInt8 := [182, 0, 27, 87, 177]
abbrev dktJ7_init_1 : List UInt8 := dkwJ7_init_1 ++ []
def dkwJ7_init_0 : List UInt8 := [42, 183, 0, 1, 42, 42, 181, 0, 7, 42, 178, 0, 13, 181, 0, 17, 42, 178, 0, 20, 181, 0, 24, 42]
abbrev dktJ7_init_0 : List UInt8 := dkwJ7_init_0 ++ dktJ7_init_1
theorem dksJ7_init_0 : cJ7_init.data.toList.drop 0 = dktJ7_init_0 := by decide +kernel
theorem dksJ7_init_1 : cJ7_init.data.toList.drop 24 = dktJ7_init_1 := dk_seg dksJ7_init_0 24 rfl rfl
theorem dJ7_init_0 : decode cJ7_init 0 = .ok (.aload_n 0, 1) := dk_42 (dk_at dksJ7_init_0 0 rfl rfl)
theorem dJ7_init_1 : decode cJ7_init 1 = .ok (.invokespecial 1, 3) := dk_183 0 1 (dk_at dksJ7_init_0 1 rfl rfl)
theorem dJ7_init_4 : decode cJ7_init 4 = .ok (.aload_n 0, 1) := dk_42 (dk_at dksJ7_init_0 4 rfl rfl)
theorem dJ7_init_5 : decode cJ7_init 5 = .ok (.aload_n 0, 1) := dk_42 (dk_at dksJ7_init_0 5 rfl rfl)
theorem dJ7_init_6 : decode cJ7_init 6 = .ok (.putfield 7, 3) := dk_181 0 7 (dk_at dksJ7_init_0 6 rfl rfl)
theorem dJ7_init_9 : decode cJ7_init 9 = .ok (.aload_n 0, 1) := dk_42 (dk_at dksJ7_init_0 9 rfl rfl)
theorem dJ7_init_10 : decode cJ7_init 10 = .ok (.getstatic 13, 3) := dk_178 0 13 (dk_at dksJ7_init_0 10 rfl rfl)
theorem dJ7_init_13 : decode cJ7_init 13 = .ok (.putfield 17, 3) := dk_181 0 17 (dk_at dksJ7_init_0 13 rfl rfl)
theorem dJ7_init_16 : decode cJ7_init 16 = .ok (.aload_n 0, 1) := dk_42 (dk_at dksJ7_init_0 16 rfl rfl)
theorem dJ7_init_17 : decode cJ7_init 17 = .ok (.getstatic 20, 3) := dk_178 0 20 (dk_at dksJ7_init_0 17 rfl rfl)
theorem dJ7_init_20 : decode cJ7_init 20 = .ok (.putfield 24, 3) := dk_181 0 24 (dk_at dksJ7_init_0 20 rfl rfl)
theorem dJ7_init_23 : decode cJ7_init 23 = .ok (.aload_n 0, 1) := dk_42 (dk_at dksJ7_init_0 23 rfl rfl)
theorem dJ7_init_24 : decode cJ7_init 24 = .ok (.invokevirtual 27, 3) := dk_182 0 27 (dk_at dksJ7_init_1 0 rfl rfl)
theorem dJ7_init_27 : decode cJ7_init 27 = .ok (.pop, 1) := dk_87 (dk_at dksJ7_init_1 3 rfl rfl)
theorem dJ7_init_28 : decode cJ7_init 28 = .ok (.return_, 1) := dk_177 (dk_at dksJ7_init_1 4 rfl rfl)
def dkwJ7_init_2_2 : List UInt8 := [44, 181, 0, 7, 29, 154, 0, 8, 42, 1, 181, 0, 24, 177]
abbrev dktJ7_init_2_2 : List UInt8 := dkwJ7_init_2_2 ++ []
def dkwJ7_init_2_1 : List UInt8 := [21, 4, 153, 0, 11, 42, 182, 0, 27, 87, 167, 0, 8, 42, 1, 181, 0, 17, 42, 43, 181, 0, 31, 42]
abbrev dktJ7_init_2_1 : List UInt8 := dkwJ7_init_2_1 ++ dktJ7_init_2_2
def dkwJ7_init_2_0 : List UInt8 := [42, 183, 0, 1, 42, 42, 181, 0, 7, 42, 178, 0, 13, 181, 0, 17, 42, 178, 0, 20, 181, 0, 24]
abbrev dktJ7_init_2_0 : List UInt8 := dkwJ7_init_2_0 ++ dktJ7_init_2_1
theorem dksJ7_init_2_0 : cJ7_init_2.data.toList.drop 0 = dktJ7_init_2_0 := by decide +kernel
theorem dksJ7_init_2_1 : cJ7_init_2.data.toList.drop 23 = dktJ7_init_2_1 := dk_seg dksJ7_init_2_0 23 rfl rfl
theorem dksJ7_init_2_2 : cJ7_init_2.data.toList.drop 47 = dktJ7_init_2_2 := dk_seg dksJ7_init_2_1 24 rfl rfl
theorem dJ7_init_2_0 : decode cJ7_init_2 0 = .ok (.aload_n 0, 1) := dk_42 (dk_at dksJ7_init_2_0 0 rfl rfl)
theorem dJ7_init_2_1 : decode cJ7_init_2 1 = .ok (.invokespecial 1, 3) := dk_183 0 1 (dk_at dksJ7_init_2_0 1 rfl rfl)
theorem dJ7_init_2_4 : decode cJ7_init_2 4 = .ok (.aload_n 0, 1) := dk_42 (dk_at dksJ7_init_2_0 4 rfl rfl)
theorem dJ7_init_2_5 : decode cJ7_init_2 5 = .ok (.aload_n 0, 1) := dk_42 (dk_at dksJ7_init_2_0 5 rfl rfl)
theorem dJ7_init_2_6 : decode cJ7_init_2 6 = .ok (.putfield 7, 3) := dk_181 0 7 (dk_at dksJ7_init_2_0 6 rfl rfl)
theorem dJ7_init_2_9 : decode cJ7_init_2 9 = .ok (.aload_n 0, 1) := dk_42 (dk_at dksJ7_init_2_0 9 rfl rfl)
theorem dJ7_init_2_10 : decode cJ7_init_2 10 = .ok (.getstatic 13, 3) := dk_178 0 13 (dk_at dksJ7_init_2_0 10 rfl rfl)
theorem dJ7_init_2_13 : decode cJ7_init_2 13 = .ok (.putfield 17, 3) := dk_181 0 17 (dk_at dksJ7_init_2_0 13 rfl rfl)
theorem dJ7_init_2_16 : decode cJ7_init_2 16 = .ok (.aload_n 0, 1) := dk_42 (dk_at dksJ7_init_2_0 16 rfl rfl)
theorem dJ7_init_2_17 : decode cJ7_init_2 17 = .ok (.getstatic 20, 3) := dk_178 0 20 (dk_at dksJ7_init_2_0 17 rfl rfl)
theorem dJ7_init_2_20 : decode cJ7_init_2 20 = .ok (.putfield 24, 3) := dk_181 0 24 (dk_at dksJ7_init_2_0 20 rfl rfl)
theorem dJ7_init_2_23 : decode cJ7_init_2 23 = .ok (.iload 4, 2) := dk_21 4 (dk_at dksJ7_init_2_1 0 rfl rfl)
theorem dJ7_init_2_25 : decode cJ7_init_2 25 = .ok (.ifCond .eq 11, 3) := dk_153 0 11 (dk_at dksJ7_init_2_1 2 rfl rfl)
theorem dJ7_init_2_28 : decode cJ7_init_2 28 = .ok (.aload_n 0, 1) := dk_42 (dk_at dksJ7_init_2_1 5 rfl rfl)
theorem dJ7_init_2_29 : decode cJ7_init_2 29 = .ok (.invokevirtual 27, 3) := dk_182 0 27 (dk_at dksJ7_init_2_1 6 rfl rfl)
theorem dJ7_init_2_32 : decode cJ7_init_2 32 = .ok (.pop, 1) := dk_87 (dk_at dksJ7_init_2_1 9 rfl rfl)
theorem dJ7_init_2_33 : decode cJ7_init_2 33 = .ok (.goto 8, 3) := dk_167 0 8 (dk_at dksJ7_init_2_1 10 rfl rfl)
theorem dJ7_init_2_36 : decode cJ7_init_2 36 = .ok (.aload_n 0, 1) := dk_42 (dk_at dksJ7_init_2_1 13 rfl rfl)
theorem dJ7_init_2_37 : decode cJ7_init_2 37 = .ok (.aconst_null, 1) := dk_1 (dk_at dksJ7_init_2_1 14 rfl rfl)
theorem dJ7_init_2_38 : decode cJ7_init_2 38 = .ok (.putfield 17, 3) := dk_181 0 17 (dk_at dksJ7_init_2_1 15 rfl rfl)
theorem dJ7_init_2_41 : decode cJ7_init_2 41 = .ok (.aload_n 0, 1) := dk_42 (dk_at dksJ7_init_2_1 18 rfl rfl)
theorem dJ7_init_2_42 : decode cJ7_init_2 42 = .ok (.aload_n 1, 1) := dk_43 (dk_at dksJ7_init_2_1 19 rfl rfl)
theorem dJ7_init_2_43 : decode cJ7_init_2 43 = .ok (.putfield 31, 3) := dk_181 0 31 (dk_at dksJ7_init_2_1 20 rfl rfl)
theorem dJ7_init_2_46 : decode cJ7_init_2 46 = .ok (.aload_n 0, 1) := dk_42 (dk_at dksJ7_init_2_1 23 rfl rfl)
theorem dJ7_init_2_47 : decode cJ7_init_2 47 = .ok (.aload_n 2, 1) := dk_44 (dk_at dksJ7_init_2_2 0 rfl rfl)
theorem dJ7_init_2_48 : decode cJ7_init_2 48 = .ok (.putfield 7, 3) := dk_181 0 7 (dk_at dksJ7_init_2_2 1 rfl rfl)
theorem dJ7_init_2_51 : decode cJ7_init_2 51 = .ok (.iload_n 3, 1) := dk_29 (dk_at dksJ7_init_2_2 4 rfl rfl)
theorem dJ7_init_2_52 : decode cJ7_init_2 52 = .ok (.ifCond .ne 8, 3) := dk_154 0 8 (dk_at dksJ7_init_2_2 5 rfl rfl)
theorem dJ7_init_2_55 : decode cJ7_init_2 55 = .ok (.aload_n 0, 1) := dk_42 (dk_at dksJ7_init_2_2 8 rfl rfl)
theorem dJ7_init_2_56 : decode cJ7_init_2 56 = .ok (.aconst_null, 1) := dk_1 (dk_at dksJ7_init_2_2 9 rfl rfl)
theorem dJ7_init_2_57 : decode cJ7_init_2 57 = .ok (.putfield 24, 3) := dk_181 0 24 (dk_at dksJ7_init_2_2 10 rfl rfl)
theorem dJ7_init_2_60 : decode cJ7_init_2 60 = .ok (.return_, 1) := dk_177 (dk_at dksJ7_init_2_2 13 rfl rfl)
def dkwJ8_init_0 : List UInt8 := [42, 43, 44, 29, 21, 4, 183, 0, 16, 177]
abbrev dktJ8_init_0 : List UInt8 := dkwJ8_init_0 ++ []
theorem dksJ8_init_0 : cJ8_init.data.toList.drop 0 = dktJ8_init_0 := by decide +kernel
theorem dJ8_init_0 : decode cJ8_init 0 = .ok (.aload_n 0, 1) := dk_42 (dk_at dksJ8_init_0 0 rfl rfl)
theorem dJ8_init_1 : decode cJ8_init 1 = .ok (.aload_n 1, 1) := dk_43 (dk_at dksJ8_init_0 1 rfl rfl)
theorem dJ8_init_2 : decode cJ8_init 2 = .ok (.aload_n 2, 1) := dk_44 (dk_at dksJ8_init_0 2 rfl rfl)
theorem dJ8_init_3 : decode cJ8_init 3 = .ok (.iload_n 3, 1) := dk_29 (dk_at dksJ8_init_0 3 rfl rfl)
theorem dJ8_init_4 : decode cJ8_init 4 = .ok (.iload 4, 2) := dk_21 4 (dk_at dksJ8_init_0 4 rfl rfl)
theorem dJ8_init_6 : decode cJ8_init 6 = .ok (.invokespecial 16, 3) := dk_183 0 16 (dk_at dksJ8_init_0 6 rfl rfl)
theorem dJ8_init_9 : decode cJ8_init 9 = .ok (.return_, 1) := dk_177 (dk_at dksJ8_init_0 9 rfl rfl)
theorem dJ8_init_2_0 : decode cJ8_init_2 0 = .ok (.aload_n 0, 1) := by decide +kernel
theorem dJ8_init_2_1 : decode cJ8_init_2 1 = .ok (.invokespecial 1, 3) := by decide +kernel
theorem dJ8_init_2_4 : decode cJ8_init_2 4 = .ok (.return_, 1) := by decide +kernel
