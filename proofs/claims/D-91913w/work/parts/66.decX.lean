set_option maxRecDepth 100000
def dkwX2_init_0 : List UInt8 := [42, 183, 0, 1, 42, 187, 0, 7, 89, 5, 183, 0, 9, 181, 0, 12, 42, 27, 181, 0, 18, 177]
abbrev dktX2_init_0 : List UInt8 := dkwX2_init_0 ++ []
theorem dksX2_init_0 : cX2_init.data.toList.drop 0 = dktX2_init_0 := by decide +kernel
theorem dX2_init_0 : decode cX2_init 0 = .ok (.aload_n 0, 1) := dk_42 (dk_at dksX2_init_0 0 rfl rfl)
theorem dX2_init_1 : decode cX2_init 1 = .ok (.invokespecial 1, 3) := dk_183 0 1 (dk_at dksX2_init_0 1 rfl rfl)
theorem dX2_init_4 : decode cX2_init 4 = .ok (.aload_n 0, 1) := dk_42 (dk_at dksX2_init_0 4 rfl rfl)
theorem dX2_init_5 : decode cX2_init 5 = .ok (.new 7, 3) := dk_187 0 7 (dk_at dksX2_init_0 5 rfl rfl)
theorem dX2_init_8 : decode cX2_init 8 = .ok (.dup, 1) := dk_89 (dk_at dksX2_init_0 8 rfl rfl)
theorem dX2_init_9 : decode cX2_init 9 = .ok (.iconst 2, 1) := dk_5 (dk_at dksX2_init_0 9 rfl rfl)
theorem dX2_init_10 : decode cX2_init 10 = .ok (.invokespecial 9, 3) := dk_183 0 9 (dk_at dksX2_init_0 10 rfl rfl)
theorem dX2_init_13 : decode cX2_init 13 = .ok (.putfield 12, 3) := dk_181 0 12 (dk_at dksX2_init_0 13 rfl rfl)
theorem dX2_init_16 : decode cX2_init 16 = .ok (.aload_n 0, 1) := dk_42 (dk_at dksX2_init_0 16 rfl rfl)
theorem dX2_init_17 : decode cX2_init 17 = .ok (.iload_n 1, 1) := dk_27 (dk_at dksX2_init_0 17 rfl rfl)
theorem dX2_init_18 : decode cX2_init 18 = .ok (.putfield 18, 3) := dk_181 0 18 (dk_at dksX2_init_0 18 rfl rfl)
theorem dX2_init_21 : decode cX2_init 21 = .ok (.return_, 1) := dk_177 (dk_at dksX2_init_0 21 rfl rfl)
def dkwX2_written_1 : List UInt8 := [192, 0, 30, 27, 28, 182, 0, 32, 61, 132, 3, 1, 167, 255, 225, 28, 172]
abbrev dktX2_written_1 : List UInt8 := dkwX2_written_1 ++ []
def dkwX2_written_0 : List UInt8 := [27, 61, 3, 62, 29, 42, 180, 0, 12, 182, 0, 22, 162, 0, 26, 42, 180, 0, 12, 29, 182, 0, 26]
abbrev dktX2_written_0 : List UInt8 := dkwX2_written_0 ++ dktX2_written_1
theorem dksX2_written_0 : cX2_written.data.toList.drop 0 = dktX2_written_0 := by decide +kernel
theorem dksX2_written_1 : cX2_written.data.toList.drop 23 = dktX2_written_1 := dk_seg dksX2_written_0 23 rfl rfl
theorem dX2_written_0 : decode cX2_written 0 = .ok (.iload_n 1, 1) := dk_27 (dk_at dksX2_written_0 0 rfl rfl)
theorem dX2_written_1 : decode cX2_written 1 = .ok (.istore_n 2, 1) := dk_61 (dk_at dksX2_written_0 1 rfl rfl)
theorem dX2_written_2 : decode cX2_written 2 = .ok (.iconst 0, 1) := dk_3 (dk_at dksX2_written_0 2 rfl rfl)
theorem dX2_written_3 : decode cX2_written 3 = .ok (.istore_n 3, 1) := dk_62 (dk_at dksX2_written_0 3 rfl rfl)
theorem dX2_written_4 : decode cX2_written 4 = .ok (.iload_n 3, 1) := dk_29 (dk_at dksX2_written_0 4 rfl rfl)
theorem dX2_written_5 : decode cX2_written 5 = .ok (.aload_n 0, 1) := dk_42 (dk_at dksX2_written_0 5 rfl rfl)
theorem dX2_written_6 : decode cX2_written 6 = .ok (.getfield 12, 3) := dk_180 0 12 (dk_at dksX2_written_0 6 rfl rfl)
theorem dX2_written_9 : decode cX2_written 9 = .ok (.invokevirtual 22, 3) := dk_182 0 22 (dk_at dksX2_written_0 9 rfl rfl)
theorem dX2_written_12 : decode cX2_written 12 = .ok (.if_icmp .ge 26, 3) := dk_162 0 26 (dk_at dksX2_written_0 12 rfl rfl)
theorem dX2_written_15 : decode cX2_written 15 = .ok (.aload_n 0, 1) := dk_42 (dk_at dksX2_written_0 15 rfl rfl)
theorem dX2_written_16 : decode cX2_written 16 = .ok (.getfield 12, 3) := dk_180 0 12 (dk_at dksX2_written_0 16 rfl rfl)
theorem dX2_written_19 : decode cX2_written 19 = .ok (.iload_n 3, 1) := dk_29 (dk_at dksX2_written_0 19 rfl rfl)
theorem dX2_written_20 : decode cX2_written 20 = .ok (.invokevirtual 26, 3) := dk_182 0 26 (dk_at dksX2_written_0 20 rfl rfl)
theorem dX2_written_23 : decode cX2_written 23 = .ok (.checkcast 30, 3) := dk_192 0 30 (dk_at dksX2_written_1 0 rfl rfl)
theorem dX2_written_26 : decode cX2_written 26 = .ok (.iload_n 1, 1) := dk_27 (dk_at dksX2_written_1 3 rfl rfl)
theorem dX2_written_27 : decode cX2_written 27 = .ok (.iload_n 2, 1) := dk_28 (dk_at dksX2_written_1 4 rfl rfl)
theorem dX2_written_28 : decode cX2_written 28 = .ok (.invokevirtual 32, 3) := dk_182 0 32 (dk_at dksX2_written_1 5 rfl rfl)
theorem dX2_written_31 : decode cX2_written 31 = .ok (.istore_n 2, 1) := dk_61 (dk_at dksX2_written_1 8 rfl rfl)
theorem dX2_written_32 : decode cX2_written 32 = .ok (.iinc 3 1, 3) := dk_132 3 1 (dk_at dksX2_written_1 9 rfl rfl)
theorem dX2_written_35 : decode cX2_written 35 = .ok (.goto (-31), 3) := dk_167 255 225 (dk_at dksX2_written_1 12 rfl rfl)
theorem dX2_written_38 : decode cX2_written 38 = .ok (.iload_n 2, 1) := dk_28 (dk_at dksX2_written_1 15 rfl rfl)
theorem dX2_written_39 : decode cX2_written 39 = .ok (.ireturn, 1) := dk_172 (dk_at dksX2_written_1 16 rfl rfl)
def dkwX2_drops_2 : List UInt8 := [167, 255, 214, 28, 172]
abbrev dktX2_drops_2 : List UInt8 := dkwX2_drops_2 ++ []
def dkwX2_drops_1 : List UInt8 := [182, 0, 26, 192, 0, 30, 27, 182, 0, 36, 153, 0, 7, 4, 167, 0, 4, 3, 61, 132, 3, 1]
abbrev dktX2_drops_1 : List UInt8 := dkwX2_drops_1 ++ dktX2_drops_2
def dkwX2_drops_0 : List UInt8 := [3, 61, 3, 62, 29, 42, 180, 0, 12, 182, 0, 22, 162, 0, 37, 28, 154, 0, 21, 42, 180, 0, 12, 29]
abbrev dktX2_drops_0 : List UInt8 := dkwX2_drops_0 ++ dktX2_drops_1
theorem dksX2_drops_0 : cX2_drops.data.toList.drop 0 = dktX2_drops_0 := by decide +kernel
theorem dksX2_drops_1 : cX2_drops.data.toList.drop 24 = dktX2_drops_1 := dk_seg dksX2_drops_0 24 rfl rfl
theorem dksX2_drops_2 : cX2_drops.data.toList.drop 46 = dktX2_drops_2 := dk_seg dksX2_drops_1 22 rfl rfl
theorem dX2_drops_0 : decode cX2_drops 0 = .ok (.iconst 0, 1) := dk_3 (dk_at dksX2_drops_0 0 rfl rfl)
theorem dX2_drops_1 : decode cX2_drops 1 = .ok (.istore_n 2, 1) := dk_61 (dk_at dksX2_drops_0 1 rfl rfl)
theorem dX2_drops_2 : decode cX2_drops 2 = .ok (.iconst 0, 1) := dk_3 (dk_at dksX2_drops_0 2 rfl rfl)
theorem dX2_drops_3 : decode cX2_drops 3 = .ok (.istore_n 3, 1) := dk_62 (dk_at dksX2_drops_0 3 rfl rfl)
theorem dX2_drops_4 : decode cX2_drops 4 = .ok (.iload_n 3, 1) := dk_29 (dk_at dksX2_drops_0 4 rfl rfl)
theorem dX2_drops_5 : decode cX2_drops 5 = .ok (.aload_n 0, 1) := dk_42 (dk_at dksX2_drops_0 5 rfl rfl)
theorem dX2_drops_6 : decode cX2_drops 6 = .ok (.getfield 12, 3) := dk_180 0 12 (dk_at dksX2_drops_0 6 rfl rfl)
theorem dX2_drops_9 : decode cX2_drops 9 = .ok (.invokevirtual 22, 3) := dk_182 0 22 (dk_at dksX2_drops_0 9 rfl rfl)
theorem dX2_drops_12 : decode cX2_drops 12 = .ok (.if_icmp .ge 37, 3) := dk_162 0 37 (dk_at dksX2_drops_0 12 rfl rfl)
theorem dX2_drops_15 : decode cX2_drops 15 = .ok (.iload_n 2, 1) := dk_28 (dk_at dksX2_drops_0 15 rfl rfl)
theorem dX2_drops_16 : decode cX2_drops 16 = .ok (.ifCond .ne 21, 3) := dk_154 0 21 (dk_at dksX2_drops_0 16 rfl rfl)
theorem dX2_drops_19 : decode cX2_drops 19 = .ok (.aload_n 0, 1) := dk_42 (dk_at dksX2_drops_0 19 rfl rfl)
theorem dX2_drops_20 : decode cX2_drops 20 = .ok (.getfield 12, 3) := dk_180 0 12 (dk_at dksX2_drops_0 20 rfl rfl)
theorem dX2_drops_23 : decode cX2_drops 23 = .ok (.iload_n 3, 1) := dk_29 (dk_at dksX2_drops_0 23 rfl rfl)
theorem dX2_drops_24 : decode cX2_drops 24 = .ok (.invokevirtual 26, 3) := dk_182 0 26 (dk_at dksX2_drops_1 0 rfl rfl)
theorem dX2_drops_27 : decode cX2_drops 27 = .ok (.checkcast 30, 3) := dk_192 0 30 (dk_at dksX2_drops_1 3 rfl rfl)
theorem dX2_drops_30 : decode cX2_drops 30 = .ok (.iload_n 1, 1) := dk_27 (dk_at dksX2_drops_1 6 rfl rfl)
theorem dX2_drops_31 : decode cX2_drops 31 = .ok (.invokevirtual 36, 3) := dk_182 0 36 (dk_at dksX2_drops_1 7 rfl rfl)
theorem dX2_drops_34 : decode cX2_drops 34 = .ok (.ifCond .eq 7, 3) := dk_153 0 7 (dk_at dksX2_drops_1 10 rfl rfl)
theorem dX2_drops_37 : decode cX2_drops 37 = .ok (.iconst 1, 1) := dk_4 (dk_at dksX2_drops_1 13 rfl rfl)
theorem dX2_drops_38 : decode cX2_drops 38 = .ok (.goto 4, 3) := dk_167 0 4 (dk_at dksX2_drops_1 14 rfl rfl)
theorem dX2_drops_41 : decode cX2_drops 41 = .ok (.iconst 0, 1) := dk_3 (dk_at dksX2_drops_1 17 rfl rfl)
theorem dX2_drops_42 : decode cX2_drops 42 = .ok (.istore_n 2, 1) := dk_61 (dk_at dksX2_drops_1 18 rfl rfl)
theorem dX2_drops_43 : decode cX2_drops 43 = .ok (.iinc 3 1, 3) := dk_132 3 1 (dk_at dksX2_drops_1 19 rfl rfl)
theorem dX2_drops_46 : decode cX2_drops 46 = .ok (.goto (-42), 3) := dk_167 255 214 (dk_at dksX2_drops_2 0 rfl rfl)
theorem dX2_drops_49 : decode cX2_drops 49 = .ok (.iload_n 2, 1) := dk_28 (dk_at dksX2_drops_2 3 rfl rfl)
theorem dX2_drops_50 : decode cX2_drops 50 = .ok (.ireturn, 1) := dk_172 (dk_at dksX2_drops_2 4 rfl rfl)
def dkwX4_init_0 : List UInt8 := [42, 43, 181, 0, 3, 42, 183, 0, 9, 42, 16, 8, 188, 10, 181, 0, 15, 177]
abbrev dktX4_init_0 : List UInt8 := dkwX4_init_0 ++ []
theorem dksX4_init_0 : cX4_init.data.toList.drop 0 = dktX4_init_0 := by decide +kernel
theorem dX4_init_0 : decode cX4_init 0 = .ok (.aload_n 0, 1) := dk_42 (dk_at dksX4_init_0 0 rfl rfl)
theorem dX4_init_1 : decode cX4_init 1 = .ok (.aload_n 1, 1) := dk_43 (dk_at dksX4_init_0 1 rfl rfl)
theorem dX4_init_2 : decode cX4_init 2 = .ok (.putfield 3, 3) := dk_181 0 3 (dk_at dksX4_init_0 2 rfl rfl)
theorem dX4_init_5 : decode cX4_init 5 = .ok (.aload_n 0, 1) := dk_42 (dk_at dksX4_init_0 5 rfl rfl)
theorem dX4_init_6 : decode cX4_init 6 = .ok (.invokespecial 9, 3) := dk_183 0 9 (dk_at dksX4_init_0 6 rfl rfl)
theorem dX4_init_9 : decode cX4_init 9 = .ok (.aload_n 0, 1) := dk_42 (dk_at dksX4_init_0 9 rfl rfl)
theorem dX4_init_10 : decode cX4_init 10 = .ok (.bipush 8, 2) := dk_16 8 (dk_at dksX4_init_0 10 rfl rfl)
theorem dX4_init_12 : decode cX4_init 12 = .ok (.newarray .int, 2) := dk_188_10 (dk_at dksX4_init_0 12 rfl rfl)
theorem dX4_init_14 : decode cX4_init 14 = .ok (.putfield 15, 3) := dk_181 0 15 (dk_at dksX4_init_0 14 rfl rfl)
theorem dX4_init_17 : decode cX4_init 17 = .ok (.return_, 1) := dk_177 (dk_at dksX4_init_0 17 rfl rfl)
def dkwX4_be_1 : List UInt8 := [181, 0, 37, 42, 29, 181, 0, 40, 177]
abbrev dktX4_be_1 : List UInt8 := dkwX4_be_1 ++ []
def dkwX4_be_0 : List UInt8 := [42, 43, 42, 180, 0, 3, 180, 0, 19, 180, 0, 23, 42, 180, 0, 15, 184, 0, 29, 181, 0, 33, 42, 28]
abbrev dktX4_be_0 : List UInt8 := dkwX4_be_0 ++ dktX4_be_1
theorem dksX4_be_0 : cX4_be.data.toList.drop 0 = dktX4_be_0 := by decide +kernel
theorem dksX4_be_1 : cX4_be.data.toList.drop 24 = dktX4_be_1 := dk_seg dksX4_be_0 24 rfl rfl
theorem dX4_be_0 : decode cX4_be 0 = .ok (.aload_n 0, 1) := dk_42 (dk_at dksX4_be_0 0 rfl rfl)
theorem dX4_be_1 : decode cX4_be 1 = .ok (.aload_n 1, 1) := dk_43 (dk_at dksX4_be_0 1 rfl rfl)
theorem dX4_be_2 : decode cX4_be 2 = .ok (.aload_n 0, 1) := dk_42 (dk_at dksX4_be_0 2 rfl rfl)
theorem dX4_be_3 : decode cX4_be 3 = .ok (.getfield 3, 3) := dk_180 0 3 (dk_at dksX4_be_0 3 rfl rfl)
theorem dX4_be_6 : decode cX4_be 6 = .ok (.getfield 19, 3) := dk_180 0 19 (dk_at dksX4_be_0 6 rfl rfl)
theorem dX4_be_9 : decode cX4_be 9 = .ok (.getfield 23, 3) := dk_180 0 23 (dk_at dksX4_be_0 9 rfl rfl)
theorem dX4_be_12 : decode cX4_be 12 = .ok (.aload_n 0, 1) := dk_42 (dk_at dksX4_be_0 12 rfl rfl)
theorem dX4_be_13 : decode cX4_be 13 = .ok (.getfield 15, 3) := dk_180 0 15 (dk_at dksX4_be_0 13 rfl rfl)
theorem dX4_be_16 : decode cX4_be 16 = .ok (.invokestatic 29, 3) := dk_184 0 29 (dk_at dksX4_be_0 16 rfl rfl)
theorem dX4_be_19 : decode cX4_be 19 = .ok (.putfield 33, 3) := dk_181 0 33 (dk_at dksX4_be_0 19 rfl rfl)
theorem dX4_be_22 : decode cX4_be 22 = .ok (.aload_n 0, 1) := dk_42 (dk_at dksX4_be_0 22 rfl rfl)
theorem dX4_be_23 : decode cX4_be 23 = .ok (.iload_n 2, 1) := dk_28 (dk_at dksX4_be_0 23 rfl rfl)
theorem dX4_be_24 : decode cX4_be 24 = .ok (.putfield 37, 3) := dk_181 0 37 (dk_at dksX4_be_1 0 rfl rfl)
theorem dX4_be_27 : decode cX4_be 27 = .ok (.aload_n 0, 1) := dk_42 (dk_at dksX4_be_1 3 rfl rfl)
theorem dX4_be_28 : decode cX4_be 28 = .ok (.iload_n 3, 1) := dk_29 (dk_at dksX4_be_1 4 rfl rfl)
theorem dX4_be_29 : decode cX4_be 29 = .ok (.putfield 40, 3) := dk_181 0 40 (dk_at dksX4_be_1 5 rfl rfl)
theorem dX4_be_32 : decode cX4_be 32 = .ok (.return_, 1) := dk_177 (dk_at dksX4_be_1 8 rfl rfl)
def dkwX6_init_0 : List UInt8 := [42, 183, 0, 3, 42, 18, 9, 181, 0, 10, 42, 27, 181, 0, 16, 177]
abbrev dktX6_init_0 : List UInt8 := dkwX6_init_0 ++ []
theorem dksX6_init_0 : cX6_init.data.toList.drop 0 = dktX6_init_0 := by decide +kernel
theorem dX6_init_0 : decode cX6_init 0 = .ok (.aload_n 0, 1) := dk_42 (dk_at dksX6_init_0 0 rfl rfl)
theorem dX6_init_1 : decode cX6_init 1 = .ok (.invokespecial 3, 3) := dk_183 0 3 (dk_at dksX6_init_0 1 rfl rfl)
theorem dX6_init_4 : decode cX6_init 4 = .ok (.aload_n 0, 1) := dk_42 (dk_at dksX6_init_0 4 rfl rfl)
theorem dX6_init_5 : decode cX6_init 5 = .ok (.ldc 9, 2) := dk_18 9 (dk_at dksX6_init_0 5 rfl rfl)
theorem dX6_init_7 : decode cX6_init 7 = .ok (.putfield 10, 3) := dk_181 0 10 (dk_at dksX6_init_0 7 rfl rfl)
theorem dX6_init_10 : decode cX6_init 10 = .ok (.aload_n 0, 1) := dk_42 (dk_at dksX6_init_0 10 rfl rfl)
theorem dX6_init_11 : decode cX6_init 11 = .ok (.iload_n 1, 1) := dk_27 (dk_at dksX6_init_0 11 rfl rfl)
theorem dX6_init_12 : decode cX6_init 12 = .ok (.putfield 16, 3) := dk_181 0 16 (dk_at dksX6_init_0 12 rfl rfl)
theorem dX6_init_15 : decode cX6_init 15 = .ok (.return_, 1) := dk_177 (dk_at dksX6_init_0 15 rfl rfl)
def dkwX6_goes_0 : List UInt8 := [42, 180, 0, 10, 18, 19, 163, 0, 5, 3, 172, 42, 27, 181, 0, 10, 4, 172]
abbrev dktX6_goes_0 : List UInt8 := dkwX6_goes_0 ++ []
theorem dksX6_goes_0 : cX6_goes.data.toList.drop 0 = dktX6_goes_0 := by decide +kernel
theorem dX6_goes_0 : decode cX6_goes 0 = .ok (.aload_n 0, 1) := dk_42 (dk_at dksX6_goes_0 0 rfl rfl)
theorem dX6_goes_1 : decode cX6_goes 1 = .ok (.getfield 10, 3) := dk_180 0 10 (dk_at dksX6_goes_0 1 rfl rfl)
theorem dX6_goes_4 : decode cX6_goes 4 = .ok (.ldc 19, 2) := dk_18 19 (dk_at dksX6_goes_0 4 rfl rfl)
theorem dX6_goes_6 : decode cX6_goes 6 = .ok (.if_icmp .gt 5, 3) := dk_163 0 5 (dk_at dksX6_goes_0 6 rfl rfl)
theorem dX6_goes_9 : decode cX6_goes 9 = .ok (.iconst 0, 1) := dk_3 (dk_at dksX6_goes_0 9 rfl rfl)
theorem dX6_goes_10 : decode cX6_goes 10 = .ok (.ireturn, 1) := dk_172 (dk_at dksX6_goes_0 10 rfl rfl)
theorem dX6_goes_11 : decode cX6_goes 11 = .ok (.aload_n 0, 1) := dk_42 (dk_at dksX6_goes_0 11 rfl rfl)
theorem dX6_goes_12 : decode cX6_goes 12 = .ok (.iload_n 1, 1) := dk_27 (dk_at dksX6_goes_0 12 rfl rfl)
theorem dX6_goes_13 : decode cX6_goes 13 = .ok (.putfield 10, 3) := dk_181 0 10 (dk_at dksX6_goes_0 13 rfl rfl)
theorem dX6_goes_16 : decode cX6_goes 16 = .ok (.iconst 1, 1) := dk_4 (dk_at dksX6_goes_0 16 rfl rfl)
theorem dX6_goes_17 : decode cX6_goes 17 = .ok (.ireturn, 1) := dk_172 (dk_at dksX6_goes_0 17 rfl rfl)
def dkwX6_counts_0 : List UInt8 := [42, 180, 0, 16, 27, 163, 0, 15, 42, 180, 0, 10, 27, 164, 0, 7, 4, 167, 0, 4, 3, 172]
abbrev dktX6_counts_0 : List UInt8 := dkwX6_counts_0 ++ []
theorem dksX6_counts_0 : cX6_counts.data.toList.drop 0 = dktX6_counts_0 := by decide +kernel
theorem dX6_counts_0 : decode cX6_counts 0 = .ok (.aload_n 0, 1) := dk_42 (dk_at dksX6_counts_0 0 rfl rfl)
theorem dX6_counts_1 : decode cX6_counts 1 = .ok (.getfield 16, 3) := dk_180 0 16 (dk_at dksX6_counts_0 1 rfl rfl)
theorem dX6_counts_4 : decode cX6_counts 4 = .ok (.iload_n 1, 1) := dk_27 (dk_at dksX6_counts_0 4 rfl rfl)
theorem dX6_counts_5 : decode cX6_counts 5 = .ok (.if_icmp .gt 15, 3) := dk_163 0 15 (dk_at dksX6_counts_0 5 rfl rfl)
theorem dX6_counts_8 : decode cX6_counts 8 = .ok (.aload_n 0, 1) := dk_42 (dk_at dksX6_counts_0 8 rfl rfl)
theorem dX6_counts_9 : decode cX6_counts 9 = .ok (.getfield 10, 3) := dk_180 0 10 (dk_at dksX6_counts_0 9 rfl rfl)
theorem dX6_counts_12 : decode cX6_counts 12 = .ok (.iload_n 1, 1) := dk_27 (dk_at dksX6_counts_0 12 rfl rfl)
theorem dX6_counts_13 : decode cX6_counts 13 = .ok (.if_icmp .le 7, 3) := dk_164 0 7 (dk_at dksX6_counts_0 13 rfl rfl)
theorem dX6_counts_16 : decode cX6_counts 16 = .ok (.iconst 1, 1) := dk_4 (dk_at dksX6_counts_0 16 rfl rfl)
theorem dX6_counts_17 : decode cX6_counts 17 = .ok (.goto 4, 3) := dk_167 0 4 (dk_at dksX6_counts_0 17 rfl rfl)
theorem dX6_counts_20 : decode cX6_counts 20 = .ok (.iconst 0, 1) := dk_3 (dk_at dksX6_counts_0 20 rfl rfl)
theorem dX6_counts_21 : decode cX6_counts 21 = .ok (.ireturn, 1) := dk_172 (dk_at dksX6_counts_0 21 rfl rfl)
def dkwX7_init_0 : List UInt8 := [42, 27, 183, 0, 1, 42, 44, 181, 0, 7, 177]
abbrev dktX7_init_0 : List UInt8 := dkwX7_init_0 ++ []
theorem dksX7_init_0 : cX7_init.data.toList.drop 0 = dktX7_init_0 := by decide +kernel
theorem dX7_init_0 : decode cX7_init 0 = .ok (.aload_n 0, 1) := dk_42 (dk_at dksX7_init_0 0 rfl rfl)
theorem dX7_init_1 : decode cX7_init 1 = .ok (.iload_n 1, 1) := dk_27 (dk_at dksX7_init_0 1 rfl rfl)
theorem dX7_init_2 : decode cX7_init 2 = .ok (.invokespecial 1, 3) := dk_183 0 1 (dk_at dksX7_init_0 2 rfl rfl)
theorem dX7_init_5 : decode cX7_init 5 = .ok (.aload_n 0, 1) := dk_42 (dk_at dksX7_init_0 5 rfl rfl)
theorem dX7_init_6 : decode cX7_init 6 = .ok (.aload_n 2, 1) := dk_44 (dk_at dksX7_init_0 6 rfl rfl)
theorem dX7_init_7 : decode cX7_init 7 = .ok (.putfield 7, 3) := dk_181 0 7 (dk_at dksX7_init_0 7 rfl rfl)
theorem dX7_init_10 : decode cX7_init 10 = .ok (.return_, 1) := dk_177 (dk_at dksX7_init_0 10 rfl rfl)
def dkwX8_init_0 : List UInt8 := [42, 183, 0, 1, 42, 43, 181, 0, 7, 42, 28, 181, 0, 13, 42, 182, 0, 17, 177]
abbrev dktX8_init_0 : List UInt8 := dkwX8_init_0 ++ []
theorem dksX8_init_0 : cX8_init.data.toList.drop 0 = dktX8_init_0 := by decide +kernel
theorem dX8_init_0 : decode cX8_init 0 = .ok (.aload_n 0, 1) := dk_42 (dk_at dksX8_init_0 0 rfl rfl)
theorem dX8_init_1 : decode cX8_init 1 = .ok (.invokespecial 1, 3) := dk_183 0 1 (dk_at dksX8_init_0 1 rfl rfl)
theorem dX8_init_4 : decode cX8_init 4 = .ok (.aload_n 0, 1) := dk_42 (dk_at dksX8_init_0 4 rfl rfl)
theorem dX8_init_5 : decode cX8_init 5 = .ok (.aload_n 1, 1) := dk_43 (dk_at dksX8_init_0 5 rfl rfl)
theorem dX8_init_6 : decode cX8_init 6 = .ok (.putfield 7, 3) := dk_181 0 7 (dk_at dksX8_init_0 6 rfl rfl)
theorem dX8_init_9 : decode cX8_init 9 = .ok (.aload_n 0, 1) := dk_42 (dk_at dksX8_init_0 9 rfl rfl)
theorem dX8_init_10 : decode cX8_init 10 = .ok (.iload_n 2, 1) := dk_28 (dk_at dksX8_init_0 10 rfl rfl)
theorem dX8_init_11 : decode cX8_init 11 = .ok (.putfield 13, 3) := dk_181 0 13 (dk_at dksX8_init_0 11 rfl rfl)
theorem dX8_init_14 : decode cX8_init 14 = .ok (.aload_n 0, 1) := dk_42 (dk_at dksX8_init_0 14 rfl rfl)
theorem dX8_init_15 : decode cX8_init 15 = .ok (.invokevirtual 17, 3) := dk_182 0 17 (dk_at dksX8_init_0 15 rfl rfl)
theorem dX8_init_18 : decode cX8_init 18 = .ok (.return_, 1) := dk_177 (dk_at dksX8_init_0 18 rfl rfl)
def dkwX8_cut_11 : List UInt8 := [42, 180, 0, 13, 162, 0, 8, 42, 4, 181, 0, 23, 177]
abbrev dktX8_cut_11 : List UInt8 := dkwX8_cut_11 ++ []
def dkwX8_cut_10 : List UInt8 := [42, 42, 180, 0, 23, 5, 163, 0, 7, 4, 167, 0, 4, 3, 181, 0, 43, 167, 0, 19, 42, 180, 0, 20]
abbrev dktX8_cut_10 : List UInt8 := dkwX8_cut_10 ++ dktX8_cut_11
def dkwX8_cut_9 : List UInt8 := [96, 182, 0, 29, 96, 16, 48, 100, 181, 0, 26, 42, 89, 180, 0, 23, 4, 96, 181, 0, 23, 167, 255, 187]
abbrev dktX8_cut_9 : List UInt8 := dkwX8_cut_9 ++ dktX8_cut_10
def dkwX8_cut_8 : List UInt8 := [180, 0, 23, 5, 162, 0, 31, 42, 16, 10, 42, 180, 0, 26, 104, 42, 42, 180, 0, 20, 42, 180, 0, 23]
abbrev dktX8_cut_8 : List UInt8 := dkwX8_cut_8 ++ dktX8_cut_9
def dkwX8_cut_7 : List UInt8 := [42, 180, 0, 20, 42, 180, 0, 23, 96, 182, 0, 29, 16, 48, 16, 57, 184, 0, 33, 153, 0, 52, 42]
abbrev dktX8_cut_7 : List UInt8 := dkwX8_cut_7 ++ dktX8_cut_8
def dkwX8_cut_6 : List UInt8 := [153, 0, 131, 42, 89, 180, 0, 23, 4, 96, 181, 0, 23, 167, 255, 223, 42, 180, 0, 43, 153, 0, 95, 42]
abbrev dktX8_cut_6 : List UInt8 := dkwX8_cut_6 ++ dktX8_cut_7
def dkwX8_cut_5 : List UInt8 := [153, 0, 39, 42, 42, 180, 0, 20, 42, 180, 0, 23, 96, 182, 0, 29, 16, 97, 16, 122, 184, 0, 33]
abbrev dktX8_cut_5 : List UInt8 := dkwX8_cut_5 ++ dktX8_cut_6
def dkwX8_cut_4 : List UInt8 := [42, 42, 180, 0, 20, 182, 0, 29, 16, 48, 16, 57, 184, 0, 33, 181, 0, 43, 42, 180, 0, 39]
abbrev dktX8_cut_4 : List UInt8 := dkwX8_cut_4 ++ dktX8_cut_5
def dkwX8_cut_3 : List UInt8 := [3, 181, 0, 26, 42, 42, 42, 180, 0, 20, 182, 0, 29, 16, 97, 16, 122, 184, 0, 33, 181, 0, 39, 42]
abbrev dktX8_cut_3 : List UInt8 := dkwX8_cut_3 ++ dktX8_cut_4
def dkwX8_cut_2 : List UInt8 := [16, 10, 160, 0, 16, 42, 89, 180, 0, 20, 4, 96, 181, 0, 20, 167, 255, 207, 42, 3, 181, 0, 23, 42]
abbrev dktX8_cut_2 : List UInt8 := dkwX8_cut_2 ++ dktX8_cut_3
def dkwX8_cut_1 : List UInt8 := [42, 180, 0, 7, 42, 180, 0, 20, 51, 16, 32, 159, 0, 17, 42, 180, 0, 7, 42, 180, 0, 20, 51]
abbrev dktX8_cut_1 : List UInt8 := dkwX8_cut_1 ++ dktX8_cut_2
def dkwX8_cut_0 : List UInt8 := [42, 89, 180, 0, 20, 42, 180, 0, 23, 96, 181, 0, 20, 42, 180, 0, 20, 42, 180, 0, 13, 162, 0, 44]
abbrev dktX8_cut_0 : List UInt8 := dkwX8_cut_0 ++ dktX8_cut_1
theorem dksX8_cut_0 : cX8_cut.data.toList.drop 0 = dktX8_cut_0 := by decide +kernel
theorem dksX8_cut_1 : cX8_cut.data.toList.drop 24 = dktX8_cut_1 := dk_seg dksX8_cut_0 24 rfl rfl
theorem dksX8_cut_2 : cX8_cut.data.toList.drop 47 = dktX8_cut_2 := dk_seg dksX8_cut_1 23 rfl rfl
theorem dksX8_cut_3 : cX8_cut.data.toList.drop 71 = dktX8_cut_3 := dk_seg dksX8_cut_2 24 rfl rfl
theorem dksX8_cut_4 : cX8_cut.data.toList.drop 95 = dktX8_cut_4 := dk_seg dksX8_cut_3 24 rfl rfl
theorem dksX8_cut_5 : cX8_cut.data.toList.drop 117 = dktX8_cut_5 := dk_seg dksX8_cut_4 22 rfl rfl
theorem dksX8_cut_6 : cX8_cut.data.toList.drop 140 = dktX8_cut_6 := dk_seg dksX8_cut_5 23 rfl rfl
theorem dksX8_cut_7 : cX8_cut.data.toList.drop 164 = dktX8_cut_7 := dk_seg dksX8_cut_6 24 rfl rfl
theorem dksX8_cut_8 : cX8_cut.data.toList.drop 187 = dktX8_cut_8 := dk_seg dksX8_cut_7 23 rfl rfl
theorem dksX8_cut_9 : cX8_cut.data.toList.drop 211 = dktX8_cut_9 := dk_seg dksX8_cut_8 24 rfl rfl
theorem dksX8_cut_10 : cX8_cut.data.toList.drop 235 = dktX8_cut_10 := dk_seg dksX8_cut_9 24 rfl rfl
theorem dksX8_cut_11 : cX8_cut.data.toList.drop 259 = dktX8_cut_11 := dk_seg dksX8_cut_10 24 rfl rfl
theorem dX8_cut_0 : decode cX8_cut 0 = .ok (.aload_n 0, 1) := dk_42 (dk_at dksX8_cut_0 0 rfl rfl)
theorem dX8_cut_1 : decode cX8_cut 1 = .ok (.dup, 1) := dk_89 (dk_at dksX8_cut_0 1 rfl rfl)
theorem dX8_cut_2 : decode cX8_cut 2 = .ok (.getfield 20, 3) := dk_180 0 20 (dk_at dksX8_cut_0 2 rfl rfl)
theorem dX8_cut_5 : decode cX8_cut 5 = .ok (.aload_n 0, 1) := dk_42 (dk_at dksX8_cut_0 5 rfl rfl)
theorem dX8_cut_6 : decode cX8_cut 6 = .ok (.getfield 23, 3) := dk_180 0 23 (dk_at dksX8_cut_0 6 rfl rfl)
theorem dX8_cut_9 : decode cX8_cut 9 = .ok (.iadd, 1) := dk_96 (dk_at dksX8_cut_0 9 rfl rfl)
theorem dX8_cut_10 : decode cX8_cut 10 = .ok (.putfield 20, 3) := dk_181 0 20 (dk_at dksX8_cut_0 10 rfl rfl)
theorem dX8_cut_13 : decode cX8_cut 13 = .ok (.aload_n 0, 1) := dk_42 (dk_at dksX8_cut_0 13 rfl rfl)
theorem dX8_cut_14 : decode cX8_cut 14 = .ok (.getfield 20, 3) := dk_180 0 20 (dk_at dksX8_cut_0 14 rfl rfl)
theorem dX8_cut_17 : decode cX8_cut 17 = .ok (.aload_n 0, 1) := dk_42 (dk_at dksX8_cut_0 17 rfl rfl)
theorem dX8_cut_18 : decode cX8_cut 18 = .ok (.getfield 13, 3) := dk_180 0 13 (dk_at dksX8_cut_0 18 rfl rfl)
theorem dX8_cut_21 : decode cX8_cut 21 = .ok (.if_icmp .ge 44, 3) := dk_162 0 44 (dk_at dksX8_cut_0 21 rfl rfl)
theorem dX8_cut_24 : decode cX8_cut 24 = .ok (.aload_n 0, 1) := dk_42 (dk_at dksX8_cut_1 0 rfl rfl)
theorem dX8_cut_25 : decode cX8_cut 25 = .ok (.getfield 7, 3) := dk_180 0 7 (dk_at dksX8_cut_1 1 rfl rfl)
theorem dX8_cut_28 : decode cX8_cut 28 = .ok (.aload_n 0, 1) := dk_42 (dk_at dksX8_cut_1 4 rfl rfl)
theorem dX8_cut_29 : decode cX8_cut 29 = .ok (.getfield 20, 3) := dk_180 0 20 (dk_at dksX8_cut_1 5 rfl rfl)
theorem dX8_cut_32 : decode cX8_cut 32 = .ok (.baload, 1) := dk_51 (dk_at dksX8_cut_1 8 rfl rfl)
theorem dX8_cut_33 : decode cX8_cut 33 = .ok (.bipush 32, 2) := dk_16 32 (dk_at dksX8_cut_1 9 rfl rfl)
theorem dX8_cut_35 : decode cX8_cut 35 = .ok (.if_icmp .eq 17, 3) := dk_159 0 17 (dk_at dksX8_cut_1 11 rfl rfl)
theorem dX8_cut_38 : decode cX8_cut 38 = .ok (.aload_n 0, 1) := dk_42 (dk_at dksX8_cut_1 14 rfl rfl)
theorem dX8_cut_39 : decode cX8_cut 39 = .ok (.getfield 7, 3) := dk_180 0 7 (dk_at dksX8_cut_1 15 rfl rfl)
theorem dX8_cut_42 : decode cX8_cut 42 = .ok (.aload_n 0, 1) := dk_42 (dk_at dksX8_cut_1 18 rfl rfl)
theorem dX8_cut_43 : decode cX8_cut 43 = .ok (.getfield 20, 3) := dk_180 0 20 (dk_at dksX8_cut_1 19 rfl rfl)
theorem dX8_cut_46 : decode cX8_cut 46 = .ok (.baload, 1) := dk_51 (dk_at dksX8_cut_1 22 rfl rfl)
theorem dX8_cut_47 : decode cX8_cut 47 = .ok (.bipush 10, 2) := dk_16 10 (dk_at dksX8_cut_2 0 rfl rfl)
theorem dX8_cut_49 : decode cX8_cut 49 = .ok (.if_icmp .ne 16, 3) := dk_160 0 16 (dk_at dksX8_cut_2 2 rfl rfl)
theorem dX8_cut_52 : decode cX8_cut 52 = .ok (.aload_n 0, 1) := dk_42 (dk_at dksX8_cut_2 5 rfl rfl)
theorem dX8_cut_53 : decode cX8_cut 53 = .ok (.dup, 1) := dk_89 (dk_at dksX8_cut_2 6 rfl rfl)
theorem dX8_cut_54 : decode cX8_cut 54 = .ok (.getfield 20, 3) := dk_180 0 20 (dk_at dksX8_cut_2 7 rfl rfl)
theorem dX8_cut_57 : decode cX8_cut 57 = .ok (.iconst 1, 1) := dk_4 (dk_at dksX8_cut_2 10 rfl rfl)
theorem dX8_cut_58 : decode cX8_cut 58 = .ok (.iadd, 1) := dk_96 (dk_at dksX8_cut_2 11 rfl rfl)
theorem dX8_cut_59 : decode cX8_cut 59 = .ok (.putfield 20, 3) := dk_181 0 20 (dk_at dksX8_cut_2 12 rfl rfl)
theorem dX8_cut_62 : decode cX8_cut 62 = .ok (.goto (-49), 3) := dk_167 255 207 (dk_at dksX8_cut_2 15 rfl rfl)
theorem dX8_cut_65 : decode cX8_cut 65 = .ok (.aload_n 0, 1) := dk_42 (dk_at dksX8_cut_2 18 rfl rfl)
theorem dX8_cut_66 : decode cX8_cut 66 = .ok (.iconst 0, 1) := dk_3 (dk_at dksX8_cut_2 19 rfl rfl)
theorem dX8_cut_67 : decode cX8_cut 67 = .ok (.putfield 23, 3) := dk_181 0 23 (dk_at dksX8_cut_2 20 rfl rfl)
theorem dX8_cut_70 : decode cX8_cut 70 = .ok (.aload_n 0, 1) := dk_42 (dk_at dksX8_cut_2 23 rfl rfl)
theorem dX8_cut_71 : decode cX8_cut 71 = .ok (.iconst 0, 1) := dk_3 (dk_at dksX8_cut_3 0 rfl rfl)
theorem dX8_cut_72 : decode cX8_cut 72 = .ok (.putfield 26, 3) := dk_181 0 26 (dk_at dksX8_cut_3 1 rfl rfl)
theorem dX8_cut_75 : decode cX8_cut 75 = .ok (.aload_n 0, 1) := dk_42 (dk_at dksX8_cut_3 4 rfl rfl)
theorem dX8_cut_76 : decode cX8_cut 76 = .ok (.aload_n 0, 1) := dk_42 (dk_at dksX8_cut_3 5 rfl rfl)
theorem dX8_cut_77 : decode cX8_cut 77 = .ok (.aload_n 0, 1) := dk_42 (dk_at dksX8_cut_3 6 rfl rfl)
theorem dX8_cut_78 : decode cX8_cut 78 = .ok (.getfield 20, 3) := dk_180 0 20 (dk_at dksX8_cut_3 7 rfl rfl)
theorem dX8_cut_81 : decode cX8_cut 81 = .ok (.invokevirtual 29, 3) := dk_182 0 29 (dk_at dksX8_cut_3 10 rfl rfl)
theorem dX8_cut_84 : decode cX8_cut 84 = .ok (.bipush 97, 2) := dk_16 97 (dk_at dksX8_cut_3 13 rfl rfl)
theorem dX8_cut_86 : decode cX8_cut 86 = .ok (.bipush 122, 2) := dk_16 122 (dk_at dksX8_cut_3 15 rfl rfl)
theorem dX8_cut_88 : decode cX8_cut 88 = .ok (.invokestatic 33, 3) := dk_184 0 33 (dk_at dksX8_cut_3 17 rfl rfl)
theorem dX8_cut_91 : decode cX8_cut 91 = .ok (.putfield 39, 3) := dk_181 0 39 (dk_at dksX8_cut_3 20 rfl rfl)
theorem dX8_cut_94 : decode cX8_cut 94 = .ok (.aload_n 0, 1) := dk_42 (dk_at dksX8_cut_3 23 rfl rfl)
theorem dX8_cut_95 : decode cX8_cut 95 = .ok (.aload_n 0, 1) := dk_42 (dk_at dksX8_cut_4 0 rfl rfl)
theorem dX8_cut_96 : decode cX8_cut 96 = .ok (.aload_n 0, 1) := dk_42 (dk_at dksX8_cut_4 1 rfl rfl)
theorem dX8_cut_97 : decode cX8_cut 97 = .ok (.getfield 20, 3) := dk_180 0 20 (dk_at dksX8_cut_4 2 rfl rfl)
theorem dX8_cut_100 : decode cX8_cut 100 = .ok (.invokevirtual 29, 3) := dk_182 0 29 (dk_at dksX8_cut_4 5 rfl rfl)
theorem dX8_cut_103 : decode cX8_cut 103 = .ok (.bipush 48, 2) := dk_16 48 (dk_at dksX8_cut_4 8 rfl rfl)
theorem dX8_cut_105 : decode cX8_cut 105 = .ok (.bipush 57, 2) := dk_16 57 (dk_at dksX8_cut_4 10 rfl rfl)
theorem dX8_cut_107 : decode cX8_cut 107 = .ok (.invokestatic 33, 3) := dk_184 0 33 (dk_at dksX8_cut_4 12 rfl rfl)
theorem dX8_cut_110 : decode cX8_cut 110 = .ok (.putfield 43, 3) := dk_181 0 43 (dk_at dksX8_cut_4 15 rfl rfl)
theorem dX8_cut_113 : decode cX8_cut 113 = .ok (.aload_n 0, 1) := dk_42 (dk_at dksX8_cut_4 18 rfl rfl)
theorem dX8_cut_114 : decode cX8_cut 114 = .ok (.getfield 39, 3) := dk_180 0 39 (dk_at dksX8_cut_4 19 rfl rfl)
theorem dX8_cut_117 : decode cX8_cut 117 = .ok (.ifCond .eq 39, 3) := dk_153 0 39 (dk_at dksX8_cut_5 0 rfl rfl)
theorem dX8_cut_120 : decode cX8_cut 120 = .ok (.aload_n 0, 1) := dk_42 (dk_at dksX8_cut_5 3 rfl rfl)
theorem dX8_cut_121 : decode cX8_cut 121 = .ok (.aload_n 0, 1) := dk_42 (dk_at dksX8_cut_5 4 rfl rfl)
theorem dX8_cut_122 : decode cX8_cut 122 = .ok (.getfield 20, 3) := dk_180 0 20 (dk_at dksX8_cut_5 5 rfl rfl)
theorem dX8_cut_125 : decode cX8_cut 125 = .ok (.aload_n 0, 1) := dk_42 (dk_at dksX8_cut_5 8 rfl rfl)
theorem dX8_cut_126 : decode cX8_cut 126 = .ok (.getfield 23, 3) := dk_180 0 23 (dk_at dksX8_cut_5 9 rfl rfl)
theorem dX8_cut_129 : decode cX8_cut 129 = .ok (.iadd, 1) := dk_96 (dk_at dksX8_cut_5 12 rfl rfl)
theorem dX8_cut_130 : decode cX8_cut 130 = .ok (.invokevirtual 29, 3) := dk_182 0 29 (dk_at dksX8_cut_5 13 rfl rfl)
theorem dX8_cut_133 : decode cX8_cut 133 = .ok (.bipush 97, 2) := dk_16 97 (dk_at dksX8_cut_5 16 rfl rfl)
theorem dX8_cut_135 : decode cX8_cut 135 = .ok (.bipush 122, 2) := dk_16 122 (dk_at dksX8_cut_5 18 rfl rfl)
theorem dX8_cut_137 : decode cX8_cut 137 = .ok (.invokestatic 33, 3) := dk_184 0 33 (dk_at dksX8_cut_5 20 rfl rfl)
theorem dX8_cut_140 : decode cX8_cut 140 = .ok (.ifCond .eq 131, 3) := dk_153 0 131 (dk_at dksX8_cut_6 0 rfl rfl)
theorem dX8_cut_143 : decode cX8_cut 143 = .ok (.aload_n 0, 1) := dk_42 (dk_at dksX8_cut_6 3 rfl rfl)
theorem dX8_cut_144 : decode cX8_cut 144 = .ok (.dup, 1) := dk_89 (dk_at dksX8_cut_6 4 rfl rfl)
theorem dX8_cut_145 : decode cX8_cut 145 = .ok (.getfield 23, 3) := dk_180 0 23 (dk_at dksX8_cut_6 5 rfl rfl)
theorem dX8_cut_148 : decode cX8_cut 148 = .ok (.iconst 1, 1) := dk_4 (dk_at dksX8_cut_6 8 rfl rfl)
theorem dX8_cut_149 : decode cX8_cut 149 = .ok (.iadd, 1) := dk_96 (dk_at dksX8_cut_6 9 rfl rfl)
theorem dX8_cut_150 : decode cX8_cut 150 = .ok (.putfield 23, 3) := dk_181 0 23 (dk_at dksX8_cut_6 10 rfl rfl)
theorem dX8_cut_153 : decode cX8_cut 153 = .ok (.goto (-33), 3) := dk_167 255 223 (dk_at dksX8_cut_6 13 rfl rfl)
theorem dX8_cut_156 : decode cX8_cut 156 = .ok (.aload_n 0, 1) := dk_42 (dk_at dksX8_cut_6 16 rfl rfl)
theorem dX8_cut_157 : decode cX8_cut 157 = .ok (.getfield 43, 3) := dk_180 0 43 (dk_at dksX8_cut_6 17 rfl rfl)
theorem dX8_cut_160 : decode cX8_cut 160 = .ok (.ifCond .eq 95, 3) := dk_153 0 95 (dk_at dksX8_cut_6 20 rfl rfl)
theorem dX8_cut_163 : decode cX8_cut 163 = .ok (.aload_n 0, 1) := dk_42 (dk_at dksX8_cut_6 23 rfl rfl)
theorem dX8_cut_164 : decode cX8_cut 164 = .ok (.aload_n 0, 1) := dk_42 (dk_at dksX8_cut_7 0 rfl rfl)
theorem dX8_cut_165 : decode cX8_cut 165 = .ok (.getfield 20, 3) := dk_180 0 20 (dk_at dksX8_cut_7 1 rfl rfl)
theorem dX8_cut_168 : decode cX8_cut 168 = .ok (.aload_n 0, 1) := dk_42 (dk_at dksX8_cut_7 4 rfl rfl)
theorem dX8_cut_169 : decode cX8_cut 169 = .ok (.getfield 23, 3) := dk_180 0 23 (dk_at dksX8_cut_7 5 rfl rfl)
theorem dX8_cut_172 : decode cX8_cut 172 = .ok (.iadd, 1) := dk_96 (dk_at dksX8_cut_7 8 rfl rfl)
theorem dX8_cut_173 : decode cX8_cut 173 = .ok (.invokevirtual 29, 3) := dk_182 0 29 (dk_at dksX8_cut_7 9 rfl rfl)
theorem dX8_cut_176 : decode cX8_cut 176 = .ok (.bipush 48, 2) := dk_16 48 (dk_at dksX8_cut_7 12 rfl rfl)
theorem dX8_cut_178 : decode cX8_cut 178 = .ok (.bipush 57, 2) := dk_16 57 (dk_at dksX8_cut_7 14 rfl rfl)
theorem dX8_cut_180 : decode cX8_cut 180 = .ok (.invokestatic 33, 3) := dk_184 0 33 (dk_at dksX8_cut_7 16 rfl rfl)
theorem dX8_cut_183 : decode cX8_cut 183 = .ok (.ifCond .eq 52, 3) := dk_153 0 52 (dk_at dksX8_cut_7 19 rfl rfl)
theorem dX8_cut_186 : decode cX8_cut 186 = .ok (.aload_n 0, 1) := dk_42 (dk_at dksX8_cut_7 22 rfl rfl)
theorem dX8_cut_187 : decode cX8_cut 187 = .ok (.getfield 23, 3) := dk_180 0 23 (dk_at dksX8_cut_8 0 rfl rfl)
theorem dX8_cut_190 : decode cX8_cut 190 = .ok (.iconst 2, 1) := dk_5 (dk_at dksX8_cut_8 3 rfl rfl)
theorem dX8_cut_191 : decode cX8_cut 191 = .ok (.if_icmp .ge 31, 3) := dk_162 0 31 (dk_at dksX8_cut_8 4 rfl rfl)
theorem dX8_cut_194 : decode cX8_cut 194 = .ok (.aload_n 0, 1) := dk_42 (dk_at dksX8_cut_8 7 rfl rfl)
theorem dX8_cut_195 : decode cX8_cut 195 = .ok (.bipush 10, 2) := dk_16 10 (dk_at dksX8_cut_8 8 rfl rfl)
theorem dX8_cut_197 : decode cX8_cut 197 = .ok (.aload_n 0, 1) := dk_42 (dk_at dksX8_cut_8 10 rfl rfl)
theorem dX8_cut_198 : decode cX8_cut 198 = .ok (.getfield 26, 3) := dk_180 0 26 (dk_at dksX8_cut_8 11 rfl rfl)
theorem dX8_cut_201 : decode cX8_cut 201 = .ok (.imul, 1) := dk_104 (dk_at dksX8_cut_8 14 rfl rfl)
theorem dX8_cut_202 : decode cX8_cut 202 = .ok (.aload_n 0, 1) := dk_42 (dk_at dksX8_cut_8 15 rfl rfl)
theorem dX8_cut_203 : decode cX8_cut 203 = .ok (.aload_n 0, 1) := dk_42 (dk_at dksX8_cut_8 16 rfl rfl)
theorem dX8_cut_204 : decode cX8_cut 204 = .ok (.getfield 20, 3) := dk_180 0 20 (dk_at dksX8_cut_8 17 rfl rfl)
theorem dX8_cut_207 : decode cX8_cut 207 = .ok (.aload_n 0, 1) := dk_42 (dk_at dksX8_cut_8 20 rfl rfl)
theorem dX8_cut_208 : decode cX8_cut 208 = .ok (.getfield 23, 3) := dk_180 0 23 (dk_at dksX8_cut_8 21 rfl rfl)
theorem dX8_cut_211 : decode cX8_cut 211 = .ok (.iadd, 1) := dk_96 (dk_at dksX8_cut_9 0 rfl rfl)
theorem dX8_cut_212 : decode cX8_cut 212 = .ok (.invokevirtual 29, 3) := dk_182 0 29 (dk_at dksX8_cut_9 1 rfl rfl)
theorem dX8_cut_215 : decode cX8_cut 215 = .ok (.iadd, 1) := dk_96 (dk_at dksX8_cut_9 4 rfl rfl)
theorem dX8_cut_216 : decode cX8_cut 216 = .ok (.bipush 48, 2) := dk_16 48 (dk_at dksX8_cut_9 5 rfl rfl)
theorem dX8_cut_218 : decode cX8_cut 218 = .ok (.isub, 1) := dk_100 (dk_at dksX8_cut_9 7 rfl rfl)
theorem dX8_cut_219 : decode cX8_cut 219 = .ok (.putfield 26, 3) := dk_181 0 26 (dk_at dksX8_cut_9 8 rfl rfl)
theorem dX8_cut_222 : decode cX8_cut 222 = .ok (.aload_n 0, 1) := dk_42 (dk_at dksX8_cut_9 11 rfl rfl)
theorem dX8_cut_223 : decode cX8_cut 223 = .ok (.dup, 1) := dk_89 (dk_at dksX8_cut_9 12 rfl rfl)
theorem dX8_cut_224 : decode cX8_cut 224 = .ok (.getfield 23, 3) := dk_180 0 23 (dk_at dksX8_cut_9 13 rfl rfl)
theorem dX8_cut_227 : decode cX8_cut 227 = .ok (.iconst 1, 1) := dk_4 (dk_at dksX8_cut_9 16 rfl rfl)
theorem dX8_cut_228 : decode cX8_cut 228 = .ok (.iadd, 1) := dk_96 (dk_at dksX8_cut_9 17 rfl rfl)
theorem dX8_cut_229 : decode cX8_cut 229 = .ok (.putfield 23, 3) := dk_181 0 23 (dk_at dksX8_cut_9 18 rfl rfl)
theorem dX8_cut_232 : decode cX8_cut 232 = .ok (.goto (-69), 3) := dk_167 255 187 (dk_at dksX8_cut_9 21 rfl rfl)
theorem dX8_cut_235 : decode cX8_cut 235 = .ok (.aload_n 0, 1) := dk_42 (dk_at dksX8_cut_10 0 rfl rfl)
theorem dX8_cut_236 : decode cX8_cut 236 = .ok (.aload_n 0, 1) := dk_42 (dk_at dksX8_cut_10 1 rfl rfl)
theorem dX8_cut_237 : decode cX8_cut 237 = .ok (.getfield 23, 3) := dk_180 0 23 (dk_at dksX8_cut_10 2 rfl rfl)
theorem dX8_cut_240 : decode cX8_cut 240 = .ok (.iconst 2, 1) := dk_5 (dk_at dksX8_cut_10 5 rfl rfl)
theorem dX8_cut_241 : decode cX8_cut 241 = .ok (.if_icmp .gt 7, 3) := dk_163 0 7 (dk_at dksX8_cut_10 6 rfl rfl)
theorem dX8_cut_244 : decode cX8_cut 244 = .ok (.iconst 1, 1) := dk_4 (dk_at dksX8_cut_10 9 rfl rfl)
theorem dX8_cut_245 : decode cX8_cut 245 = .ok (.goto 4, 3) := dk_167 0 4 (dk_at dksX8_cut_10 10 rfl rfl)
theorem dX8_cut_248 : decode cX8_cut 248 = .ok (.iconst 0, 1) := dk_3 (dk_at dksX8_cut_10 13 rfl rfl)
theorem dX8_cut_249 : decode cX8_cut 249 = .ok (.putfield 43, 3) := dk_181 0 43 (dk_at dksX8_cut_10 14 rfl rfl)
theorem dX8_cut_252 : decode cX8_cut 252 = .ok (.goto 19, 3) := dk_167 0 19 (dk_at dksX8_cut_10 17 rfl rfl)
theorem dX8_cut_255 : decode cX8_cut 255 = .ok (.aload_n 0, 1) := dk_42 (dk_at dksX8_cut_10 20 rfl rfl)
theorem dX8_cut_256 : decode cX8_cut 256 = .ok (.getfield 20, 3) := dk_180 0 20 (dk_at dksX8_cut_10 21 rfl rfl)
theorem dX8_cut_259 : decode cX8_cut 259 = .ok (.aload_n 0, 1) := dk_42 (dk_at dksX8_cut_11 0 rfl rfl)
theorem dX8_cut_260 : decode cX8_cut 260 = .ok (.getfield 13, 3) := dk_180 0 13 (dk_at dksX8_cut_11 1 rfl rfl)
theorem dX8_cut_263 : decode cX8_cut 263 = .ok (.if_icmp .ge 8, 3) := dk_162 0 8 (dk_at dksX8_cut_11 4 rfl rfl)
theorem dX8_cut_266 : decode cX8_cut 266 = .ok (.aload_n 0, 1) := dk_42 (dk_at dksX8_cut_11 7 rfl rfl)
theorem dX8_cut_267 : decode cX8_cut 267 = .ok (.iconst 1, 1) := dk_4 (dk_at dksX8_cut_11 8 rfl rfl)
theorem dX8_cut_268 : decode cX8_cut 268 = .ok (.putfield 23, 3) := dk_181 0 23 (dk_at dksX8_cut_11 9 rfl rfl)
theorem dX8_cut_271 : decode cX8_cut 271 = .ok (.return_, 1) := dk_177 (dk_at dksX8_cut_11 12 rfl rfl)
def dkwX8_byteAt_0 : List UInt8 := [27, 42, 180, 0, 13, 162, 0, 16, 42, 180, 0, 7, 27, 51, 17, 0, 255, 126, 167, 0, 4, 3, 172]
abbrev dktX8_byteAt_0 : List UInt8 := dkwX8_byteAt_0 ++ []
theorem dksX8_byteAt_0 : cX8_byteAt.data.toList.drop 0 = dktX8_byteAt_0 := by decide +kernel
theorem dX8_byteAt_0 : decode cX8_byteAt 0 = .ok (.iload_n 1, 1) := dk_27 (dk_at dksX8_byteAt_0 0 rfl rfl)
theorem dX8_byteAt_1 : decode cX8_byteAt 1 = .ok (.aload_n 0, 1) := dk_42 (dk_at dksX8_byteAt_0 1 rfl rfl)
theorem dX8_byteAt_2 : decode cX8_byteAt 2 = .ok (.getfield 13, 3) := dk_180 0 13 (dk_at dksX8_byteAt_0 2 rfl rfl)
theorem dX8_byteAt_5 : decode cX8_byteAt 5 = .ok (.if_icmp .ge 16, 3) := dk_162 0 16 (dk_at dksX8_byteAt_0 5 rfl rfl)
theorem dX8_byteAt_8 : decode cX8_byteAt 8 = .ok (.aload_n 0, 1) := dk_42 (dk_at dksX8_byteAt_0 8 rfl rfl)
theorem dX8_byteAt_9 : decode cX8_byteAt 9 = .ok (.getfield 7, 3) := dk_180 0 7 (dk_at dksX8_byteAt_0 9 rfl rfl)
theorem dX8_byteAt_12 : decode cX8_byteAt 12 = .ok (.iload_n 1, 1) := dk_27 (dk_at dksX8_byteAt_0 12 rfl rfl)
theorem dX8_byteAt_13 : decode cX8_byteAt 13 = .ok (.baload, 1) := dk_51 (dk_at dksX8_byteAt_0 13 rfl rfl)
theorem dX8_byteAt_14 : decode cX8_byteAt 14 = .ok (.sipush 255, 3) := dk_17 0 255 (dk_at dksX8_byteAt_0 14 rfl rfl)
theorem dX8_byteAt_17 : decode cX8_byteAt 17 = .ok (.iand, 1) := dk_126 (dk_at dksX8_byteAt_0 17 rfl rfl)
theorem dX8_byteAt_18 : decode cX8_byteAt 18 = .ok (.goto 4, 3) := dk_167 0 4 (dk_at dksX8_byteAt_0 18 rfl rfl)
theorem dX8_byteAt_21 : decode cX8_byteAt 21 = .ok (.iconst 0, 1) := dk_3 (dk_at dksX8_byteAt_0 21 rfl rfl)
theorem dX8_byteAt_22 : decode cX8_byteAt 22 = .ok (.ireturn, 1) := dk_172 (dk_at dksX8_byteAt_0 22 rfl rfl)
theorem dX8_isNumber_0 : decode cX8_isNumber 0 = .ok (.aload_n 0, 1) := by decide +kernel
theorem dX8_isNumber_1 : decode cX8_isNumber 1 = .ok (.getfield 43, 3) := by decide +kernel
theorem dX8_isNumber_4 : decode cX8_isNumber 4 = .ok (.ireturn, 1) := by decide +kernel
def dkwX8_is_2 : List UInt8 := [167, 255, 225, 4, 172]
abbrev dktX8_is_2 : List UInt8 := dkwX8_is_2 ++ []
def dkwX8_is_1 : List UInt8 := [42, 180, 0, 20, 28, 96, 182, 0, 29, 43, 28, 182, 0, 52, 159, 0, 5, 3, 172, 132, 2, 1]
abbrev dktX8_is_1 : List UInt8 := dkwX8_is_1 ++ dktX8_is_2
def dkwX8_is_0 : List UInt8 := [42, 180, 0, 23, 43, 182, 0, 46, 159, 0, 5, 3, 172, 3, 61, 28, 42, 180, 0, 23, 162, 0, 29, 42]
abbrev dktX8_is_0 : List UInt8 := dkwX8_is_0 ++ dktX8_is_1
theorem dksX8_is_0 : cX8_is.data.toList.drop 0 = dktX8_is_0 := by decide +kernel
theorem dksX8_is_1 : cX8_is.data.toList.drop 24 = dktX8_is_1 := dk_seg dksX8_is_0 24 rfl rfl
theorem dksX8_is_2 : cX8_is.data.toList.drop 46 = dktX8_is_2 := dk_seg dksX8_is_1 22 rfl rfl
theorem dX8_is_0 : decode cX8_is 0 = .ok (.aload_n 0, 1) := dk_42 (dk_at dksX8_is_0 0 rfl rfl)
theorem dX8_is_1 : decode cX8_is 1 = .ok (.getfield 23, 3) := dk_180 0 23 (dk_at dksX8_is_0 1 rfl rfl)
theorem dX8_is_4 : decode cX8_is 4 = .ok (.aload_n 1, 1) := dk_43 (dk_at dksX8_is_0 4 rfl rfl)
theorem dX8_is_5 : decode cX8_is 5 = .ok (.invokevirtual 46, 3) := dk_182 0 46 (dk_at dksX8_is_0 5 rfl rfl)
theorem dX8_is_8 : decode cX8_is 8 = .ok (.if_icmp .eq 5, 3) := dk_159 0 5 (dk_at dksX8_is_0 8 rfl rfl)
theorem dX8_is_11 : decode cX8_is 11 = .ok (.iconst 0, 1) := dk_3 (dk_at dksX8_is_0 11 rfl rfl)
theorem dX8_is_12 : decode cX8_is 12 = .ok (.ireturn, 1) := dk_172 (dk_at dksX8_is_0 12 rfl rfl)
theorem dX8_is_13 : decode cX8_is 13 = .ok (.iconst 0, 1) := dk_3 (dk_at dksX8_is_0 13 rfl rfl)
theorem dX8_is_14 : decode cX8_is 14 = .ok (.istore_n 2, 1) := dk_61 (dk_at dksX8_is_0 14 rfl rfl)
theorem dX8_is_15 : decode cX8_is 15 = .ok (.iload_n 2, 1) := dk_28 (dk_at dksX8_is_0 15 rfl rfl)
theorem dX8_is_16 : decode cX8_is 16 = .ok (.aload_n 0, 1) := dk_42 (dk_at dksX8_is_0 16 rfl rfl)
theorem dX8_is_17 : decode cX8_is 17 = .ok (.getfield 23, 3) := dk_180 0 23 (dk_at dksX8_is_0 17 rfl rfl)
theorem dX8_is_20 : decode cX8_is 20 = .ok (.if_icmp .ge 29, 3) := dk_162 0 29 (dk_at dksX8_is_0 20 rfl rfl)
theorem dX8_is_23 : decode cX8_is 23 = .ok (.aload_n 0, 1) := dk_42 (dk_at dksX8_is_0 23 rfl rfl)
theorem dX8_is_24 : decode cX8_is 24 = .ok (.aload_n 0, 1) := dk_42 (dk_at dksX8_is_1 0 rfl rfl)
theorem dX8_is_25 : decode cX8_is 25 = .ok (.getfield 20, 3) := dk_180 0 20 (dk_at dksX8_is_1 1 rfl rfl)
theorem dX8_is_28 : decode cX8_is 28 = .ok (.iload_n 2, 1) := dk_28 (dk_at dksX8_is_1 4 rfl rfl)
theorem dX8_is_29 : decode cX8_is 29 = .ok (.iadd, 1) := dk_96 (dk_at dksX8_is_1 5 rfl rfl)
theorem dX8_is_30 : decode cX8_is 30 = .ok (.invokevirtual 29, 3) := dk_182 0 29 (dk_at dksX8_is_1 6 rfl rfl)
theorem dX8_is_33 : decode cX8_is 33 = .ok (.aload_n 1, 1) := dk_43 (dk_at dksX8_is_1 9 rfl rfl)
theorem dX8_is_34 : decode cX8_is 34 = .ok (.iload_n 2, 1) := dk_28 (dk_at dksX8_is_1 10 rfl rfl)
theorem dX8_is_35 : decode cX8_is 35 = .ok (.invokevirtual 52, 3) := dk_182 0 52 (dk_at dksX8_is_1 11 rfl rfl)
theorem dX8_is_38 : decode cX8_is 38 = .ok (.if_icmp .eq 5, 3) := dk_159 0 5 (dk_at dksX8_is_1 14 rfl rfl)
theorem dX8_is_41 : decode cX8_is 41 = .ok (.iconst 0, 1) := dk_3 (dk_at dksX8_is_1 17 rfl rfl)
theorem dX8_is_42 : decode cX8_is 42 = .ok (.ireturn, 1) := dk_172 (dk_at dksX8_is_1 18 rfl rfl)
theorem dX8_is_43 : decode cX8_is 43 = .ok (.iinc 2 1, 3) := dk_132 2 1 (dk_at dksX8_is_1 19 rfl rfl)
theorem dX8_is_46 : decode cX8_is 46 = .ok (.goto (-31), 3) := dk_167 255 225 (dk_at dksX8_is_2 0 rfl rfl)
theorem dX8_is_49 : decode cX8_is 49 = .ok (.iconst 1, 1) := dk_4 (dk_at dksX8_is_2 3 rfl rfl)
theorem dX8_is_50 : decode cX8_is 50 = .ok (.ireturn, 1) := dk_172 (dk_at dksX8_is_2 4 rfl rfl)
def dkwX8_need_0 : List UInt8 := [27, 154, 0, 16, 187, 0, 60, 89, 28, 42, 180, 0, 20, 183, 0, 62, 191, 177]
abbrev dktX8_need_0 : List UInt8 := dkwX8_need_0 ++ []
theorem dksX8_need_0 : cX8_need.data.toList.drop 0 = dktX8_need_0 := by decide +kernel
theorem dX8_need_0 : decode cX8_need 0 = .ok (.iload_n 1, 1) := dk_27 (dk_at dksX8_need_0 0 rfl rfl)
theorem dX8_need_1 : decode cX8_need 1 = .ok (.ifCond .ne 16, 3) := dk_154 0 16 (dk_at dksX8_need_0 1 rfl rfl)
theorem dX8_need_4 : decode cX8_need 4 = .ok (.new 60, 3) := dk_187 0 60 (dk_at dksX8_need_0 4 rfl rfl)
theorem dX8_need_7 : decode cX8_need 7 = .ok (.dup, 1) := dk_89 (dk_at dksX8_need_0 7 rfl rfl)
theorem dX8_need_8 : decode cX8_need 8 = .ok (.iload_n 2, 1) := dk_28 (dk_at dksX8_need_0 8 rfl rfl)
theorem dX8_need_9 : decode cX8_need 9 = .ok (.aload_n 0, 1) := dk_42 (dk_at dksX8_need_0 9 rfl rfl)
theorem dX8_need_10 : decode cX8_need 10 = .ok (.getfield 20, 3) := dk_180 0 20 (dk_at dksX8_need_0 10 rfl rfl)
theorem dX8_need_13 : decode cX8_need 13 = .ok (.invokespecial 62, 3) := dk_183 0 62 (dk_at dksX8_need_0 13 rfl rfl)
theorem dX8_need_16 : decode cX8_need 16 = .ok (.athrow, 1) := dk_191 (dk_at dksX8_need_0 16 rfl rfl)
theorem dX8_need_17 : decode cX8_need 17 = .ok (.return_, 1) := dk_177 (dk_at dksX8_need_0 17 rfl rfl)
def dkwX8_may_0 : List UInt8 := [42, 43, 182, 0, 56, 61, 28, 153, 0, 7, 42, 182, 0, 17, 28, 172]
abbrev dktX8_may_0 : List UInt8 := dkwX8_may_0 ++ []
theorem dksX8_may_0 : cX8_may.data.toList.drop 0 = dktX8_may_0 := by decide +kernel
theorem dX8_may_0 : decode cX8_may 0 = .ok (.aload_n 0, 1) := dk_42 (dk_at dksX8_may_0 0 rfl rfl)
theorem dX8_may_1 : decode cX8_may 1 = .ok (.aload_n 1, 1) := dk_43 (dk_at dksX8_may_0 1 rfl rfl)
theorem dX8_may_2 : decode cX8_may 2 = .ok (.invokevirtual 56, 3) := dk_182 0 56 (dk_at dksX8_may_0 2 rfl rfl)
theorem dX8_may_5 : decode cX8_may 5 = .ok (.istore_n 2, 1) := dk_61 (dk_at dksX8_may_0 5 rfl rfl)
theorem dX8_may_6 : decode cX8_may 6 = .ok (.iload_n 2, 1) := dk_28 (dk_at dksX8_may_0 6 rfl rfl)
theorem dX8_may_7 : decode cX8_may 7 = .ok (.ifCond .eq 7, 3) := dk_153 0 7 (dk_at dksX8_may_0 7 rfl rfl)
theorem dX8_may_10 : decode cX8_may 10 = .ok (.aload_n 0, 1) := dk_42 (dk_at dksX8_may_0 10 rfl rfl)
theorem dX8_may_11 : decode cX8_may 11 = .ok (.invokevirtual 17, 3) := dk_182 0 17 (dk_at dksX8_may_0 11 rfl rfl)
theorem dX8_may_14 : decode cX8_may 14 = .ok (.iload_n 2, 1) := dk_28 (dk_at dksX8_may_0 14 rfl rfl)
theorem dX8_may_15 : decode cX8_may 15 = .ok (.ireturn, 1) := dk_172 (dk_at dksX8_may_0 15 rfl rfl)
def dkwX8_number_1 : List UInt8 := [180, 0, 26, 62, 42, 182, 0, 17, 29, 172]
abbrev dktX8_number_1 : List UInt8 := dkwX8_number_1 ++ []
def dkwX8_number_0 : List UInt8 := [42, 42, 180, 0, 43, 4, 182, 0, 65, 42, 42, 180, 0, 26, 27, 28, 184, 0, 33, 5, 182, 0, 65, 42]
abbrev dktX8_number_0 : List UInt8 := dkwX8_number_0 ++ dktX8_number_1
theorem dksX8_number_0 : cX8_number.data.toList.drop 0 = dktX8_number_0 := by decide +kernel
theorem dksX8_number_1 : cX8_number.data.toList.drop 24 = dktX8_number_1 := dk_seg dksX8_number_0 24 rfl rfl
theorem dX8_number_0 : decode cX8_number 0 = .ok (.aload_n 0, 1) := dk_42 (dk_at dksX8_number_0 0 rfl rfl)
theorem dX8_number_1 : decode cX8_number 1 = .ok (.aload_n 0, 1) := dk_42 (dk_at dksX8_number_0 1 rfl rfl)
theorem dX8_number_2 : decode cX8_number 2 = .ok (.getfield 43, 3) := dk_180 0 43 (dk_at dksX8_number_0 2 rfl rfl)
theorem dX8_number_5 : decode cX8_number 5 = .ok (.iconst 1, 1) := dk_4 (dk_at dksX8_number_0 5 rfl rfl)
theorem dX8_number_6 : decode cX8_number 6 = .ok (.invokevirtual 65, 3) := dk_182 0 65 (dk_at dksX8_number_0 6 rfl rfl)
theorem dX8_number_9 : decode cX8_number 9 = .ok (.aload_n 0, 1) := dk_42 (dk_at dksX8_number_0 9 rfl rfl)
theorem dX8_number_10 : decode cX8_number 10 = .ok (.aload_n 0, 1) := dk_42 (dk_at dksX8_number_0 10 rfl rfl)
theorem dX8_number_11 : decode cX8_number 11 = .ok (.getfield 26, 3) := dk_180 0 26 (dk_at dksX8_number_0 11 rfl rfl)
theorem dX8_number_14 : decode cX8_number 14 = .ok (.iload_n 1, 1) := dk_27 (dk_at dksX8_number_0 14 rfl rfl)
theorem dX8_number_15 : decode cX8_number 15 = .ok (.iload_n 2, 1) := dk_28 (dk_at dksX8_number_0 15 rfl rfl)
theorem dX8_number_16 : decode cX8_number 16 = .ok (.invokestatic 33, 3) := dk_184 0 33 (dk_at dksX8_number_0 16 rfl rfl)
theorem dX8_number_19 : decode cX8_number 19 = .ok (.iconst 2, 1) := dk_5 (dk_at dksX8_number_0 19 rfl rfl)
theorem dX8_number_20 : decode cX8_number 20 = .ok (.invokevirtual 65, 3) := dk_182 0 65 (dk_at dksX8_number_0 20 rfl rfl)
theorem dX8_number_23 : decode cX8_number 23 = .ok (.aload_n 0, 1) := dk_42 (dk_at dksX8_number_0 23 rfl rfl)
theorem dX8_number_24 : decode cX8_number 24 = .ok (.getfield 26, 3) := dk_180 0 26 (dk_at dksX8_number_1 0 rfl rfl)
theorem dX8_number_27 : decode cX8_number 27 = .ok (.istore_n 3, 1) := dk_62 (dk_at dksX8_number_1 3 rfl rfl)
theorem dX8_number_28 : decode cX8_number 28 = .ok (.aload_n 0, 1) := dk_42 (dk_at dksX8_number_1 4 rfl rfl)
theorem dX8_number_29 : decode cX8_number 29 = .ok (.invokevirtual 17, 3) := dk_182 0 17 (dk_at dksX8_number_1 5 rfl rfl)
theorem dX8_number_32 : decode cX8_number 32 = .ok (.iload_n 3, 1) := dk_29 (dk_at dksX8_number_1 8 rfl rfl)
theorem dX8_number_33 : decode cX8_number 33 = .ok (.ireturn, 1) := dk_172 (dk_at dksX8_number_1 9 rfl rfl)
def dkwX8_takes_0 : List UInt8 := [42, 42, 43, 182, 0, 56, 4, 182, 0, 65, 42, 182, 0, 17, 177]
abbrev dktX8_takes_0 : List UInt8 := dkwX8_takes_0 ++ []
theorem dksX8_takes_0 : cX8_takes.data.toList.drop 0 = dktX8_takes_0 := by decide +kernel
theorem dX8_takes_0 : decode cX8_takes 0 = .ok (.aload_n 0, 1) := dk_42 (dk_at dksX8_takes_0 0 rfl rfl)
theorem dX8_takes_1 : decode cX8_takes 1 = .ok (.aload_n 0, 1) := dk_42 (dk_at dksX8_takes_0 1 rfl rfl)
theorem dX8_takes_2 : decode cX8_takes 2 = .ok (.aload_n 1, 1) := dk_43 (dk_at dksX8_takes_0 2 rfl rfl)
theorem dX8_takes_3 : decode cX8_takes 3 = .ok (.invokevirtual 56, 3) := dk_182 0 56 (dk_at dksX8_takes_0 3 rfl rfl)
theorem dX8_takes_6 : decode cX8_takes 6 = .ok (.iconst 1, 1) := dk_4 (dk_at dksX8_takes_0 6 rfl rfl)
theorem dX8_takes_7 : decode cX8_takes 7 = .ok (.invokevirtual 65, 3) := dk_182 0 65 (dk_at dksX8_takes_0 7 rfl rfl)
theorem dX8_takes_10 : decode cX8_takes 10 = .ok (.aload_n 0, 1) := dk_42 (dk_at dksX8_takes_0 10 rfl rfl)
theorem dX8_takes_11 : decode cX8_takes 11 = .ok (.invokevirtual 17, 3) := dk_182 0 17 (dk_at dksX8_takes_0 11 rfl rfl)
theorem dX8_takes_14 : decode cX8_takes 14 = .ok (.return_, 1) := dk_177 (dk_at dksX8_takes_0 14 rfl rfl)
def dkwX8_isEnd_0 : List UInt8 := [42, 180, 0, 23, 154, 0, 7, 4, 167, 0, 4, 3, 172]
abbrev dktX8_isEnd_0 : List UInt8 := dkwX8_isEnd_0 ++ []
theorem dksX8_isEnd_0 : cX8_isEnd.data.toList.drop 0 = dktX8_isEnd_0 := by decide +kernel
theorem dX8_isEnd_0 : decode cX8_isEnd 0 = .ok (.aload_n 0, 1) := dk_42 (dk_at dksX8_isEnd_0 0 rfl rfl)
theorem dX8_isEnd_1 : decode cX8_isEnd 1 = .ok (.getfield 23, 3) := dk_180 0 23 (dk_at dksX8_isEnd_0 1 rfl rfl)
theorem dX8_isEnd_4 : decode cX8_isEnd 4 = .ok (.ifCond .ne 7, 3) := dk_154 0 7 (dk_at dksX8_isEnd_0 4 rfl rfl)
theorem dX8_isEnd_7 : decode cX8_isEnd 7 = .ok (.iconst 1, 1) := dk_4 (dk_at dksX8_isEnd_0 7 rfl rfl)
theorem dX8_isEnd_8 : decode cX8_isEnd 8 = .ok (.goto 4, 3) := dk_167 0 4 (dk_at dksX8_isEnd_0 8 rfl rfl)
theorem dX8_isEnd_11 : decode cX8_isEnd 11 = .ok (.iconst 0, 1) := dk_3 (dk_at dksX8_isEnd_0 11 rfl rfl)
theorem dX8_isEnd_12 : decode cX8_isEnd 12 = .ok (.ireturn, 1) := dk_172 (dk_at dksX8_isEnd_0 12 rfl rfl)
def dkwX8_letter_1 : List UInt8 := [182, 0, 65, 42, 42, 180, 0, 20, 182, 0, 29, 172]
abbrev dktX8_letter_1 : List UInt8 := dkwX8_letter_1 ++ []
def dkwX8_letter_0 : List UInt8 := [42, 42, 180, 0, 39, 153, 0, 15, 42, 180, 0, 23, 4, 160, 0, 7, 4, 167, 0, 4, 3, 4]
abbrev dktX8_letter_0 : List UInt8 := dkwX8_letter_0 ++ dktX8_letter_1
theorem dksX8_letter_0 : cX8_letter.data.toList.drop 0 = dktX8_letter_0 := by decide +kernel
theorem dksX8_letter_1 : cX8_letter.data.toList.drop 22 = dktX8_letter_1 := dk_seg dksX8_letter_0 22 rfl rfl
theorem dX8_letter_0 : decode cX8_letter 0 = .ok (.aload_n 0, 1) := dk_42 (dk_at dksX8_letter_0 0 rfl rfl)
theorem dX8_letter_1 : decode cX8_letter 1 = .ok (.aload_n 0, 1) := dk_42 (dk_at dksX8_letter_0 1 rfl rfl)
theorem dX8_letter_2 : decode cX8_letter 2 = .ok (.getfield 39, 3) := dk_180 0 39 (dk_at dksX8_letter_0 2 rfl rfl)
theorem dX8_letter_5 : decode cX8_letter 5 = .ok (.ifCond .eq 15, 3) := dk_153 0 15 (dk_at dksX8_letter_0 5 rfl rfl)
theorem dX8_letter_8 : decode cX8_letter 8 = .ok (.aload_n 0, 1) := dk_42 (dk_at dksX8_letter_0 8 rfl rfl)
theorem dX8_letter_9 : decode cX8_letter 9 = .ok (.getfield 23, 3) := dk_180 0 23 (dk_at dksX8_letter_0 9 rfl rfl)
theorem dX8_letter_12 : decode cX8_letter 12 = .ok (.iconst 1, 1) := dk_4 (dk_at dksX8_letter_0 12 rfl rfl)
theorem dX8_letter_13 : decode cX8_letter 13 = .ok (.if_icmp .ne 7, 3) := dk_160 0 7 (dk_at dksX8_letter_0 13 rfl rfl)
theorem dX8_letter_16 : decode cX8_letter 16 = .ok (.iconst 1, 1) := dk_4 (dk_at dksX8_letter_0 16 rfl rfl)
theorem dX8_letter_17 : decode cX8_letter 17 = .ok (.goto 4, 3) := dk_167 0 4 (dk_at dksX8_letter_0 17 rfl rfl)
theorem dX8_letter_20 : decode cX8_letter 20 = .ok (.iconst 0, 1) := dk_3 (dk_at dksX8_letter_0 20 rfl rfl)
theorem dX8_letter_21 : decode cX8_letter 21 = .ok (.iconst 1, 1) := dk_4 (dk_at dksX8_letter_0 21 rfl rfl)
theorem dX8_letter_22 : decode cX8_letter 22 = .ok (.invokevirtual 65, 3) := dk_182 0 65 (dk_at dksX8_letter_1 0 rfl rfl)
theorem dX8_letter_25 : decode cX8_letter 25 = .ok (.aload_n 0, 1) := dk_42 (dk_at dksX8_letter_1 3 rfl rfl)
theorem dX8_letter_26 : decode cX8_letter 26 = .ok (.aload_n 0, 1) := dk_42 (dk_at dksX8_letter_1 4 rfl rfl)
theorem dX8_letter_27 : decode cX8_letter 27 = .ok (.getfield 20, 3) := dk_180 0 20 (dk_at dksX8_letter_1 5 rfl rfl)
theorem dX8_letter_30 : decode cX8_letter 30 = .ok (.invokevirtual 29, 3) := dk_182 0 29 (dk_at dksX8_letter_1 8 rfl rfl)
theorem dX8_letter_33 : decode cX8_letter 33 = .ok (.ireturn, 1) := dk_172 (dk_at dksX8_letter_1 11 rfl rfl)
def dkwX9_init_0 : List UInt8 := [42, 43, 28, 183, 0, 3, 177]
abbrev dktX9_init_0 : List UInt8 := dkwX9_init_0 ++ []
theorem dksX9_init_0 : cX9_init.data.toList.drop 0 = dktX9_init_0 := by decide +kernel
theorem dX9_init_0 : decode cX9_init 0 = .ok (.aload_n 0, 1) := dk_42 (dk_at dksX9_init_0 0 rfl rfl)
theorem dX9_init_1 : decode cX9_init 1 = .ok (.aload_n 1, 1) := dk_43 (dk_at dksX9_init_0 1 rfl rfl)
theorem dX9_init_2 : decode cX9_init 2 = .ok (.iload_n 2, 1) := dk_28 (dk_at dksX9_init_0 2 rfl rfl)
theorem dX9_init_3 : decode cX9_init 3 = .ok (.invokespecial 3, 3) := dk_183 0 3 (dk_at dksX9_init_0 3 rfl rfl)
theorem dX9_init_6 : decode cX9_init 6 = .ok (.return_, 1) := dk_177 (dk_at dksX9_init_0 6 rfl rfl)
def dkwX9_read_4 : List UInt8 := [167, 255, 239, 45, 176]
abbrev dktX9_read_4 : List UInt8 := dkwX9_read_4 ++ []
def dkwX9_read_3 : List UInt8 := [189, 0, 9, 78, 3, 54, 4, 21, 4, 28, 162, 0, 17, 45, 21, 4, 43, 21, 4, 50, 83, 132, 4, 1]
abbrev dktX9_read_3 : List UInt8 := dkwX9_read_3 ++ dktX9_read_4
def dkwX9_read_2 : List UInt8 := [6, 182, 0, 23, 43, 28, 42, 182, 0, 27, 83, 132, 2, 1, 42, 182, 0, 31, 153, 255, 200, 28]
abbrev dktX9_read_2 : List UInt8 := dkwX9_read_2 ++ dktX9_read_3
def dkwX9_read_1 : List UInt8 := [153, 0, 7, 4, 167, 0, 4, 3, 4, 182, 0, 23, 42, 28, 16, 8, 162, 0, 7, 4, 167, 0, 4, 3]
abbrev dktX9_read_1 : List UInt8 := dkwX9_read_1 ++ dktX9_read_2
def dkwX9_read_0 : List UInt8 := [16, 8, 189, 0, 9, 76, 3, 61, 42, 42, 182, 0, 11, 154, 0, 12, 42, 18, 17, 182, 0, 19]
abbrev dktX9_read_0 : List UInt8 := dkwX9_read_0 ++ dktX9_read_1
theorem dksX9_read_0 : cX9_read.data.toList.drop 0 = dktX9_read_0 := by decide +kernel
theorem dksX9_read_1 : cX9_read.data.toList.drop 22 = dktX9_read_1 := dk_seg dksX9_read_0 22 rfl rfl
theorem dksX9_read_2 : cX9_read.data.toList.drop 46 = dktX9_read_2 := dk_seg dksX9_read_1 24 rfl rfl
theorem dksX9_read_3 : cX9_read.data.toList.drop 68 = dktX9_read_3 := dk_seg dksX9_read_2 22 rfl rfl
theorem dksX9_read_4 : cX9_read.data.toList.drop 92 = dktX9_read_4 := dk_seg dksX9_read_3 24 rfl rfl
theorem dX9_read_0 : decode cX9_read 0 = .ok (.bipush 8, 2) := dk_16 8 (dk_at dksX9_read_0 0 rfl rfl)
theorem dX9_read_2 : decode cX9_read 2 = .ok (.anewarray 9, 3) := dk_189 0 9 (dk_at dksX9_read_0 2 rfl rfl)
theorem dX9_read_5 : decode cX9_read 5 = .ok (.astore_n 1, 1) := dk_76 (dk_at dksX9_read_0 5 rfl rfl)
theorem dX9_read_6 : decode cX9_read 6 = .ok (.iconst 0, 1) := dk_3 (dk_at dksX9_read_0 6 rfl rfl)
theorem dX9_read_7 : decode cX9_read 7 = .ok (.istore_n 2, 1) := dk_61 (dk_at dksX9_read_0 7 rfl rfl)
theorem dX9_read_8 : decode cX9_read 8 = .ok (.aload_n 0, 1) := dk_42 (dk_at dksX9_read_0 8 rfl rfl)
theorem dX9_read_9 : decode cX9_read 9 = .ok (.aload_n 0, 1) := dk_42 (dk_at dksX9_read_0 9 rfl rfl)
theorem dX9_read_10 : decode cX9_read 10 = .ok (.invokevirtual 11, 3) := dk_182 0 11 (dk_at dksX9_read_0 10 rfl rfl)
theorem dX9_read_13 : decode cX9_read 13 = .ok (.ifCond .ne 12, 3) := dk_154 0 12 (dk_at dksX9_read_0 13 rfl rfl)
theorem dX9_read_16 : decode cX9_read 16 = .ok (.aload_n 0, 1) := dk_42 (dk_at dksX9_read_0 16 rfl rfl)
theorem dX9_read_17 : decode cX9_read 17 = .ok (.ldc 17, 2) := dk_18 17 (dk_at dksX9_read_0 17 rfl rfl)
theorem dX9_read_19 : decode cX9_read 19 = .ok (.invokevirtual 19, 3) := dk_182 0 19 (dk_at dksX9_read_0 19 rfl rfl)
theorem dX9_read_22 : decode cX9_read 22 = .ok (.ifCond .eq 7, 3) := dk_153 0 7 (dk_at dksX9_read_1 0 rfl rfl)
theorem dX9_read_25 : decode cX9_read 25 = .ok (.iconst 1, 1) := dk_4 (dk_at dksX9_read_1 3 rfl rfl)
theorem dX9_read_26 : decode cX9_read 26 = .ok (.goto 4, 3) := dk_167 0 4 (dk_at dksX9_read_1 4 rfl rfl)
theorem dX9_read_29 : decode cX9_read 29 = .ok (.iconst 0, 1) := dk_3 (dk_at dksX9_read_1 7 rfl rfl)
theorem dX9_read_30 : decode cX9_read 30 = .ok (.iconst 1, 1) := dk_4 (dk_at dksX9_read_1 8 rfl rfl)
theorem dX9_read_31 : decode cX9_read 31 = .ok (.invokevirtual 23, 3) := dk_182 0 23 (dk_at dksX9_read_1 9 rfl rfl)
theorem dX9_read_34 : decode cX9_read 34 = .ok (.aload_n 0, 1) := dk_42 (dk_at dksX9_read_1 12 rfl rfl)
theorem dX9_read_35 : decode cX9_read 35 = .ok (.iload_n 2, 1) := dk_28 (dk_at dksX9_read_1 13 rfl rfl)
theorem dX9_read_36 : decode cX9_read 36 = .ok (.bipush 8, 2) := dk_16 8 (dk_at dksX9_read_1 14 rfl rfl)
theorem dX9_read_38 : decode cX9_read 38 = .ok (.if_icmp .ge 7, 3) := dk_162 0 7 (dk_at dksX9_read_1 16 rfl rfl)
theorem dX9_read_41 : decode cX9_read 41 = .ok (.iconst 1, 1) := dk_4 (dk_at dksX9_read_1 19 rfl rfl)
theorem dX9_read_42 : decode cX9_read 42 = .ok (.goto 4, 3) := dk_167 0 4 (dk_at dksX9_read_1 20 rfl rfl)
theorem dX9_read_45 : decode cX9_read 45 = .ok (.iconst 0, 1) := dk_3 (dk_at dksX9_read_1 23 rfl rfl)
theorem dX9_read_46 : decode cX9_read 46 = .ok (.iconst 3, 1) := dk_6 (dk_at dksX9_read_2 0 rfl rfl)
theorem dX9_read_47 : decode cX9_read 47 = .ok (.invokevirtual 23, 3) := dk_182 0 23 (dk_at dksX9_read_2 1 rfl rfl)
theorem dX9_read_50 : decode cX9_read 50 = .ok (.aload_n 1, 1) := dk_43 (dk_at dksX9_read_2 4 rfl rfl)
theorem dX9_read_51 : decode cX9_read 51 = .ok (.iload_n 2, 1) := dk_28 (dk_at dksX9_read_2 5 rfl rfl)
theorem dX9_read_52 : decode cX9_read 52 = .ok (.aload_n 0, 1) := dk_42 (dk_at dksX9_read_2 6 rfl rfl)
theorem dX9_read_53 : decode cX9_read 53 = .ok (.invokevirtual 27, 3) := dk_182 0 27 (dk_at dksX9_read_2 7 rfl rfl)
theorem dX9_read_56 : decode cX9_read 56 = .ok (.aastore, 1) := dk_83 (dk_at dksX9_read_2 10 rfl rfl)
theorem dX9_read_57 : decode cX9_read 57 = .ok (.iinc 2 1, 3) := dk_132 2 1 (dk_at dksX9_read_2 11 rfl rfl)
theorem dX9_read_60 : decode cX9_read 60 = .ok (.aload_n 0, 1) := dk_42 (dk_at dksX9_read_2 14 rfl rfl)
theorem dX9_read_61 : decode cX9_read 61 = .ok (.invokevirtual 31, 3) := dk_182 0 31 (dk_at dksX9_read_2 15 rfl rfl)
theorem dX9_read_64 : decode cX9_read 64 = .ok (.ifCond .eq (-56), 3) := dk_153 255 200 (dk_at dksX9_read_2 18 rfl rfl)
theorem dX9_read_67 : decode cX9_read 67 = .ok (.iload_n 2, 1) := dk_28 (dk_at dksX9_read_2 21 rfl rfl)
theorem dX9_read_68 : decode cX9_read 68 = .ok (.anewarray 9, 3) := dk_189 0 9 (dk_at dksX9_read_3 0 rfl rfl)
theorem dX9_read_71 : decode cX9_read 71 = .ok (.astore_n 3, 1) := dk_78 (dk_at dksX9_read_3 3 rfl rfl)
theorem dX9_read_72 : decode cX9_read 72 = .ok (.iconst 0, 1) := dk_3 (dk_at dksX9_read_3 4 rfl rfl)
theorem dX9_read_73 : decode cX9_read 73 = .ok (.istore 4, 2) := dk_54 4 (dk_at dksX9_read_3 5 rfl rfl)
theorem dX9_read_75 : decode cX9_read 75 = .ok (.iload 4, 2) := dk_21 4 (dk_at dksX9_read_3 7 rfl rfl)
theorem dX9_read_77 : decode cX9_read 77 = .ok (.iload_n 2, 1) := dk_28 (dk_at dksX9_read_3 9 rfl rfl)
theorem dX9_read_78 : decode cX9_read 78 = .ok (.if_icmp .ge 17, 3) := dk_162 0 17 (dk_at dksX9_read_3 10 rfl rfl)
theorem dX9_read_81 : decode cX9_read 81 = .ok (.aload_n 3, 1) := dk_45 (dk_at dksX9_read_3 13 rfl rfl)
theorem dX9_read_82 : decode cX9_read 82 = .ok (.iload 4, 2) := dk_21 4 (dk_at dksX9_read_3 14 rfl rfl)
theorem dX9_read_84 : decode cX9_read 84 = .ok (.aload_n 1, 1) := dk_43 (dk_at dksX9_read_3 16 rfl rfl)
theorem dX9_read_85 : decode cX9_read 85 = .ok (.iload 4, 2) := dk_21 4 (dk_at dksX9_read_3 17 rfl rfl)
theorem dX9_read_87 : decode cX9_read 87 = .ok (.aaload, 1) := dk_50 (dk_at dksX9_read_3 19 rfl rfl)
theorem dX9_read_88 : decode cX9_read 88 = .ok (.aastore, 1) := dk_83 (dk_at dksX9_read_3 20 rfl rfl)
theorem dX9_read_89 : decode cX9_read 89 = .ok (.iinc 4 1, 3) := dk_132 4 1 (dk_at dksX9_read_3 21 rfl rfl)
theorem dX9_read_92 : decode cX9_read 92 = .ok (.goto (-17), 3) := dk_167 255 239 (dk_at dksX9_read_4 0 rfl rfl)
theorem dX9_read_95 : decode cX9_read 95 = .ok (.aload_n 3, 1) := dk_45 (dk_at dksX9_read_4 3 rfl rfl)
theorem dX9_read_96 : decode cX9_read 96 = .ok (.areturn, 1) := dk_176 (dk_at dksX9_read_4 4 rfl rfl)
def dkwX9_row_3 : List UInt8 := [182, 0, 43, 28, 188, 10, 78, 43, 3, 45, 3, 28, 184, 0, 47, 45, 176]
abbrev dktX9_row_3 : List UInt8 := dkwX9_row_3 ++ []
def dkwX9_row_2 : List UInt8 := [153, 0, 7, 2, 167, 0, 10, 42, 3, 16, 39, 182, 0, 37, 79, 132, 2, 1, 167, 255, 198, 42, 18, 41]
abbrev dktX9_row_2 : List UInt8 := dkwX9_row_2 ++ dktX9_row_3
def dkwX9_row_1 : List UInt8 := [28, 16, 6, 162, 0, 7, 4, 167, 0, 4, 3, 6, 182, 0, 23, 43, 28, 42, 18, 17, 182, 0, 34]
abbrev dktX9_row_1 : List UInt8 := dkwX9_row_1 ++ dktX9_row_2
def dkwX9_row_0 : List UInt8 := [16, 6, 188, 10, 76, 3, 61, 42, 182, 0, 11, 154, 0, 12, 42, 18, 17, 182, 0, 19, 153, 0, 48, 42]
abbrev dktX9_row_0 : List UInt8 := dkwX9_row_0 ++ dktX9_row_1
theorem dksX9_row_0 : cX9_row.data.toList.drop 0 = dktX9_row_0 := by decide +kernel
theorem dksX9_row_1 : cX9_row.data.toList.drop 24 = dktX9_row_1 := dk_seg dksX9_row_0 24 rfl rfl
theorem dksX9_row_2 : cX9_row.data.toList.drop 47 = dktX9_row_2 := dk_seg dksX9_row_1 23 rfl rfl
theorem dksX9_row_3 : cX9_row.data.toList.drop 71 = dktX9_row_3 := dk_seg dksX9_row_2 24 rfl rfl
theorem dX9_row_0 : decode cX9_row 0 = .ok (.bipush 6, 2) := dk_16 6 (dk_at dksX9_row_0 0 rfl rfl)
theorem dX9_row_2 : decode cX9_row 2 = .ok (.newarray .int, 2) := dk_188_10 (dk_at dksX9_row_0 2 rfl rfl)
theorem dX9_row_4 : decode cX9_row 4 = .ok (.astore_n 1, 1) := dk_76 (dk_at dksX9_row_0 4 rfl rfl)
theorem dX9_row_5 : decode cX9_row 5 = .ok (.iconst 0, 1) := dk_3 (dk_at dksX9_row_0 5 rfl rfl)
theorem dX9_row_6 : decode cX9_row 6 = .ok (.istore_n 2, 1) := dk_61 (dk_at dksX9_row_0 6 rfl rfl)
theorem dX9_row_7 : decode cX9_row 7 = .ok (.aload_n 0, 1) := dk_42 (dk_at dksX9_row_0 7 rfl rfl)
theorem dX9_row_8 : decode cX9_row 8 = .ok (.invokevirtual 11, 3) := dk_182 0 11 (dk_at dksX9_row_0 8 rfl rfl)
theorem dX9_row_11 : decode cX9_row 11 = .ok (.ifCond .ne 12, 3) := dk_154 0 12 (dk_at dksX9_row_0 11 rfl rfl)
theorem dX9_row_14 : decode cX9_row 14 = .ok (.aload_n 0, 1) := dk_42 (dk_at dksX9_row_0 14 rfl rfl)
theorem dX9_row_15 : decode cX9_row 15 = .ok (.ldc 17, 2) := dk_18 17 (dk_at dksX9_row_0 15 rfl rfl)
theorem dX9_row_17 : decode cX9_row 17 = .ok (.invokevirtual 19, 3) := dk_182 0 19 (dk_at dksX9_row_0 17 rfl rfl)
theorem dX9_row_20 : decode cX9_row 20 = .ok (.ifCond .eq 48, 3) := dk_153 0 48 (dk_at dksX9_row_0 20 rfl rfl)
theorem dX9_row_23 : decode cX9_row 23 = .ok (.aload_n 0, 1) := dk_42 (dk_at dksX9_row_0 23 rfl rfl)
theorem dX9_row_24 : decode cX9_row 24 = .ok (.iload_n 2, 1) := dk_28 (dk_at dksX9_row_1 0 rfl rfl)
theorem dX9_row_25 : decode cX9_row 25 = .ok (.bipush 6, 2) := dk_16 6 (dk_at dksX9_row_1 1 rfl rfl)
theorem dX9_row_27 : decode cX9_row 27 = .ok (.if_icmp .ge 7, 3) := dk_162 0 7 (dk_at dksX9_row_1 3 rfl rfl)
theorem dX9_row_30 : decode cX9_row 30 = .ok (.iconst 1, 1) := dk_4 (dk_at dksX9_row_1 6 rfl rfl)
theorem dX9_row_31 : decode cX9_row 31 = .ok (.goto 4, 3) := dk_167 0 4 (dk_at dksX9_row_1 7 rfl rfl)
theorem dX9_row_34 : decode cX9_row 34 = .ok (.iconst 0, 1) := dk_3 (dk_at dksX9_row_1 10 rfl rfl)
theorem dX9_row_35 : decode cX9_row 35 = .ok (.iconst 3, 1) := dk_6 (dk_at dksX9_row_1 11 rfl rfl)
theorem dX9_row_36 : decode cX9_row 36 = .ok (.invokevirtual 23, 3) := dk_182 0 23 (dk_at dksX9_row_1 12 rfl rfl)
theorem dX9_row_39 : decode cX9_row 39 = .ok (.aload_n 1, 1) := dk_43 (dk_at dksX9_row_1 15 rfl rfl)
theorem dX9_row_40 : decode cX9_row 40 = .ok (.iload_n 2, 1) := dk_28 (dk_at dksX9_row_1 16 rfl rfl)
theorem dX9_row_41 : decode cX9_row 41 = .ok (.aload_n 0, 1) := dk_42 (dk_at dksX9_row_1 17 rfl rfl)
theorem dX9_row_42 : decode cX9_row 42 = .ok (.ldc 17, 2) := dk_18 17 (dk_at dksX9_row_1 18 rfl rfl)
theorem dX9_row_44 : decode cX9_row 44 = .ok (.invokevirtual 34, 3) := dk_182 0 34 (dk_at dksX9_row_1 20 rfl rfl)
theorem dX9_row_47 : decode cX9_row 47 = .ok (.ifCond .eq 7, 3) := dk_153 0 7 (dk_at dksX9_row_2 0 rfl rfl)
theorem dX9_row_50 : decode cX9_row 50 = .ok (.iconst (-1), 1) := dk_2 (dk_at dksX9_row_2 3 rfl rfl)
theorem dX9_row_51 : decode cX9_row 51 = .ok (.goto 10, 3) := dk_167 0 10 (dk_at dksX9_row_2 4 rfl rfl)
theorem dX9_row_54 : decode cX9_row 54 = .ok (.aload_n 0, 1) := dk_42 (dk_at dksX9_row_2 7 rfl rfl)
theorem dX9_row_55 : decode cX9_row 55 = .ok (.iconst 0, 1) := dk_3 (dk_at dksX9_row_2 8 rfl rfl)
theorem dX9_row_56 : decode cX9_row 56 = .ok (.bipush 39, 2) := dk_16 39 (dk_at dksX9_row_2 9 rfl rfl)
theorem dX9_row_58 : decode cX9_row 58 = .ok (.invokevirtual 37, 3) := dk_182 0 37 (dk_at dksX9_row_2 11 rfl rfl)
theorem dX9_row_61 : decode cX9_row 61 = .ok (.iastore, 1) := dk_79 (dk_at dksX9_row_2 14 rfl rfl)
theorem dX9_row_62 : decode cX9_row 62 = .ok (.iinc 2 1, 3) := dk_132 2 1 (dk_at dksX9_row_2 15 rfl rfl)
theorem dX9_row_65 : decode cX9_row 65 = .ok (.goto (-58), 3) := dk_167 255 198 (dk_at dksX9_row_2 18 rfl rfl)
theorem dX9_row_68 : decode cX9_row 68 = .ok (.aload_n 0, 1) := dk_42 (dk_at dksX9_row_2 21 rfl rfl)
theorem dX9_row_69 : decode cX9_row 69 = .ok (.ldc 41, 2) := dk_18 41 (dk_at dksX9_row_2 22 rfl rfl)
theorem dX9_row_71 : decode cX9_row 71 = .ok (.invokevirtual 43, 3) := dk_182 0 43 (dk_at dksX9_row_3 0 rfl rfl)
theorem dX9_row_74 : decode cX9_row 74 = .ok (.iload_n 2, 1) := dk_28 (dk_at dksX9_row_3 3 rfl rfl)
theorem dX9_row_75 : decode cX9_row 75 = .ok (.newarray .int, 2) := dk_188_10 (dk_at dksX9_row_3 4 rfl rfl)
theorem dX9_row_77 : decode cX9_row 77 = .ok (.astore_n 3, 1) := dk_78 (dk_at dksX9_row_3 6 rfl rfl)
theorem dX9_row_78 : decode cX9_row 78 = .ok (.aload_n 1, 1) := dk_43 (dk_at dksX9_row_3 7 rfl rfl)
theorem dX9_row_79 : decode cX9_row 79 = .ok (.iconst 0, 1) := dk_3 (dk_at dksX9_row_3 8 rfl rfl)
theorem dX9_row_80 : decode cX9_row 80 = .ok (.aload_n 3, 1) := dk_45 (dk_at dksX9_row_3 9 rfl rfl)
theorem dX9_row_81 : decode cX9_row 81 = .ok (.iconst 0, 1) := dk_3 (dk_at dksX9_row_3 10 rfl rfl)
theorem dX9_row_82 : decode cX9_row 82 = .ok (.iload_n 2, 1) := dk_28 (dk_at dksX9_row_3 11 rfl rfl)
theorem dX9_row_83 : decode cX9_row 83 = .ok (.invokestatic 47, 3) := dk_184 0 47 (dk_at dksX9_row_3 12 rfl rfl)
theorem dX9_row_86 : decode cX9_row 86 = .ok (.aload_n 3, 1) := dk_45 (dk_at dksX9_row_3 15 rfl rfl)
theorem dX9_row_87 : decode cX9_row 87 = .ok (.areturn, 1) := dk_176 (dk_at dksX9_row_3 16 rfl rfl)
def dkwX10_init_0 : List UInt8 := [42, 1, 1, 3, 3, 183, 0, 1, 42, 27, 181, 0, 7, 42, 28, 181, 0, 13, 177]
abbrev dktX10_init_0 : List UInt8 := dkwX10_init_0 ++ []
theorem dksX10_init_0 : cX10_init.data.toList.drop 0 = dktX10_init_0 := by decide +kernel
theorem dX10_init_0 : decode cX10_init 0 = .ok (.aload_n 0, 1) := dk_42 (dk_at dksX10_init_0 0 rfl rfl)
theorem dX10_init_1 : decode cX10_init 1 = .ok (.aconst_null, 1) := dk_1 (dk_at dksX10_init_0 1 rfl rfl)
theorem dX10_init_2 : decode cX10_init 2 = .ok (.aconst_null, 1) := dk_1 (dk_at dksX10_init_0 2 rfl rfl)
theorem dX10_init_3 : decode cX10_init 3 = .ok (.iconst 0, 1) := dk_3 (dk_at dksX10_init_0 3 rfl rfl)
theorem dX10_init_4 : decode cX10_init 4 = .ok (.iconst 0, 1) := dk_3 (dk_at dksX10_init_0 4 rfl rfl)
theorem dX10_init_5 : decode cX10_init 5 = .ok (.invokespecial 1, 3) := dk_183 0 1 (dk_at dksX10_init_0 5 rfl rfl)
theorem dX10_init_8 : decode cX10_init 8 = .ok (.aload_n 0, 1) := dk_42 (dk_at dksX10_init_0 8 rfl rfl)
theorem dX10_init_9 : decode cX10_init 9 = .ok (.iload_n 1, 1) := dk_27 (dk_at dksX10_init_0 9 rfl rfl)
theorem dX10_init_10 : decode cX10_init 10 = .ok (.putfield 7, 3) := dk_181 0 7 (dk_at dksX10_init_0 10 rfl rfl)
theorem dX10_init_13 : decode cX10_init 13 = .ok (.aload_n 0, 1) := dk_42 (dk_at dksX10_init_0 13 rfl rfl)
theorem dX10_init_14 : decode cX10_init 14 = .ok (.iload_n 2, 1) := dk_28 (dk_at dksX10_init_0 14 rfl rfl)
theorem dX10_init_15 : decode cX10_init 15 = .ok (.putfield 13, 3) := dk_181 0 13 (dk_at dksX10_init_0 15 rfl rfl)
theorem dX10_init_18 : decode cX10_init 18 = .ok (.return_, 1) := dk_177 (dk_at dksX10_init_0 18 rfl rfl)
def dkwX11_init_0 : List UInt8 := [42, 43, 28, 183, 0, 3, 177]
abbrev dktX11_init_0 : List UInt8 := dkwX11_init_0 ++ []
theorem dksX11_init_0 : cX11_init.data.toList.drop 0 = dktX11_init_0 := by decide +kernel
theorem dX11_init_0 : decode cX11_init 0 = .ok (.aload_n 0, 1) := dk_42 (dk_at dksX11_init_0 0 rfl rfl)
theorem dX11_init_1 : decode cX11_init 1 = .ok (.aload_n 1, 1) := dk_43 (dk_at dksX11_init_0 1 rfl rfl)
theorem dX11_init_2 : decode cX11_init 2 = .ok (.iload_n 2, 1) := dk_28 (dk_at dksX11_init_0 2 rfl rfl)
theorem dX11_init_3 : decode cX11_init 3 = .ok (.invokespecial 3, 3) := dk_183 0 3 (dk_at dksX11_init_0 3 rfl rfl)
theorem dX11_init_6 : decode cX11_init 6 = .ok (.return_, 1) := dk_177 (dk_at dksX11_init_0 6 rfl rfl)
def dkwX11_read_4 : List UInt8 := [182, 0, 50, 87, 42, 18, 54, 182, 0, 56, 167, 255, 163, 44, 176]
abbrev dktX11_read_4 : List UInt8 := dkwX11_read_4 ++ []
def dkwX11_read_3 : List UInt8 := [16, 12, 162, 0, 7, 4, 167, 0, 4, 3, 6, 182, 0, 32, 44, 180, 0, 36, 42, 182, 0, 46]
abbrev dktX11_read_3 : List UInt8 := dkwX11_read_3 ++ dktX11_read_4
def dkwX11_read_2 : List UInt8 := [182, 0, 22, 153, 0, 7, 4, 167, 0, 4, 3, 4, 182, 0, 32, 42, 44, 180, 0, 36, 182, 0, 40]
abbrev dktX11_read_2 : List UInt8 := dkwX11_read_2 ++ dktX11_read_3
def dkwX11_read_1 : List UInt8 := [154, 0, 30, 42, 18, 26, 182, 0, 22, 154, 0, 21, 42, 18, 28, 182, 0, 22, 154, 0, 12, 42, 18, 30]
abbrev dktX11_read_1 : List UInt8 := dkwX11_read_1 ++ dktX11_read_2
def dkwX11_read_0 : List UInt8 := [187, 0, 9, 89, 27, 183, 0, 11, 77, 42, 182, 0, 14, 154, 0, 92, 42, 42, 18, 20, 182, 0, 22]
abbrev dktX11_read_0 : List UInt8 := dkwX11_read_0 ++ dktX11_read_1
theorem dksX11_read_0 : cX11_read.data.toList.drop 0 = dktX11_read_0 := by decide +kernel
theorem dksX11_read_1 : cX11_read.data.toList.drop 23 = dktX11_read_1 := dk_seg dksX11_read_0 23 rfl rfl
theorem dksX11_read_2 : cX11_read.data.toList.drop 47 = dktX11_read_2 := dk_seg dksX11_read_1 24 rfl rfl
theorem dksX11_read_3 : cX11_read.data.toList.drop 70 = dktX11_read_3 := dk_seg dksX11_read_2 23 rfl rfl
theorem dksX11_read_4 : cX11_read.data.toList.drop 92 = dktX11_read_4 := dk_seg dksX11_read_3 22 rfl rfl
theorem dX11_read_0 : decode cX11_read 0 = .ok (.new 9, 3) := dk_187 0 9 (dk_at dksX11_read_0 0 rfl rfl)
theorem dX11_read_3 : decode cX11_read 3 = .ok (.dup, 1) := dk_89 (dk_at dksX11_read_0 3 rfl rfl)
theorem dX11_read_4 : decode cX11_read 4 = .ok (.iload_n 1, 1) := dk_27 (dk_at dksX11_read_0 4 rfl rfl)
theorem dX11_read_5 : decode cX11_read 5 = .ok (.invokespecial 11, 3) := dk_183 0 11 (dk_at dksX11_read_0 5 rfl rfl)
theorem dX11_read_8 : decode cX11_read 8 = .ok (.astore_n 2, 1) := dk_77 (dk_at dksX11_read_0 8 rfl rfl)
theorem dX11_read_9 : decode cX11_read 9 = .ok (.aload_n 0, 1) := dk_42 (dk_at dksX11_read_0 9 rfl rfl)
theorem dX11_read_10 : decode cX11_read 10 = .ok (.invokevirtual 14, 3) := dk_182 0 14 (dk_at dksX11_read_0 10 rfl rfl)
theorem dX11_read_13 : decode cX11_read 13 = .ok (.ifCond .ne 92, 3) := dk_154 0 92 (dk_at dksX11_read_0 13 rfl rfl)
theorem dX11_read_16 : decode cX11_read 16 = .ok (.aload_n 0, 1) := dk_42 (dk_at dksX11_read_0 16 rfl rfl)
theorem dX11_read_17 : decode cX11_read 17 = .ok (.aload_n 0, 1) := dk_42 (dk_at dksX11_read_0 17 rfl rfl)
theorem dX11_read_18 : decode cX11_read 18 = .ok (.ldc 20, 2) := dk_18 20 (dk_at dksX11_read_0 18 rfl rfl)
theorem dX11_read_20 : decode cX11_read 20 = .ok (.invokevirtual 22, 3) := dk_182 0 22 (dk_at dksX11_read_0 20 rfl rfl)
theorem dX11_read_23 : decode cX11_read 23 = .ok (.ifCond .ne 30, 3) := dk_154 0 30 (dk_at dksX11_read_1 0 rfl rfl)
theorem dX11_read_26 : decode cX11_read 26 = .ok (.aload_n 0, 1) := dk_42 (dk_at dksX11_read_1 3 rfl rfl)
theorem dX11_read_27 : decode cX11_read 27 = .ok (.ldc 26, 2) := dk_18 26 (dk_at dksX11_read_1 4 rfl rfl)
theorem dX11_read_29 : decode cX11_read 29 = .ok (.invokevirtual 22, 3) := dk_182 0 22 (dk_at dksX11_read_1 6 rfl rfl)
theorem dX11_read_32 : decode cX11_read 32 = .ok (.ifCond .ne 21, 3) := dk_154 0 21 (dk_at dksX11_read_1 9 rfl rfl)
theorem dX11_read_35 : decode cX11_read 35 = .ok (.aload_n 0, 1) := dk_42 (dk_at dksX11_read_1 12 rfl rfl)
theorem dX11_read_36 : decode cX11_read 36 = .ok (.ldc 28, 2) := dk_18 28 (dk_at dksX11_read_1 13 rfl rfl)
theorem dX11_read_38 : decode cX11_read 38 = .ok (.invokevirtual 22, 3) := dk_182 0 22 (dk_at dksX11_read_1 15 rfl rfl)
theorem dX11_read_41 : decode cX11_read 41 = .ok (.ifCond .ne 12, 3) := dk_154 0 12 (dk_at dksX11_read_1 18 rfl rfl)
theorem dX11_read_44 : decode cX11_read 44 = .ok (.aload_n 0, 1) := dk_42 (dk_at dksX11_read_1 21 rfl rfl)
theorem dX11_read_45 : decode cX11_read 45 = .ok (.ldc 30, 2) := dk_18 30 (dk_at dksX11_read_1 22 rfl rfl)
theorem dX11_read_47 : decode cX11_read 47 = .ok (.invokevirtual 22, 3) := dk_182 0 22 (dk_at dksX11_read_2 0 rfl rfl)
theorem dX11_read_50 : decode cX11_read 50 = .ok (.ifCond .eq 7, 3) := dk_153 0 7 (dk_at dksX11_read_2 3 rfl rfl)
theorem dX11_read_53 : decode cX11_read 53 = .ok (.iconst 1, 1) := dk_4 (dk_at dksX11_read_2 6 rfl rfl)
theorem dX11_read_54 : decode cX11_read 54 = .ok (.goto 4, 3) := dk_167 0 4 (dk_at dksX11_read_2 7 rfl rfl)
theorem dX11_read_57 : decode cX11_read 57 = .ok (.iconst 0, 1) := dk_3 (dk_at dksX11_read_2 10 rfl rfl)
theorem dX11_read_58 : decode cX11_read 58 = .ok (.iconst 1, 1) := dk_4 (dk_at dksX11_read_2 11 rfl rfl)
theorem dX11_read_59 : decode cX11_read 59 = .ok (.invokevirtual 32, 3) := dk_182 0 32 (dk_at dksX11_read_2 12 rfl rfl)
theorem dX11_read_62 : decode cX11_read 62 = .ok (.aload_n 0, 1) := dk_42 (dk_at dksX11_read_2 15 rfl rfl)
theorem dX11_read_63 : decode cX11_read 63 = .ok (.aload_n 2, 1) := dk_44 (dk_at dksX11_read_2 16 rfl rfl)
theorem dX11_read_64 : decode cX11_read 64 = .ok (.getfield 36, 3) := dk_180 0 36 (dk_at dksX11_read_2 17 rfl rfl)
theorem dX11_read_67 : decode cX11_read 67 = .ok (.invokevirtual 40, 3) := dk_182 0 40 (dk_at dksX11_read_2 20 rfl rfl)
theorem dX11_read_70 : decode cX11_read 70 = .ok (.bipush 12, 2) := dk_16 12 (dk_at dksX11_read_3 0 rfl rfl)
theorem dX11_read_72 : decode cX11_read 72 = .ok (.if_icmp .ge 7, 3) := dk_162 0 7 (dk_at dksX11_read_3 2 rfl rfl)
theorem dX11_read_75 : decode cX11_read 75 = .ok (.iconst 1, 1) := dk_4 (dk_at dksX11_read_3 5 rfl rfl)
theorem dX11_read_76 : decode cX11_read 76 = .ok (.goto 4, 3) := dk_167 0 4 (dk_at dksX11_read_3 6 rfl rfl)
theorem dX11_read_79 : decode cX11_read 79 = .ok (.iconst 0, 1) := dk_3 (dk_at dksX11_read_3 9 rfl rfl)
theorem dX11_read_80 : decode cX11_read 80 = .ok (.iconst 3, 1) := dk_6 (dk_at dksX11_read_3 10 rfl rfl)
theorem dX11_read_81 : decode cX11_read 81 = .ok (.invokevirtual 32, 3) := dk_182 0 32 (dk_at dksX11_read_3 11 rfl rfl)
theorem dX11_read_84 : decode cX11_read 84 = .ok (.aload_n 2, 1) := dk_44 (dk_at dksX11_read_3 14 rfl rfl)
theorem dX11_read_85 : decode cX11_read 85 = .ok (.getfield 36, 3) := dk_180 0 36 (dk_at dksX11_read_3 15 rfl rfl)
theorem dX11_read_88 : decode cX11_read 88 = .ok (.aload_n 0, 1) := dk_42 (dk_at dksX11_read_3 18 rfl rfl)
theorem dX11_read_89 : decode cX11_read 89 = .ok (.invokevirtual 46, 3) := dk_182 0 46 (dk_at dksX11_read_3 19 rfl rfl)
theorem dX11_read_92 : decode cX11_read 92 = .ok (.invokevirtual 50, 3) := dk_182 0 50 (dk_at dksX11_read_4 0 rfl rfl)
theorem dX11_read_95 : decode cX11_read 95 = .ok (.pop, 1) := dk_87 (dk_at dksX11_read_4 3 rfl rfl)
theorem dX11_read_96 : decode cX11_read 96 = .ok (.aload_n 0, 1) := dk_42 (dk_at dksX11_read_4 4 rfl rfl)
theorem dX11_read_97 : decode cX11_read 97 = .ok (.ldc 54, 2) := dk_18 54 (dk_at dksX11_read_4 5 rfl rfl)
theorem dX11_read_99 : decode cX11_read 99 = .ok (.invokevirtual 56, 3) := dk_182 0 56 (dk_at dksX11_read_4 7 rfl rfl)
theorem dX11_read_102 : decode cX11_read 102 = .ok (.goto (-93), 3) := dk_167 255 163 (dk_at dksX11_read_4 10 rfl rfl)
theorem dX11_read_105 : decode cX11_read 105 = .ok (.aload_n 2, 1) := dk_44 (dk_at dksX11_read_4 13 rfl rfl)
theorem dX11_read_106 : decode cX11_read 106 = .ok (.areturn, 1) := dk_176 (dk_at dksX11_read_4 14 rfl rfl)
def dkwX11_clause_10 : List UInt8 := [176]
abbrev dktX11_clause_10 : List UInt8 := dkwX11_clause_10 ++ []
def dkwX11_clause_9 : List UInt8 := [181, 0, 96, 42, 18, 99, 182, 0, 60, 153, 0, 14, 45, 42, 4, 16, 99, 182, 0, 87, 181, 0, 101, 45]
abbrev dktX11_clause_9 : List UInt8 := dkwX11_clause_9 ++ dktX11_clause_10
def dkwX11_clause_8 : List UInt8 := [89, 27, 28, 183, 0, 93, 78, 42, 18, 94, 182, 0, 60, 153, 0, 14, 45, 42, 5, 16, 6, 182, 0, 87]
abbrev dktX11_clause_8 : List UInt8 := dkwX11_clause_8 ++ dktX11_clause_9
def dkwX11_clause_7 : List UInt8 := [42, 18, 85, 182, 0, 60, 153, 0, 7, 2, 167, 0, 10, 42, 4, 16, 6, 182, 0, 87, 61, 187, 0, 91]
abbrev dktX11_clause_7 : List UInt8 := dkwX11_clause_7 ++ dktX11_clause_8
def dkwX11_clause_6 : List UInt8 := [27, 4, 160, 0, 9, 42, 18, 26, 182, 0, 56, 42, 18, 83, 182, 0, 60, 153, 0, 7, 3, 167, 0, 23]
abbrev dktX11_clause_6 : List UInt8 := dkwX11_clause_6 ++ dktX11_clause_7
def dkwX11_clause_5 : List UInt8 := [187, 0, 80, 89, 27, 183, 0, 82, 176, 42, 18, 20, 182, 0, 60, 153, 0, 7, 3, 167, 0, 4, 4, 60]
abbrev dktX11_clause_5 : List UInt8 := dkwX11_clause_5 ++ dktX11_clause_6
def dkwX11_clause_4 : List UInt8 := [42, 27, 184, 0, 72, 2, 160, 0, 7, 4, 167, 0, 4, 3, 5, 182, 0, 32, 42, 182, 0, 66]
abbrev dktX11_clause_4 : List UInt8 := dkwX11_clause_4 ++ dktX11_clause_5
def dkwX11_clause_3 : List UInt8 := [187, 0, 75, 89, 27, 28, 183, 0, 77, 176, 42, 18, 30, 182, 0, 60, 153, 0, 39, 42, 182, 0, 63, 60]
abbrev dktX11_clause_3 : List UInt8 := dkwX11_clause_3 ++ dktX11_clause_4
def dkwX11_clause_2 : List UInt8 := [160, 0, 7, 4, 167, 0, 4, 3, 160, 0, 7, 4, 167, 0, 4, 3, 5, 182, 0, 32, 42, 182, 0, 66]
abbrev dktX11_clause_2 : List UInt8 := dkwX11_clause_2 ++ dktX11_clause_3
def dkwX11_clause_1 : List UInt8 := [42, 182, 0, 63, 61, 42, 27, 184, 0, 72, 2, 160, 0, 7, 4, 167, 0, 4, 3, 28, 184, 0, 72, 2]
abbrev dktX11_clause_1 : List UInt8 := dkwX11_clause_1 ++ dktX11_clause_2
def dkwX11_clause_0 : List UInt8 := [42, 18, 28, 182, 0, 60, 153, 0, 76, 42, 182, 0, 63, 60, 42, 182, 0, 66, 42, 18, 70, 182, 0, 56]
abbrev dktX11_clause_0 : List UInt8 := dkwX11_clause_0 ++ dktX11_clause_1
theorem dksX11_clause_0 : cX11_clause.data.toList.drop 0 = dktX11_clause_0 := by decide +kernel
theorem dksX11_clause_1 : cX11_clause.data.toList.drop 24 = dktX11_clause_1 := dk_seg dksX11_clause_0 24 rfl rfl
theorem dksX11_clause_2 : cX11_clause.data.toList.drop 48 = dktX11_clause_2 := dk_seg dksX11_clause_1 24 rfl rfl
theorem dksX11_clause_3 : cX11_clause.data.toList.drop 72 = dktX11_clause_3 := dk_seg dksX11_clause_2 24 rfl rfl
theorem dksX11_clause_4 : cX11_clause.data.toList.drop 96 = dktX11_clause_4 := dk_seg dksX11_clause_3 24 rfl rfl
theorem dksX11_clause_5 : cX11_clause.data.toList.drop 118 = dktX11_clause_5 := dk_seg dksX11_clause_4 22 rfl rfl
theorem dksX11_clause_6 : cX11_clause.data.toList.drop 142 = dktX11_clause_6 := dk_seg dksX11_clause_5 24 rfl rfl
theorem dksX11_clause_7 : cX11_clause.data.toList.drop 166 = dktX11_clause_7 := dk_seg dksX11_clause_6 24 rfl rfl
theorem dksX11_clause_8 : cX11_clause.data.toList.drop 190 = dktX11_clause_8 := dk_seg dksX11_clause_7 24 rfl rfl
theorem dksX11_clause_9 : cX11_clause.data.toList.drop 214 = dktX11_clause_9 := dk_seg dksX11_clause_8 24 rfl rfl
theorem dksX11_clause_10 : cX11_clause.data.toList.drop 238 = dktX11_clause_10 := dk_seg dksX11_clause_9 24 rfl rfl
theorem dX11_clause_0 : decode cX11_clause 0 = .ok (.aload_n 0, 1) := dk_42 (dk_at dksX11_clause_0 0 rfl rfl)
theorem dX11_clause_1 : decode cX11_clause 1 = .ok (.ldc 28, 2) := dk_18 28 (dk_at dksX11_clause_0 1 rfl rfl)
theorem dX11_clause_3 : decode cX11_clause 3 = .ok (.invokevirtual 60, 3) := dk_182 0 60 (dk_at dksX11_clause_0 3 rfl rfl)
theorem dX11_clause_6 : decode cX11_clause 6 = .ok (.ifCond .eq 76, 3) := dk_153 0 76 (dk_at dksX11_clause_0 6 rfl rfl)
theorem dX11_clause_9 : decode cX11_clause 9 = .ok (.aload_n 0, 1) := dk_42 (dk_at dksX11_clause_0 9 rfl rfl)
theorem dX11_clause_10 : decode cX11_clause 10 = .ok (.invokevirtual 63, 3) := dk_182 0 63 (dk_at dksX11_clause_0 10 rfl rfl)
theorem dX11_clause_13 : decode cX11_clause 13 = .ok (.istore_n 1, 1) := dk_60 (dk_at dksX11_clause_0 13 rfl rfl)
theorem dX11_clause_14 : decode cX11_clause 14 = .ok (.aload_n 0, 1) := dk_42 (dk_at dksX11_clause_0 14 rfl rfl)
theorem dX11_clause_15 : decode cX11_clause 15 = .ok (.invokevirtual 66, 3) := dk_182 0 66 (dk_at dksX11_clause_0 15 rfl rfl)
theorem dX11_clause_18 : decode cX11_clause 18 = .ok (.aload_n 0, 1) := dk_42 (dk_at dksX11_clause_0 18 rfl rfl)
theorem dX11_clause_19 : decode cX11_clause 19 = .ok (.ldc 70, 2) := dk_18 70 (dk_at dksX11_clause_0 19 rfl rfl)
theorem dX11_clause_21 : decode cX11_clause 21 = .ok (.invokevirtual 56, 3) := dk_182 0 56 (dk_at dksX11_clause_0 21 rfl rfl)
theorem dX11_clause_24 : decode cX11_clause 24 = .ok (.aload_n 0, 1) := dk_42 (dk_at dksX11_clause_1 0 rfl rfl)
theorem dX11_clause_25 : decode cX11_clause 25 = .ok (.invokevirtual 63, 3) := dk_182 0 63 (dk_at dksX11_clause_1 1 rfl rfl)
theorem dX11_clause_28 : decode cX11_clause 28 = .ok (.istore_n 2, 1) := dk_61 (dk_at dksX11_clause_1 4 rfl rfl)
theorem dX11_clause_29 : decode cX11_clause 29 = .ok (.aload_n 0, 1) := dk_42 (dk_at dksX11_clause_1 5 rfl rfl)
theorem dX11_clause_30 : decode cX11_clause 30 = .ok (.iload_n 1, 1) := dk_27 (dk_at dksX11_clause_1 6 rfl rfl)
theorem dX11_clause_31 : decode cX11_clause 31 = .ok (.invokestatic 72, 3) := dk_184 0 72 (dk_at dksX11_clause_1 7 rfl rfl)
theorem dX11_clause_34 : decode cX11_clause 34 = .ok (.iconst (-1), 1) := dk_2 (dk_at dksX11_clause_1 10 rfl rfl)
theorem dX11_clause_35 : decode cX11_clause 35 = .ok (.if_icmp .ne 7, 3) := dk_160 0 7 (dk_at dksX11_clause_1 11 rfl rfl)
theorem dX11_clause_38 : decode cX11_clause 38 = .ok (.iconst 1, 1) := dk_4 (dk_at dksX11_clause_1 14 rfl rfl)
theorem dX11_clause_39 : decode cX11_clause 39 = .ok (.goto 4, 3) := dk_167 0 4 (dk_at dksX11_clause_1 15 rfl rfl)
theorem dX11_clause_42 : decode cX11_clause 42 = .ok (.iconst 0, 1) := dk_3 (dk_at dksX11_clause_1 18 rfl rfl)
theorem dX11_clause_43 : decode cX11_clause 43 = .ok (.iload_n 2, 1) := dk_28 (dk_at dksX11_clause_1 19 rfl rfl)
theorem dX11_clause_44 : decode cX11_clause 44 = .ok (.invokestatic 72, 3) := dk_184 0 72 (dk_at dksX11_clause_1 20 rfl rfl)
theorem dX11_clause_47 : decode cX11_clause 47 = .ok (.iconst (-1), 1) := dk_2 (dk_at dksX11_clause_1 23 rfl rfl)
theorem dX11_clause_48 : decode cX11_clause 48 = .ok (.if_icmp .ne 7, 3) := dk_160 0 7 (dk_at dksX11_clause_2 0 rfl rfl)
theorem dX11_clause_51 : decode cX11_clause 51 = .ok (.iconst 1, 1) := dk_4 (dk_at dksX11_clause_2 3 rfl rfl)
theorem dX11_clause_52 : decode cX11_clause 52 = .ok (.goto 4, 3) := dk_167 0 4 (dk_at dksX11_clause_2 4 rfl rfl)
theorem dX11_clause_55 : decode cX11_clause 55 = .ok (.iconst 0, 1) := dk_3 (dk_at dksX11_clause_2 7 rfl rfl)
theorem dX11_clause_56 : decode cX11_clause 56 = .ok (.if_icmp .ne 7, 3) := dk_160 0 7 (dk_at dksX11_clause_2 8 rfl rfl)
theorem dX11_clause_59 : decode cX11_clause 59 = .ok (.iconst 1, 1) := dk_4 (dk_at dksX11_clause_2 11 rfl rfl)
theorem dX11_clause_60 : decode cX11_clause 60 = .ok (.goto 4, 3) := dk_167 0 4 (dk_at dksX11_clause_2 12 rfl rfl)
theorem dX11_clause_63 : decode cX11_clause 63 = .ok (.iconst 0, 1) := dk_3 (dk_at dksX11_clause_2 15 rfl rfl)
theorem dX11_clause_64 : decode cX11_clause 64 = .ok (.iconst 2, 1) := dk_5 (dk_at dksX11_clause_2 16 rfl rfl)
theorem dX11_clause_65 : decode cX11_clause 65 = .ok (.invokevirtual 32, 3) := dk_182 0 32 (dk_at dksX11_clause_2 17 rfl rfl)
theorem dX11_clause_68 : decode cX11_clause 68 = .ok (.aload_n 0, 1) := dk_42 (dk_at dksX11_clause_2 20 rfl rfl)
theorem dX11_clause_69 : decode cX11_clause 69 = .ok (.invokevirtual 66, 3) := dk_182 0 66 (dk_at dksX11_clause_2 21 rfl rfl)
theorem dX11_clause_72 : decode cX11_clause 72 = .ok (.new 75, 3) := dk_187 0 75 (dk_at dksX11_clause_3 0 rfl rfl)
theorem dX11_clause_75 : decode cX11_clause 75 = .ok (.dup, 1) := dk_89 (dk_at dksX11_clause_3 3 rfl rfl)
theorem dX11_clause_76 : decode cX11_clause 76 = .ok (.iload_n 1, 1) := dk_27 (dk_at dksX11_clause_3 4 rfl rfl)
theorem dX11_clause_77 : decode cX11_clause 77 = .ok (.iload_n 2, 1) := dk_28 (dk_at dksX11_clause_3 5 rfl rfl)
theorem dX11_clause_78 : decode cX11_clause 78 = .ok (.invokespecial 77, 3) := dk_183 0 77 (dk_at dksX11_clause_3 6 rfl rfl)
theorem dX11_clause_81 : decode cX11_clause 81 = .ok (.areturn, 1) := dk_176 (dk_at dksX11_clause_3 9 rfl rfl)
theorem dX11_clause_82 : decode cX11_clause 82 = .ok (.aload_n 0, 1) := dk_42 (dk_at dksX11_clause_3 10 rfl rfl)
theorem dX11_clause_83 : decode cX11_clause 83 = .ok (.ldc 30, 2) := dk_18 30 (dk_at dksX11_clause_3 11 rfl rfl)
theorem dX11_clause_85 : decode cX11_clause 85 = .ok (.invokevirtual 60, 3) := dk_182 0 60 (dk_at dksX11_clause_3 13 rfl rfl)
theorem dX11_clause_88 : decode cX11_clause 88 = .ok (.ifCond .eq 39, 3) := dk_153 0 39 (dk_at dksX11_clause_3 16 rfl rfl)
theorem dX11_clause_91 : decode cX11_clause 91 = .ok (.aload_n 0, 1) := dk_42 (dk_at dksX11_clause_3 19 rfl rfl)
theorem dX11_clause_92 : decode cX11_clause 92 = .ok (.invokevirtual 63, 3) := dk_182 0 63 (dk_at dksX11_clause_3 20 rfl rfl)
theorem dX11_clause_95 : decode cX11_clause 95 = .ok (.istore_n 1, 1) := dk_60 (dk_at dksX11_clause_3 23 rfl rfl)
theorem dX11_clause_96 : decode cX11_clause 96 = .ok (.aload_n 0, 1) := dk_42 (dk_at dksX11_clause_4 0 rfl rfl)
theorem dX11_clause_97 : decode cX11_clause 97 = .ok (.iload_n 1, 1) := dk_27 (dk_at dksX11_clause_4 1 rfl rfl)
theorem dX11_clause_98 : decode cX11_clause 98 = .ok (.invokestatic 72, 3) := dk_184 0 72 (dk_at dksX11_clause_4 2 rfl rfl)
theorem dX11_clause_101 : decode cX11_clause 101 = .ok (.iconst (-1), 1) := dk_2 (dk_at dksX11_clause_4 5 rfl rfl)
theorem dX11_clause_102 : decode cX11_clause 102 = .ok (.if_icmp .ne 7, 3) := dk_160 0 7 (dk_at dksX11_clause_4 6 rfl rfl)
theorem dX11_clause_105 : decode cX11_clause 105 = .ok (.iconst 1, 1) := dk_4 (dk_at dksX11_clause_4 9 rfl rfl)
theorem dX11_clause_106 : decode cX11_clause 106 = .ok (.goto 4, 3) := dk_167 0 4 (dk_at dksX11_clause_4 10 rfl rfl)
theorem dX11_clause_109 : decode cX11_clause 109 = .ok (.iconst 0, 1) := dk_3 (dk_at dksX11_clause_4 13 rfl rfl)
theorem dX11_clause_110 : decode cX11_clause 110 = .ok (.iconst 2, 1) := dk_5 (dk_at dksX11_clause_4 14 rfl rfl)
theorem dX11_clause_111 : decode cX11_clause 111 = .ok (.invokevirtual 32, 3) := dk_182 0 32 (dk_at dksX11_clause_4 15 rfl rfl)
theorem dX11_clause_114 : decode cX11_clause 114 = .ok (.aload_n 0, 1) := dk_42 (dk_at dksX11_clause_4 18 rfl rfl)
theorem dX11_clause_115 : decode cX11_clause 115 = .ok (.invokevirtual 66, 3) := dk_182 0 66 (dk_at dksX11_clause_4 19 rfl rfl)
theorem dX11_clause_118 : decode cX11_clause 118 = .ok (.new 80, 3) := dk_187 0 80 (dk_at dksX11_clause_5 0 rfl rfl)
theorem dX11_clause_121 : decode cX11_clause 121 = .ok (.dup, 1) := dk_89 (dk_at dksX11_clause_5 3 rfl rfl)
theorem dX11_clause_122 : decode cX11_clause 122 = .ok (.iload_n 1, 1) := dk_27 (dk_at dksX11_clause_5 4 rfl rfl)
theorem dX11_clause_123 : decode cX11_clause 123 = .ok (.invokespecial 82, 3) := dk_183 0 82 (dk_at dksX11_clause_5 5 rfl rfl)
theorem dX11_clause_126 : decode cX11_clause 126 = .ok (.areturn, 1) := dk_176 (dk_at dksX11_clause_5 8 rfl rfl)
theorem dX11_clause_127 : decode cX11_clause 127 = .ok (.aload_n 0, 1) := dk_42 (dk_at dksX11_clause_5 9 rfl rfl)
theorem dX11_clause_128 : decode cX11_clause 128 = .ok (.ldc 20, 2) := dk_18 20 (dk_at dksX11_clause_5 10 rfl rfl)
theorem dX11_clause_130 : decode cX11_clause 130 = .ok (.invokevirtual 60, 3) := dk_182 0 60 (dk_at dksX11_clause_5 12 rfl rfl)
theorem dX11_clause_133 : decode cX11_clause 133 = .ok (.ifCond .eq 7, 3) := dk_153 0 7 (dk_at dksX11_clause_5 15 rfl rfl)
theorem dX11_clause_136 : decode cX11_clause 136 = .ok (.iconst 0, 1) := dk_3 (dk_at dksX11_clause_5 18 rfl rfl)
theorem dX11_clause_137 : decode cX11_clause 137 = .ok (.goto 4, 3) := dk_167 0 4 (dk_at dksX11_clause_5 19 rfl rfl)
theorem dX11_clause_140 : decode cX11_clause 140 = .ok (.iconst 1, 1) := dk_4 (dk_at dksX11_clause_5 22 rfl rfl)
theorem dX11_clause_141 : decode cX11_clause 141 = .ok (.istore_n 1, 1) := dk_60 (dk_at dksX11_clause_5 23 rfl rfl)
theorem dX11_clause_142 : decode cX11_clause 142 = .ok (.iload_n 1, 1) := dk_27 (dk_at dksX11_clause_6 0 rfl rfl)
theorem dX11_clause_143 : decode cX11_clause 143 = .ok (.iconst 1, 1) := dk_4 (dk_at dksX11_clause_6 1 rfl rfl)
theorem dX11_clause_144 : decode cX11_clause 144 = .ok (.if_icmp .ne 9, 3) := dk_160 0 9 (dk_at dksX11_clause_6 2 rfl rfl)
theorem dX11_clause_147 : decode cX11_clause 147 = .ok (.aload_n 0, 1) := dk_42 (dk_at dksX11_clause_6 5 rfl rfl)
theorem dX11_clause_148 : decode cX11_clause 148 = .ok (.ldc 26, 2) := dk_18 26 (dk_at dksX11_clause_6 6 rfl rfl)
theorem dX11_clause_150 : decode cX11_clause 150 = .ok (.invokevirtual 56, 3) := dk_182 0 56 (dk_at dksX11_clause_6 8 rfl rfl)
theorem dX11_clause_153 : decode cX11_clause 153 = .ok (.aload_n 0, 1) := dk_42 (dk_at dksX11_clause_6 11 rfl rfl)
theorem dX11_clause_154 : decode cX11_clause 154 = .ok (.ldc 83, 2) := dk_18 83 (dk_at dksX11_clause_6 12 rfl rfl)
theorem dX11_clause_156 : decode cX11_clause 156 = .ok (.invokevirtual 60, 3) := dk_182 0 60 (dk_at dksX11_clause_6 14 rfl rfl)
theorem dX11_clause_159 : decode cX11_clause 159 = .ok (.ifCond .eq 7, 3) := dk_153 0 7 (dk_at dksX11_clause_6 17 rfl rfl)
theorem dX11_clause_162 : decode cX11_clause 162 = .ok (.iconst 0, 1) := dk_3 (dk_at dksX11_clause_6 20 rfl rfl)
theorem dX11_clause_163 : decode cX11_clause 163 = .ok (.goto 23, 3) := dk_167 0 23 (dk_at dksX11_clause_6 21 rfl rfl)
theorem dX11_clause_166 : decode cX11_clause 166 = .ok (.aload_n 0, 1) := dk_42 (dk_at dksX11_clause_7 0 rfl rfl)
theorem dX11_clause_167 : decode cX11_clause 167 = .ok (.ldc 85, 2) := dk_18 85 (dk_at dksX11_clause_7 1 rfl rfl)
theorem dX11_clause_169 : decode cX11_clause 169 = .ok (.invokevirtual 60, 3) := dk_182 0 60 (dk_at dksX11_clause_7 3 rfl rfl)
theorem dX11_clause_172 : decode cX11_clause 172 = .ok (.ifCond .eq 7, 3) := dk_153 0 7 (dk_at dksX11_clause_7 6 rfl rfl)
theorem dX11_clause_175 : decode cX11_clause 175 = .ok (.iconst (-1), 1) := dk_2 (dk_at dksX11_clause_7 9 rfl rfl)
theorem dX11_clause_176 : decode cX11_clause 176 = .ok (.goto 10, 3) := dk_167 0 10 (dk_at dksX11_clause_7 10 rfl rfl)
theorem dX11_clause_179 : decode cX11_clause 179 = .ok (.aload_n 0, 1) := dk_42 (dk_at dksX11_clause_7 13 rfl rfl)
theorem dX11_clause_180 : decode cX11_clause 180 = .ok (.iconst 1, 1) := dk_4 (dk_at dksX11_clause_7 14 rfl rfl)
theorem dX11_clause_181 : decode cX11_clause 181 = .ok (.bipush 6, 2) := dk_16 6 (dk_at dksX11_clause_7 15 rfl rfl)
theorem dX11_clause_183 : decode cX11_clause 183 = .ok (.invokevirtual 87, 3) := dk_182 0 87 (dk_at dksX11_clause_7 17 rfl rfl)
theorem dX11_clause_186 : decode cX11_clause 186 = .ok (.istore_n 2, 1) := dk_61 (dk_at dksX11_clause_7 20 rfl rfl)
theorem dX11_clause_187 : decode cX11_clause 187 = .ok (.new 91, 3) := dk_187 0 91 (dk_at dksX11_clause_7 21 rfl rfl)
theorem dX11_clause_190 : decode cX11_clause 190 = .ok (.dup, 1) := dk_89 (dk_at dksX11_clause_8 0 rfl rfl)
theorem dX11_clause_191 : decode cX11_clause 191 = .ok (.iload_n 1, 1) := dk_27 (dk_at dksX11_clause_8 1 rfl rfl)
theorem dX11_clause_192 : decode cX11_clause 192 = .ok (.iload_n 2, 1) := dk_28 (dk_at dksX11_clause_8 2 rfl rfl)
theorem dX11_clause_193 : decode cX11_clause 193 = .ok (.invokespecial 93, 3) := dk_183 0 93 (dk_at dksX11_clause_8 3 rfl rfl)
theorem dX11_clause_196 : decode cX11_clause 196 = .ok (.astore_n 3, 1) := dk_78 (dk_at dksX11_clause_8 6 rfl rfl)
theorem dX11_clause_197 : decode cX11_clause 197 = .ok (.aload_n 0, 1) := dk_42 (dk_at dksX11_clause_8 7 rfl rfl)
theorem dX11_clause_198 : decode cX11_clause 198 = .ok (.ldc 94, 2) := dk_18 94 (dk_at dksX11_clause_8 8 rfl rfl)
theorem dX11_clause_200 : decode cX11_clause 200 = .ok (.invokevirtual 60, 3) := dk_182 0 60 (dk_at dksX11_clause_8 10 rfl rfl)
theorem dX11_clause_203 : decode cX11_clause 203 = .ok (.ifCond .eq 14, 3) := dk_153 0 14 (dk_at dksX11_clause_8 13 rfl rfl)
theorem dX11_clause_206 : decode cX11_clause 206 = .ok (.aload_n 3, 1) := dk_45 (dk_at dksX11_clause_8 16 rfl rfl)
theorem dX11_clause_207 : decode cX11_clause 207 = .ok (.aload_n 0, 1) := dk_42 (dk_at dksX11_clause_8 17 rfl rfl)
theorem dX11_clause_208 : decode cX11_clause 208 = .ok (.iconst 2, 1) := dk_5 (dk_at dksX11_clause_8 18 rfl rfl)
theorem dX11_clause_209 : decode cX11_clause 209 = .ok (.bipush 6, 2) := dk_16 6 (dk_at dksX11_clause_8 19 rfl rfl)
theorem dX11_clause_211 : decode cX11_clause 211 = .ok (.invokevirtual 87, 3) := dk_182 0 87 (dk_at dksX11_clause_8 21 rfl rfl)
theorem dX11_clause_214 : decode cX11_clause 214 = .ok (.putfield 96, 3) := dk_181 0 96 (dk_at dksX11_clause_9 0 rfl rfl)
theorem dX11_clause_217 : decode cX11_clause 217 = .ok (.aload_n 0, 1) := dk_42 (dk_at dksX11_clause_9 3 rfl rfl)
theorem dX11_clause_218 : decode cX11_clause 218 = .ok (.ldc 99, 2) := dk_18 99 (dk_at dksX11_clause_9 4 rfl rfl)
theorem dX11_clause_220 : decode cX11_clause 220 = .ok (.invokevirtual 60, 3) := dk_182 0 60 (dk_at dksX11_clause_9 6 rfl rfl)
theorem dX11_clause_223 : decode cX11_clause 223 = .ok (.ifCond .eq 14, 3) := dk_153 0 14 (dk_at dksX11_clause_9 9 rfl rfl)
theorem dX11_clause_226 : decode cX11_clause 226 = .ok (.aload_n 3, 1) := dk_45 (dk_at dksX11_clause_9 12 rfl rfl)
theorem dX11_clause_227 : decode cX11_clause 227 = .ok (.aload_n 0, 1) := dk_42 (dk_at dksX11_clause_9 13 rfl rfl)
theorem dX11_clause_228 : decode cX11_clause 228 = .ok (.iconst 1, 1) := dk_4 (dk_at dksX11_clause_9 14 rfl rfl)
theorem dX11_clause_229 : decode cX11_clause 229 = .ok (.bipush 99, 2) := dk_16 99 (dk_at dksX11_clause_9 15 rfl rfl)
theorem dX11_clause_231 : decode cX11_clause 231 = .ok (.invokevirtual 87, 3) := dk_182 0 87 (dk_at dksX11_clause_9 17 rfl rfl)
theorem dX11_clause_234 : decode cX11_clause 234 = .ok (.putfield 101, 3) := dk_181 0 101 (dk_at dksX11_clause_9 20 rfl rfl)
theorem dX11_clause_237 : decode cX11_clause 237 = .ok (.aload_n 3, 1) := dk_45 (dk_at dksX11_clause_9 23 rfl rfl)
theorem dX11_clause_238 : decode cX11_clause 238 = .ok (.areturn, 1) := dk_176 (dk_at dksX11_clause_10 0 rfl rfl)
theorem dX12_init_0 : decode cX12_init 0 = .ok (.aload_n 0, 1) := by decide +kernel
theorem dX12_init_1 : decode cX12_init 1 = .ok (.invokespecial 1, 3) := by decide +kernel
theorem dX12_init_4 : decode cX12_init 4 = .ok (.return_, 1) := by decide +kernel
theorem dX12_writes_0 : decode cX12_writes 0 = .ok (.iload_n 2, 1) := by decide +kernel
theorem dX12_writes_1 : decode cX12_writes 1 = .ok (.ireturn, 1) := by decide +kernel
theorem dX12_drops_0 : decode cX12_drops 0 = .ok (.iconst 0, 1) := by decide +kernel
theorem dX12_drops_1 : decode cX12_drops 1 = .ok (.ireturn, 1) := by decide +kernel
def dkwX13_init_0 : List UInt8 := [42, 183, 0, 1, 42, 27, 181, 0, 7, 42, 28, 181, 0, 13, 177]
abbrev dktX13_init_0 : List UInt8 := dkwX13_init_0 ++ []
theorem dksX13_init_0 : cX13_init.data.toList.drop 0 = dktX13_init_0 := by decide +kernel
theorem dX13_init_0 : decode cX13_init 0 = .ok (.aload_n 0, 1) := dk_42 (dk_at dksX13_init_0 0 rfl rfl)
theorem dX13_init_1 : decode cX13_init 1 = .ok (.invokespecial 1, 3) := dk_183 0 1 (dk_at dksX13_init_0 1 rfl rfl)
theorem dX13_init_4 : decode cX13_init 4 = .ok (.aload_n 0, 1) := dk_42 (dk_at dksX13_init_0 4 rfl rfl)
theorem dX13_init_5 : decode cX13_init 5 = .ok (.iload_n 1, 1) := dk_27 (dk_at dksX13_init_0 5 rfl rfl)
theorem dX13_init_6 : decode cX13_init 6 = .ok (.putfield 7, 3) := dk_181 0 7 (dk_at dksX13_init_0 6 rfl rfl)
theorem dX13_init_9 : decode cX13_init 9 = .ok (.aload_n 0, 1) := dk_42 (dk_at dksX13_init_0 9 rfl rfl)
theorem dX13_init_10 : decode cX13_init 10 = .ok (.iload_n 2, 1) := dk_28 (dk_at dksX13_init_0 10 rfl rfl)
theorem dX13_init_11 : decode cX13_init 11 = .ok (.putfield 13, 3) := dk_181 0 13 (dk_at dksX13_init_0 11 rfl rfl)
theorem dX13_init_14 : decode cX13_init 14 = .ok (.return_, 1) := dk_177 (dk_at dksX13_init_0 14 rfl rfl)
def dkwX13_writes_0 : List UInt8 := [27, 42, 180, 0, 7, 160, 0, 10, 42, 180, 0, 13, 167, 0, 4, 28, 172]
abbrev dktX13_writes_0 : List UInt8 := dkwX13_writes_0 ++ []
theorem dksX13_writes_0 : cX13_writes.data.toList.drop 0 = dktX13_writes_0 := by decide +kernel
theorem dX13_writes_0 : decode cX13_writes 0 = .ok (.iload_n 1, 1) := dk_27 (dk_at dksX13_writes_0 0 rfl rfl)
theorem dX13_writes_1 : decode cX13_writes 1 = .ok (.aload_n 0, 1) := dk_42 (dk_at dksX13_writes_0 1 rfl rfl)
theorem dX13_writes_2 : decode cX13_writes 2 = .ok (.getfield 7, 3) := dk_180 0 7 (dk_at dksX13_writes_0 2 rfl rfl)
theorem dX13_writes_5 : decode cX13_writes 5 = .ok (.if_icmp .ne 10, 3) := dk_160 0 10 (dk_at dksX13_writes_0 5 rfl rfl)
theorem dX13_writes_8 : decode cX13_writes 8 = .ok (.aload_n 0, 1) := dk_42 (dk_at dksX13_writes_0 8 rfl rfl)
theorem dX13_writes_9 : decode cX13_writes 9 = .ok (.getfield 13, 3) := dk_180 0 13 (dk_at dksX13_writes_0 9 rfl rfl)
theorem dX13_writes_12 : decode cX13_writes 12 = .ok (.goto 4, 3) := dk_167 0 4 (dk_at dksX13_writes_0 12 rfl rfl)
theorem dX13_writes_15 : decode cX13_writes 15 = .ok (.iload_n 2, 1) := dk_28 (dk_at dksX13_writes_0 15 rfl rfl)
theorem dX13_writes_16 : decode cX13_writes 16 = .ok (.ireturn, 1) := dk_172 (dk_at dksX13_writes_0 16 rfl rfl)
def dkwX14_init_0 : List UInt8 := [42, 183, 0, 1, 42, 27, 181, 0, 7, 177]
abbrev dktX14_init_0 : List UInt8 := dkwX14_init_0 ++ []
theorem dksX14_init_0 : cX14_init.data.toList.drop 0 = dktX14_init_0 := by decide +kernel
theorem dX14_init_0 : decode cX14_init 0 = .ok (.aload_n 0, 1) := dk_42 (dk_at dksX14_init_0 0 rfl rfl)
theorem dX14_init_1 : decode cX14_init 1 = .ok (.invokespecial 1, 3) := dk_183 0 1 (dk_at dksX14_init_0 1 rfl rfl)
theorem dX14_init_4 : decode cX14_init 4 = .ok (.aload_n 0, 1) := dk_42 (dk_at dksX14_init_0 4 rfl rfl)
theorem dX14_init_5 : decode cX14_init 5 = .ok (.iload_n 1, 1) := dk_27 (dk_at dksX14_init_0 5 rfl rfl)
theorem dX14_init_6 : decode cX14_init 6 = .ok (.putfield 7, 3) := dk_181 0 7 (dk_at dksX14_init_0 6 rfl rfl)
theorem dX14_init_9 : decode cX14_init 9 = .ok (.return_, 1) := dk_177 (dk_at dksX14_init_0 9 rfl rfl)
def dkwX14_drops_0 : List UInt8 := [27, 42, 180, 0, 7, 160, 0, 7, 4, 167, 0, 4, 3, 172]
abbrev dktX14_drops_0 : List UInt8 := dkwX14_drops_0 ++ []
theorem dksX14_drops_0 : cX14_drops.data.toList.drop 0 = dktX14_drops_0 := by decide +kernel
theorem dX14_drops_0 : decode cX14_drops 0 = .ok (.iload_n 1, 1) := dk_27 (dk_at dksX14_drops_0 0 rfl rfl)
theorem dX14_drops_1 : decode cX14_drops 1 = .ok (.aload_n 0, 1) := dk_42 (dk_at dksX14_drops_0 1 rfl rfl)
theorem dX14_drops_2 : decode cX14_drops 2 = .ok (.getfield 7, 3) := dk_180 0 7 (dk_at dksX14_drops_0 2 rfl rfl)
theorem dX14_drops_5 : decode cX14_drops 5 = .ok (.if_icmp .ne 7, 3) := dk_160 0 7 (dk_at dksX14_drops_0 5 rfl rfl)
theorem dX14_drops_8 : decode cX14_drops 8 = .ok (.iconst 1, 1) := dk_4 (dk_at dksX14_drops_0 8 rfl rfl)
theorem dX14_drops_9 : decode cX14_drops 9 = .ok (.goto 4, 3) := dk_167 0 4 (dk_at dksX14_drops_0 9 rfl rfl)
theorem dX14_drops_12 : decode cX14_drops 12 = .ok (.iconst 0, 1) := dk_3 (dk_at dksX14_drops_0 12 rfl rfl)
theorem dX14_drops_13 : decode cX14_drops 13 = .ok (.ireturn, 1) := dk_172 (dk_at dksX14_drops_0 13 rfl rfl)
def dkwX15_init_1 : List UInt8 := [177]
abbrev dktX15_init_1 : List UInt8 := dkwX15_init_1 ++ []
def dkwX15_init_0 : List UInt8 := [42, 183, 0, 3, 42, 6, 181, 0, 9, 42, 4, 181, 0, 15, 42, 27, 181, 0, 18, 42, 28, 181, 0, 21]
abbrev dktX15_init_0 : List UInt8 := dkwX15_init_0 ++ dktX15_init_1
theorem dksX15_init_0 : cX15_init.data.toList.drop 0 = dktX15_init_0 := by decide +kernel
theorem dksX15_init_1 : cX15_init.data.toList.drop 24 = dktX15_init_1 := dk_seg dksX15_init_0 24 rfl rfl
theorem dX15_init_0 : decode cX15_init 0 = .ok (.aload_n 0, 1) := dk_42 (dk_at dksX15_init_0 0 rfl rfl)
theorem dX15_init_1 : decode cX15_init 1 = .ok (.invokespecial 3, 3) := dk_183 0 3 (dk_at dksX15_init_0 1 rfl rfl)
theorem dX15_init_4 : decode cX15_init 4 = .ok (.aload_n 0, 1) := dk_42 (dk_at dksX15_init_0 4 rfl rfl)
theorem dX15_init_5 : decode cX15_init 5 = .ok (.iconst 3, 1) := dk_6 (dk_at dksX15_init_0 5 rfl rfl)
theorem dX15_init_6 : decode cX15_init 6 = .ok (.putfield 9, 3) := dk_181 0 9 (dk_at dksX15_init_0 6 rfl rfl)
theorem dX15_init_9 : decode cX15_init 9 = .ok (.aload_n 0, 1) := dk_42 (dk_at dksX15_init_0 9 rfl rfl)
theorem dX15_init_10 : decode cX15_init 10 = .ok (.iconst 1, 1) := dk_4 (dk_at dksX15_init_0 10 rfl rfl)
theorem dX15_init_11 : decode cX15_init 11 = .ok (.putfield 15, 3) := dk_181 0 15 (dk_at dksX15_init_0 11 rfl rfl)
theorem dX15_init_14 : decode cX15_init 14 = .ok (.aload_n 0, 1) := dk_42 (dk_at dksX15_init_0 14 rfl rfl)
theorem dX15_init_15 : decode cX15_init 15 = .ok (.iload_n 1, 1) := dk_27 (dk_at dksX15_init_0 15 rfl rfl)
theorem dX15_init_16 : decode cX15_init 16 = .ok (.putfield 18, 3) := dk_181 0 18 (dk_at dksX15_init_0 16 rfl rfl)
theorem dX15_init_19 : decode cX15_init 19 = .ok (.aload_n 0, 1) := dk_42 (dk_at dksX15_init_0 19 rfl rfl)
theorem dX15_init_20 : decode cX15_init 20 = .ok (.iload_n 2, 1) := dk_28 (dk_at dksX15_init_0 20 rfl rfl)
theorem dX15_init_21 : decode cX15_init 21 = .ok (.putfield 21, 3) := dk_181 0 21 (dk_at dksX15_init_0 21 rfl rfl)
theorem dX15_init_24 : decode cX15_init 24 = .ok (.return_, 1) := dk_177 (dk_at dksX15_init_1 0 rfl rfl)
def dkwX15_placeIn_2 : List UInt8 := [180, 0, 21, 4, 100, 167, 0, 4, 2, 172]
abbrev dktX15_placeIn_2 : List UInt8 := dkwX15_placeIn_2 ++ []
def dkwX15_placeIn_1 : List UInt8 := [167, 0, 32, 42, 180, 0, 21, 154, 0, 7, 3, 167, 0, 21, 42, 180, 0, 21, 27, 163, 0, 12, 42]
abbrev dktX15_placeIn_1 : List UInt8 := dkwX15_placeIn_1 ++ dktX15_placeIn_2
def dkwX15_placeIn_0 : List UInt8 := [27, 42, 180, 0, 9, 162, 0, 7, 2, 167, 0, 46, 42, 180, 0, 21, 2, 160, 0, 9, 27, 4, 100]
abbrev dktX15_placeIn_0 : List UInt8 := dkwX15_placeIn_0 ++ dktX15_placeIn_1
theorem dksX15_placeIn_0 : cX15_placeIn.data.toList.drop 0 = dktX15_placeIn_0 := by decide +kernel
theorem dksX15_placeIn_1 : cX15_placeIn.data.toList.drop 23 = dktX15_placeIn_1 := dk_seg dksX15_placeIn_0 23 rfl rfl
theorem dksX15_placeIn_2 : cX15_placeIn.data.toList.drop 46 = dktX15_placeIn_2 := dk_seg dksX15_placeIn_1 23 rfl rfl
theorem dX15_placeIn_0 : decode cX15_placeIn 0 = .ok (.iload_n 1, 1) := dk_27 (dk_at dksX15_placeIn_0 0 rfl rfl)
theorem dX15_placeIn_1 : decode cX15_placeIn 1 = .ok (.aload_n 0, 1) := dk_42 (dk_at dksX15_placeIn_0 1 rfl rfl)
theorem dX15_placeIn_2 : decode cX15_placeIn 2 = .ok (.getfield 9, 3) := dk_180 0 9 (dk_at dksX15_placeIn_0 2 rfl rfl)
theorem dX15_placeIn_5 : decode cX15_placeIn 5 = .ok (.if_icmp .ge 7, 3) := dk_162 0 7 (dk_at dksX15_placeIn_0 5 rfl rfl)
theorem dX15_placeIn_8 : decode cX15_placeIn 8 = .ok (.iconst (-1), 1) := dk_2 (dk_at dksX15_placeIn_0 8 rfl rfl)
theorem dX15_placeIn_9 : decode cX15_placeIn 9 = .ok (.goto 46, 3) := dk_167 0 46 (dk_at dksX15_placeIn_0 9 rfl rfl)
theorem dX15_placeIn_12 : decode cX15_placeIn 12 = .ok (.aload_n 0, 1) := dk_42 (dk_at dksX15_placeIn_0 12 rfl rfl)
theorem dX15_placeIn_13 : decode cX15_placeIn 13 = .ok (.getfield 21, 3) := dk_180 0 21 (dk_at dksX15_placeIn_0 13 rfl rfl)
theorem dX15_placeIn_16 : decode cX15_placeIn 16 = .ok (.iconst (-1), 1) := dk_2 (dk_at dksX15_placeIn_0 16 rfl rfl)
theorem dX15_placeIn_17 : decode cX15_placeIn 17 = .ok (.if_icmp .ne 9, 3) := dk_160 0 9 (dk_at dksX15_placeIn_0 17 rfl rfl)
theorem dX15_placeIn_20 : decode cX15_placeIn 20 = .ok (.iload_n 1, 1) := dk_27 (dk_at dksX15_placeIn_0 20 rfl rfl)
theorem dX15_placeIn_21 : decode cX15_placeIn 21 = .ok (.iconst 1, 1) := dk_4 (dk_at dksX15_placeIn_0 21 rfl rfl)
theorem dX15_placeIn_22 : decode cX15_placeIn 22 = .ok (.isub, 1) := dk_100 (dk_at dksX15_placeIn_0 22 rfl rfl)
theorem dX15_placeIn_23 : decode cX15_placeIn 23 = .ok (.goto 32, 3) := dk_167 0 32 (dk_at dksX15_placeIn_1 0 rfl rfl)
theorem dX15_placeIn_26 : decode cX15_placeIn 26 = .ok (.aload_n 0, 1) := dk_42 (dk_at dksX15_placeIn_1 3 rfl rfl)
theorem dX15_placeIn_27 : decode cX15_placeIn 27 = .ok (.getfield 21, 3) := dk_180 0 21 (dk_at dksX15_placeIn_1 4 rfl rfl)
theorem dX15_placeIn_30 : decode cX15_placeIn 30 = .ok (.ifCond .ne 7, 3) := dk_154 0 7 (dk_at dksX15_placeIn_1 7 rfl rfl)
theorem dX15_placeIn_33 : decode cX15_placeIn 33 = .ok (.iconst 0, 1) := dk_3 (dk_at dksX15_placeIn_1 10 rfl rfl)
theorem dX15_placeIn_34 : decode cX15_placeIn 34 = .ok (.goto 21, 3) := dk_167 0 21 (dk_at dksX15_placeIn_1 11 rfl rfl)
theorem dX15_placeIn_37 : decode cX15_placeIn 37 = .ok (.aload_n 0, 1) := dk_42 (dk_at dksX15_placeIn_1 14 rfl rfl)
theorem dX15_placeIn_38 : decode cX15_placeIn 38 = .ok (.getfield 21, 3) := dk_180 0 21 (dk_at dksX15_placeIn_1 15 rfl rfl)
theorem dX15_placeIn_41 : decode cX15_placeIn 41 = .ok (.iload_n 1, 1) := dk_27 (dk_at dksX15_placeIn_1 18 rfl rfl)
theorem dX15_placeIn_42 : decode cX15_placeIn 42 = .ok (.if_icmp .gt 12, 3) := dk_163 0 12 (dk_at dksX15_placeIn_1 19 rfl rfl)
theorem dX15_placeIn_45 : decode cX15_placeIn 45 = .ok (.aload_n 0, 1) := dk_42 (dk_at dksX15_placeIn_1 22 rfl rfl)
theorem dX15_placeIn_46 : decode cX15_placeIn 46 = .ok (.getfield 21, 3) := dk_180 0 21 (dk_at dksX15_placeIn_2 0 rfl rfl)
theorem dX15_placeIn_49 : decode cX15_placeIn 49 = .ok (.iconst 1, 1) := dk_4 (dk_at dksX15_placeIn_2 3 rfl rfl)
theorem dX15_placeIn_50 : decode cX15_placeIn 50 = .ok (.isub, 1) := dk_100 (dk_at dksX15_placeIn_2 4 rfl rfl)
theorem dX15_placeIn_51 : decode cX15_placeIn 51 = .ok (.goto 4, 3) := dk_167 0 4 (dk_at dksX15_placeIn_2 5 rfl rfl)
theorem dX15_placeIn_54 : decode cX15_placeIn 54 = .ok (.iconst (-1), 1) := dk_2 (dk_at dksX15_placeIn_2 8 rfl rfl)
theorem dX15_placeIn_55 : decode cX15_placeIn 55 = .ok (.ireturn, 1) := dk_172 (dk_at dksX15_placeIn_2 9 rfl rfl)
def dkwX16_init_1 : List UInt8 := [181, 0, 19, 177]
abbrev dktX16_init_1 : List UInt8 := dkwX16_init_1 ++ []
def dkwX16_init_0 : List UInt8 := [42, 27, 183, 0, 1, 42, 28, 181, 0, 7, 42, 29, 181, 0, 13, 42, 21, 4, 181, 0, 16, 42, 21, 5]
abbrev dktX16_init_0 : List UInt8 := dkwX16_init_0 ++ dktX16_init_1
theorem dksX16_init_0 : cX16_init.data.toList.drop 0 = dktX16_init_0 := by decide +kernel
theorem dksX16_init_1 : cX16_init.data.toList.drop 24 = dktX16_init_1 := dk_seg dksX16_init_0 24 rfl rfl
theorem dX16_init_0 : decode cX16_init 0 = .ok (.aload_n 0, 1) := dk_42 (dk_at dksX16_init_0 0 rfl rfl)
theorem dX16_init_1 : decode cX16_init 1 = .ok (.iload_n 1, 1) := dk_27 (dk_at dksX16_init_0 1 rfl rfl)
theorem dX16_init_2 : decode cX16_init 2 = .ok (.invokespecial 1, 3) := dk_183 0 1 (dk_at dksX16_init_0 2 rfl rfl)
theorem dX16_init_5 : decode cX16_init 5 = .ok (.aload_n 0, 1) := dk_42 (dk_at dksX16_init_0 5 rfl rfl)
theorem dX16_init_6 : decode cX16_init 6 = .ok (.iload_n 2, 1) := dk_28 (dk_at dksX16_init_0 6 rfl rfl)
theorem dX16_init_7 : decode cX16_init 7 = .ok (.putfield 7, 3) := dk_181 0 7 (dk_at dksX16_init_0 7 rfl rfl)
theorem dX16_init_10 : decode cX16_init 10 = .ok (.aload_n 0, 1) := dk_42 (dk_at dksX16_init_0 10 rfl rfl)
theorem dX16_init_11 : decode cX16_init 11 = .ok (.iload_n 3, 1) := dk_29 (dk_at dksX16_init_0 11 rfl rfl)
theorem dX16_init_12 : decode cX16_init 12 = .ok (.putfield 13, 3) := dk_181 0 13 (dk_at dksX16_init_0 12 rfl rfl)
theorem dX16_init_15 : decode cX16_init 15 = .ok (.aload_n 0, 1) := dk_42 (dk_at dksX16_init_0 15 rfl rfl)
theorem dX16_init_16 : decode cX16_init 16 = .ok (.iload 4, 2) := dk_21 4 (dk_at dksX16_init_0 16 rfl rfl)
theorem dX16_init_18 : decode cX16_init 18 = .ok (.putfield 16, 3) := dk_181 0 16 (dk_at dksX16_init_0 18 rfl rfl)
theorem dX16_init_21 : decode cX16_init 21 = .ok (.aload_n 0, 1) := dk_42 (dk_at dksX16_init_0 21 rfl rfl)
theorem dX16_init_22 : decode cX16_init 22 = .ok (.iload 5, 2) := dk_21 5 (dk_at dksX16_init_0 22 rfl rfl)
theorem dX16_init_24 : decode cX16_init 24 = .ok (.putfield 19, 3) := dk_181 0 19 (dk_at dksX16_init_1 0 rfl rfl)
theorem dX16_init_27 : decode cX16_init 27 = .ok (.return_, 1) := dk_177 (dk_at dksX16_init_1 3 rfl rfl)
def dkwX17_init_0 : List UInt8 := [42, 27, 183, 0, 1, 42, 28, 181, 0, 7, 42, 45, 181, 0, 13, 177]
abbrev dktX17_init_0 : List UInt8 := dkwX17_init_0 ++ []
theorem dksX17_init_0 : cX17_init.data.toList.drop 0 = dktX17_init_0 := by decide +kernel
theorem dX17_init_0 : decode cX17_init 0 = .ok (.aload_n 0, 1) := dk_42 (dk_at dksX17_init_0 0 rfl rfl)
theorem dX17_init_1 : decode cX17_init 1 = .ok (.iload_n 1, 1) := dk_27 (dk_at dksX17_init_0 1 rfl rfl)
theorem dX17_init_2 : decode cX17_init 2 = .ok (.invokespecial 1, 3) := dk_183 0 1 (dk_at dksX17_init_0 2 rfl rfl)
theorem dX17_init_5 : decode cX17_init 5 = .ok (.aload_n 0, 1) := dk_42 (dk_at dksX17_init_0 5 rfl rfl)
theorem dX17_init_6 : decode cX17_init 6 = .ok (.iload_n 2, 1) := dk_28 (dk_at dksX17_init_0 6 rfl rfl)
theorem dX17_init_7 : decode cX17_init 7 = .ok (.putfield 7, 3) := dk_181 0 7 (dk_at dksX17_init_0 7 rfl rfl)
theorem dX17_init_10 : decode cX17_init 10 = .ok (.aload_n 0, 1) := dk_42 (dk_at dksX17_init_0 10 rfl rfl)
theorem dX17_init_11 : decode cX17_init 11 = .ok (.aload_n 3, 1) := dk_45 (dk_at dksX17_init_0 11 rfl rfl)
theorem dX17_init_12 : decode cX17_init 12 = .ok (.putfield 13, 3) := dk_181 0 13 (dk_at dksX17_init_0 12 rfl rfl)
theorem dX17_init_15 : decode cX17_init 15 = .ok (.return_, 1) := dk_177 (dk_at dksX17_init_0 15 rfl rfl)
def dkwX19_init_0 : List UInt8 := [42, 43, 181, 0, 1, 42, 43, 3, 183, 0, 7, 177]
abbrev dktX19_init_0 : List UInt8 := dkwX19_init_0 ++ []
theorem dksX19_init_0 : cX19_init.data.toList.drop 0 = dktX19_init_0 := by decide +kernel
theorem dX19_init_0 : decode cX19_init 0 = .ok (.aload_n 0, 1) := dk_42 (dk_at dksX19_init_0 0 rfl rfl)
theorem dX19_init_1 : decode cX19_init 1 = .ok (.aload_n 1, 1) := dk_43 (dk_at dksX19_init_0 1 rfl rfl)
theorem dX19_init_2 : decode cX19_init 2 = .ok (.putfield 1, 3) := dk_181 0 1 (dk_at dksX19_init_0 2 rfl rfl)
theorem dX19_init_5 : decode cX19_init 5 = .ok (.aload_n 0, 1) := dk_42 (dk_at dksX19_init_0 5 rfl rfl)
theorem dX19_init_6 : decode cX19_init 6 = .ok (.aload_n 1, 1) := dk_43 (dk_at dksX19_init_0 6 rfl rfl)
theorem dX19_init_7 : decode cX19_init 7 = .ok (.iconst 0, 1) := dk_3 (dk_at dksX19_init_0 7 rfl rfl)
theorem dX19_init_8 : decode cX19_init 8 = .ok (.invokespecial 7, 3) := dk_183 0 7 (dk_at dksX19_init_0 8 rfl rfl)
theorem dX19_init_11 : decode cX19_init 11 = .ok (.return_, 1) := dk_177 (dk_at dksX19_init_0 11 rfl rfl)
def dkwX19_is_0 : List UInt8 := [42, 89, 180, 0, 13, 4, 96, 181, 0, 13, 4, 172]
abbrev dktX19_is_0 : List UInt8 := dkwX19_is_0 ++ []
theorem dksX19_is_0 : cX19_is.data.toList.drop 0 = dktX19_is_0 := by decide +kernel
theorem dX19_is_0 : decode cX19_is 0 = .ok (.aload_n 0, 1) := dk_42 (dk_at dksX19_is_0 0 rfl rfl)
theorem dX19_is_1 : decode cX19_is 1 = .ok (.dup, 1) := dk_89 (dk_at dksX19_is_0 1 rfl rfl)
theorem dX19_is_2 : decode cX19_is 2 = .ok (.getfield 13, 3) := dk_180 0 13 (dk_at dksX19_is_0 2 rfl rfl)
theorem dX19_is_5 : decode cX19_is 5 = .ok (.iconst 1, 1) := dk_4 (dk_at dksX19_is_0 5 rfl rfl)
theorem dX19_is_6 : decode cX19_is 6 = .ok (.iadd, 1) := dk_96 (dk_at dksX19_is_0 6 rfl rfl)
theorem dX19_is_7 : decode cX19_is 7 = .ok (.putfield 13, 3) := dk_181 0 13 (dk_at dksX19_is_0 7 rfl rfl)
theorem dX19_is_10 : decode cX19_is 10 = .ok (.iconst 1, 1) := dk_4 (dk_at dksX19_is_0 10 rfl rfl)
theorem dX19_is_11 : decode cX19_is 11 = .ok (.ireturn, 1) := dk_172 (dk_at dksX19_is_0 11 rfl rfl)
def dkwX20_is_5 : List UInt8 := [132, 1, 1, 167, 255, 232, 3, 172]
abbrev dktX20_is_5 : List UInt8 := dkwX20_is_5 ++ []
def dkwX20_is_4 : List UInt8 := [3, 60, 27, 16, 40, 162, 0, 24, 42, 180, 0, 19, 27, 42, 180, 0, 3, 180, 0, 48, 27, 46, 79]
abbrev dktX20_is_4 : List UInt8 := dkwX20_is_4 ++ dktX20_is_5
def dkwX20_is_3 : List UInt8 := [27, 50, 180, 0, 40, 42, 180, 0, 3, 180, 0, 36, 27, 50, 180, 0, 45, 79, 132, 1, 1, 167, 255, 216]
abbrev dktX20_is_3 : List UInt8 := dkwX20_is_3 ++ dktX20_is_4
def dkwX20_is_2 : List UInt8 := [167, 255, 240, 3, 60, 27, 42, 180, 0, 33, 162, 0, 38, 42, 180, 0, 15, 42, 180, 0, 3, 180, 0, 36]
abbrev dktX20_is_2 : List UInt8 := dkwX20_is_2 ++ dktX20_is_3
def dkwX20_is_1 : List UInt8 := [4, 181, 0, 29, 3, 60, 27, 16, 6, 162, 0, 16, 42, 180, 0, 15, 27, 2, 79, 132, 1, 1]
abbrev dktX20_is_1 : List UInt8 := dkwX20_is_1 ++ dktX20_is_2
def dkwX20_is_0 : List UInt8 := [42, 180, 0, 26, 42, 180, 0, 22, 162, 0, 15, 42, 89, 180, 0, 26, 4, 96, 181, 0, 26, 4, 172, 42]
abbrev dktX20_is_0 : List UInt8 := dkwX20_is_0 ++ dktX20_is_1
theorem dksX20_is_0 : cX20_is.data.toList.drop 0 = dktX20_is_0 := by decide +kernel
theorem dksX20_is_1 : cX20_is.data.toList.drop 24 = dktX20_is_1 := dk_seg dksX20_is_0 24 rfl rfl
theorem dksX20_is_2 : cX20_is.data.toList.drop 46 = dktX20_is_2 := dk_seg dksX20_is_1 22 rfl rfl
theorem dksX20_is_3 : cX20_is.data.toList.drop 70 = dktX20_is_3 := dk_seg dksX20_is_2 24 rfl rfl
theorem dksX20_is_4 : cX20_is.data.toList.drop 94 = dktX20_is_4 := dk_seg dksX20_is_3 24 rfl rfl
theorem dksX20_is_5 : cX20_is.data.toList.drop 117 = dktX20_is_5 := dk_seg dksX20_is_4 23 rfl rfl
theorem dX20_is_0 : decode cX20_is 0 = .ok (.aload_n 0, 1) := dk_42 (dk_at dksX20_is_0 0 rfl rfl)
theorem dX20_is_1 : decode cX20_is 1 = .ok (.getfield 26, 3) := dk_180 0 26 (dk_at dksX20_is_0 1 rfl rfl)
theorem dX20_is_4 : decode cX20_is 4 = .ok (.aload_n 0, 1) := dk_42 (dk_at dksX20_is_0 4 rfl rfl)
theorem dX20_is_5 : decode cX20_is 5 = .ok (.getfield 22, 3) := dk_180 0 22 (dk_at dksX20_is_0 5 rfl rfl)
theorem dX20_is_8 : decode cX20_is 8 = .ok (.if_icmp .ge 15, 3) := dk_162 0 15 (dk_at dksX20_is_0 8 rfl rfl)
theorem dX20_is_11 : decode cX20_is 11 = .ok (.aload_n 0, 1) := dk_42 (dk_at dksX20_is_0 11 rfl rfl)
theorem dX20_is_12 : decode cX20_is 12 = .ok (.dup, 1) := dk_89 (dk_at dksX20_is_0 12 rfl rfl)
theorem dX20_is_13 : decode cX20_is 13 = .ok (.getfield 26, 3) := dk_180 0 26 (dk_at dksX20_is_0 13 rfl rfl)
theorem dX20_is_16 : decode cX20_is 16 = .ok (.iconst 1, 1) := dk_4 (dk_at dksX20_is_0 16 rfl rfl)
theorem dX20_is_17 : decode cX20_is 17 = .ok (.iadd, 1) := dk_96 (dk_at dksX20_is_0 17 rfl rfl)
theorem dX20_is_18 : decode cX20_is 18 = .ok (.putfield 26, 3) := dk_181 0 26 (dk_at dksX20_is_0 18 rfl rfl)
theorem dX20_is_21 : decode cX20_is 21 = .ok (.iconst 1, 1) := dk_4 (dk_at dksX20_is_0 21 rfl rfl)
theorem dX20_is_22 : decode cX20_is 22 = .ok (.ireturn, 1) := dk_172 (dk_at dksX20_is_0 22 rfl rfl)
theorem dX20_is_23 : decode cX20_is 23 = .ok (.aload_n 0, 1) := dk_42 (dk_at dksX20_is_0 23 rfl rfl)
theorem dX20_is_24 : decode cX20_is 24 = .ok (.iconst 1, 1) := dk_4 (dk_at dksX20_is_1 0 rfl rfl)
theorem dX20_is_25 : decode cX20_is 25 = .ok (.putfield 29, 3) := dk_181 0 29 (dk_at dksX20_is_1 1 rfl rfl)
theorem dX20_is_28 : decode cX20_is 28 = .ok (.iconst 0, 1) := dk_3 (dk_at dksX20_is_1 4 rfl rfl)
theorem dX20_is_29 : decode cX20_is 29 = .ok (.istore_n 1, 1) := dk_60 (dk_at dksX20_is_1 5 rfl rfl)
theorem dX20_is_30 : decode cX20_is 30 = .ok (.iload_n 1, 1) := dk_27 (dk_at dksX20_is_1 6 rfl rfl)
theorem dX20_is_31 : decode cX20_is 31 = .ok (.bipush 6, 2) := dk_16 6 (dk_at dksX20_is_1 7 rfl rfl)
theorem dX20_is_33 : decode cX20_is 33 = .ok (.if_icmp .ge 16, 3) := dk_162 0 16 (dk_at dksX20_is_1 9 rfl rfl)
theorem dX20_is_36 : decode cX20_is 36 = .ok (.aload_n 0, 1) := dk_42 (dk_at dksX20_is_1 12 rfl rfl)
theorem dX20_is_37 : decode cX20_is 37 = .ok (.getfield 15, 3) := dk_180 0 15 (dk_at dksX20_is_1 13 rfl rfl)
theorem dX20_is_40 : decode cX20_is 40 = .ok (.iload_n 1, 1) := dk_27 (dk_at dksX20_is_1 16 rfl rfl)
theorem dX20_is_41 : decode cX20_is 41 = .ok (.iconst (-1), 1) := dk_2 (dk_at dksX20_is_1 17 rfl rfl)
theorem dX20_is_42 : decode cX20_is 42 = .ok (.iastore, 1) := dk_79 (dk_at dksX20_is_1 18 rfl rfl)
theorem dX20_is_43 : decode cX20_is 43 = .ok (.iinc 1 1, 3) := dk_132 1 1 (dk_at dksX20_is_1 19 rfl rfl)
theorem dX20_is_46 : decode cX20_is 46 = .ok (.goto (-16), 3) := dk_167 255 240 (dk_at dksX20_is_2 0 rfl rfl)
theorem dX20_is_49 : decode cX20_is 49 = .ok (.iconst 0, 1) := dk_3 (dk_at dksX20_is_2 3 rfl rfl)
theorem dX20_is_50 : decode cX20_is 50 = .ok (.istore_n 1, 1) := dk_60 (dk_at dksX20_is_2 4 rfl rfl)
theorem dX20_is_51 : decode cX20_is 51 = .ok (.iload_n 1, 1) := dk_27 (dk_at dksX20_is_2 5 rfl rfl)
theorem dX20_is_52 : decode cX20_is 52 = .ok (.aload_n 0, 1) := dk_42 (dk_at dksX20_is_2 6 rfl rfl)
theorem dX20_is_53 : decode cX20_is 53 = .ok (.getfield 33, 3) := dk_180 0 33 (dk_at dksX20_is_2 7 rfl rfl)
theorem dX20_is_56 : decode cX20_is 56 = .ok (.if_icmp .ge 38, 3) := dk_162 0 38 (dk_at dksX20_is_2 10 rfl rfl)
theorem dX20_is_59 : decode cX20_is 59 = .ok (.aload_n 0, 1) := dk_42 (dk_at dksX20_is_2 13 rfl rfl)
theorem dX20_is_60 : decode cX20_is 60 = .ok (.getfield 15, 3) := dk_180 0 15 (dk_at dksX20_is_2 14 rfl rfl)
theorem dX20_is_63 : decode cX20_is 63 = .ok (.aload_n 0, 1) := dk_42 (dk_at dksX20_is_2 17 rfl rfl)
theorem dX20_is_64 : decode cX20_is 64 = .ok (.getfield 3, 3) := dk_180 0 3 (dk_at dksX20_is_2 18 rfl rfl)
theorem dX20_is_67 : decode cX20_is 67 = .ok (.getfield 36, 3) := dk_180 0 36 (dk_at dksX20_is_2 21 rfl rfl)
theorem dX20_is_70 : decode cX20_is 70 = .ok (.iload_n 1, 1) := dk_27 (dk_at dksX20_is_3 0 rfl rfl)
theorem dX20_is_71 : decode cX20_is 71 = .ok (.aaload, 1) := dk_50 (dk_at dksX20_is_3 1 rfl rfl)
theorem dX20_is_72 : decode cX20_is 72 = .ok (.getfield 40, 3) := dk_180 0 40 (dk_at dksX20_is_3 2 rfl rfl)
theorem dX20_is_75 : decode cX20_is 75 = .ok (.aload_n 0, 1) := dk_42 (dk_at dksX20_is_3 5 rfl rfl)
theorem dX20_is_76 : decode cX20_is 76 = .ok (.getfield 3, 3) := dk_180 0 3 (dk_at dksX20_is_3 6 rfl rfl)
theorem dX20_is_79 : decode cX20_is 79 = .ok (.getfield 36, 3) := dk_180 0 36 (dk_at dksX20_is_3 9 rfl rfl)
theorem dX20_is_82 : decode cX20_is 82 = .ok (.iload_n 1, 1) := dk_27 (dk_at dksX20_is_3 12 rfl rfl)
theorem dX20_is_83 : decode cX20_is 83 = .ok (.aaload, 1) := dk_50 (dk_at dksX20_is_3 13 rfl rfl)
theorem dX20_is_84 : decode cX20_is 84 = .ok (.getfield 45, 3) := dk_180 0 45 (dk_at dksX20_is_3 14 rfl rfl)
theorem dX20_is_87 : decode cX20_is 87 = .ok (.iastore, 1) := dk_79 (dk_at dksX20_is_3 17 rfl rfl)
theorem dX20_is_88 : decode cX20_is 88 = .ok (.iinc 1 1, 3) := dk_132 1 1 (dk_at dksX20_is_3 18 rfl rfl)
theorem dX20_is_91 : decode cX20_is 91 = .ok (.goto (-40), 3) := dk_167 255 216 (dk_at dksX20_is_3 21 rfl rfl)
theorem dX20_is_94 : decode cX20_is 94 = .ok (.iconst 0, 1) := dk_3 (dk_at dksX20_is_4 0 rfl rfl)
theorem dX20_is_95 : decode cX20_is 95 = .ok (.istore_n 1, 1) := dk_60 (dk_at dksX20_is_4 1 rfl rfl)
theorem dX20_is_96 : decode cX20_is 96 = .ok (.iload_n 1, 1) := dk_27 (dk_at dksX20_is_4 2 rfl rfl)
theorem dX20_is_97 : decode cX20_is 97 = .ok (.bipush 40, 2) := dk_16 40 (dk_at dksX20_is_4 3 rfl rfl)
theorem dX20_is_99 : decode cX20_is 99 = .ok (.if_icmp .ge 24, 3) := dk_162 0 24 (dk_at dksX20_is_4 5 rfl rfl)
theorem dX20_is_102 : decode cX20_is 102 = .ok (.aload_n 0, 1) := dk_42 (dk_at dksX20_is_4 8 rfl rfl)
theorem dX20_is_103 : decode cX20_is 103 = .ok (.getfield 19, 3) := dk_180 0 19 (dk_at dksX20_is_4 9 rfl rfl)
theorem dX20_is_106 : decode cX20_is 106 = .ok (.iload_n 1, 1) := dk_27 (dk_at dksX20_is_4 12 rfl rfl)
theorem dX20_is_107 : decode cX20_is 107 = .ok (.aload_n 0, 1) := dk_42 (dk_at dksX20_is_4 13 rfl rfl)
theorem dX20_is_108 : decode cX20_is 108 = .ok (.getfield 3, 3) := dk_180 0 3 (dk_at dksX20_is_4 14 rfl rfl)
theorem dX20_is_111 : decode cX20_is 111 = .ok (.getfield 48, 3) := dk_180 0 48 (dk_at dksX20_is_4 17 rfl rfl)
theorem dX20_is_114 : decode cX20_is 114 = .ok (.iload_n 1, 1) := dk_27 (dk_at dksX20_is_4 20 rfl rfl)
theorem dX20_is_115 : decode cX20_is 115 = .ok (.iaload, 1) := dk_46 (dk_at dksX20_is_4 21 rfl rfl)
theorem dX20_is_116 : decode cX20_is 116 = .ok (.iastore, 1) := dk_79 (dk_at dksX20_is_4 22 rfl rfl)
theorem dX20_is_117 : decode cX20_is 117 = .ok (.iinc 1 1, 3) := dk_132 1 1 (dk_at dksX20_is_5 0 rfl rfl)
theorem dX20_is_120 : decode cX20_is 120 = .ok (.goto (-24), 3) := dk_167 255 232 (dk_at dksX20_is_5 3 rfl rfl)
theorem dX20_is_123 : decode cX20_is 123 = .ok (.iconst 0, 1) := dk_3 (dk_at dksX20_is_5 6 rfl rfl)
theorem dX20_is_124 : decode cX20_is 124 = .ok (.ireturn, 1) := dk_172 (dk_at dksX20_is_5 7 rfl rfl)
def dkwX20_init_1 : List UInt8 := [181, 0, 19, 42, 28, 181, 0, 22, 177]
abbrev dktX20_init_1 : List UInt8 := dkwX20_init_1 ++ []
def dkwX20_init_0 : List UInt8 := [42, 43, 181, 0, 3, 42, 43, 3, 183, 0, 9, 42, 16, 6, 188, 10, 181, 0, 15, 42, 16, 40, 188, 10]
abbrev dktX20_init_0 : List UInt8 := dkwX20_init_0 ++ dktX20_init_1
theorem dksX20_init_0 : cX20_init.data.toList.drop 0 = dktX20_init_0 := by decide +kernel
theorem dksX20_init_1 : cX20_init.data.toList.drop 24 = dktX20_init_1 := dk_seg dksX20_init_0 24 rfl rfl
theorem dX20_init_0 : decode cX20_init 0 = .ok (.aload_n 0, 1) := dk_42 (dk_at dksX20_init_0 0 rfl rfl)
theorem dX20_init_1 : decode cX20_init 1 = .ok (.aload_n 1, 1) := dk_43 (dk_at dksX20_init_0 1 rfl rfl)
theorem dX20_init_2 : decode cX20_init 2 = .ok (.putfield 3, 3) := dk_181 0 3 (dk_at dksX20_init_0 2 rfl rfl)
theorem dX20_init_5 : decode cX20_init 5 = .ok (.aload_n 0, 1) := dk_42 (dk_at dksX20_init_0 5 rfl rfl)
theorem dX20_init_6 : decode cX20_init 6 = .ok (.aload_n 1, 1) := dk_43 (dk_at dksX20_init_0 6 rfl rfl)
theorem dX20_init_7 : decode cX20_init 7 = .ok (.iconst 0, 1) := dk_3 (dk_at dksX20_init_0 7 rfl rfl)
theorem dX20_init_8 : decode cX20_init 8 = .ok (.invokespecial 9, 3) := dk_183 0 9 (dk_at dksX20_init_0 8 rfl rfl)
theorem dX20_init_11 : decode cX20_init 11 = .ok (.aload_n 0, 1) := dk_42 (dk_at dksX20_init_0 11 rfl rfl)
theorem dX20_init_12 : decode cX20_init 12 = .ok (.bipush 6, 2) := dk_16 6 (dk_at dksX20_init_0 12 rfl rfl)
theorem dX20_init_14 : decode cX20_init 14 = .ok (.newarray .int, 2) := dk_188_10 (dk_at dksX20_init_0 14 rfl rfl)
theorem dX20_init_16 : decode cX20_init 16 = .ok (.putfield 15, 3) := dk_181 0 15 (dk_at dksX20_init_0 16 rfl rfl)
theorem dX20_init_19 : decode cX20_init 19 = .ok (.aload_n 0, 1) := dk_42 (dk_at dksX20_init_0 19 rfl rfl)
theorem dX20_init_20 : decode cX20_init 20 = .ok (.bipush 40, 2) := dk_16 40 (dk_at dksX20_init_0 20 rfl rfl)
theorem dX20_init_22 : decode cX20_init 22 = .ok (.newarray .int, 2) := dk_188_10 (dk_at dksX20_init_0 22 rfl rfl)
theorem dX20_init_24 : decode cX20_init 24 = .ok (.putfield 19, 3) := dk_181 0 19 (dk_at dksX20_init_1 0 rfl rfl)
theorem dX20_init_27 : decode cX20_init 27 = .ok (.aload_n 0, 1) := dk_42 (dk_at dksX20_init_1 3 rfl rfl)
theorem dX20_init_28 : decode cX20_init 28 = .ok (.iload_n 2, 1) := dk_28 (dk_at dksX20_init_1 4 rfl rfl)
theorem dX20_init_29 : decode cX20_init 29 = .ok (.putfield 22, 3) := dk_181 0 22 (dk_at dksX20_init_1 5 rfl rfl)
theorem dX20_init_32 : decode cX20_init 32 = .ok (.return_, 1) := dk_177 (dk_at dksX20_init_1 8 rfl rfl)
def dkwX21_is_3 : List UInt8 := [96, 92, 46, 4, 96, 79, 132, 1, 1, 167, 255, 191, 4, 172]
abbrev dktX21_is_3 : List UInt8 := dkwX21_is_3 ++ []
def dkwX21_is_2 : List UInt8 := [167, 0, 30, 42, 180, 0, 3, 180, 0, 15, 17, 0, 135, 27, 104, 42, 180, 0, 3, 180, 0, 26, 27, 46]
abbrev dktX21_is_2 : List UInt8 := dkwX21_is_2 ++ dktX21_is_3
def dkwX21_is_1 : List UInt8 := [180, 0, 26, 27, 46, 2, 160, 0, 19, 42, 180, 0, 3, 180, 0, 19, 27, 92, 46, 4, 96, 79]
abbrev dktX21_is_1 : List UInt8 := dkwX21_is_1 ++ dktX21_is_2
def dkwX21_is_0 : List UInt8 := [42, 89, 180, 0, 22, 4, 96, 181, 0, 22, 3, 60, 27, 16, 40, 162, 0, 65, 42, 180, 0, 3]
abbrev dktX21_is_0 : List UInt8 := dkwX21_is_0 ++ dktX21_is_1
theorem dksX21_is_0 : cX21_is.data.toList.drop 0 = dktX21_is_0 := by decide +kernel
theorem dksX21_is_1 : cX21_is.data.toList.drop 22 = dktX21_is_1 := dk_seg dksX21_is_0 22 rfl rfl
theorem dksX21_is_2 : cX21_is.data.toList.drop 44 = dktX21_is_2 := dk_seg dksX21_is_1 22 rfl rfl
theorem dksX21_is_3 : cX21_is.data.toList.drop 68 = dktX21_is_3 := dk_seg dksX21_is_2 24 rfl rfl
theorem dX21_is_0 : decode cX21_is 0 = .ok (.aload_n 0, 1) := dk_42 (dk_at dksX21_is_0 0 rfl rfl)
theorem dX21_is_1 : decode cX21_is 1 = .ok (.dup, 1) := dk_89 (dk_at dksX21_is_0 1 rfl rfl)
theorem dX21_is_2 : decode cX21_is 2 = .ok (.getfield 22, 3) := dk_180 0 22 (dk_at dksX21_is_0 2 rfl rfl)
theorem dX21_is_5 : decode cX21_is 5 = .ok (.iconst 1, 1) := dk_4 (dk_at dksX21_is_0 5 rfl rfl)
theorem dX21_is_6 : decode cX21_is 6 = .ok (.iadd, 1) := dk_96 (dk_at dksX21_is_0 6 rfl rfl)
theorem dX21_is_7 : decode cX21_is 7 = .ok (.putfield 22, 3) := dk_181 0 22 (dk_at dksX21_is_0 7 rfl rfl)
theorem dX21_is_10 : decode cX21_is 10 = .ok (.iconst 0, 1) := dk_3 (dk_at dksX21_is_0 10 rfl rfl)
theorem dX21_is_11 : decode cX21_is 11 = .ok (.istore_n 1, 1) := dk_60 (dk_at dksX21_is_0 11 rfl rfl)
theorem dX21_is_12 : decode cX21_is 12 = .ok (.iload_n 1, 1) := dk_27 (dk_at dksX21_is_0 12 rfl rfl)
theorem dX21_is_13 : decode cX21_is 13 = .ok (.bipush 40, 2) := dk_16 40 (dk_at dksX21_is_0 13 rfl rfl)
theorem dX21_is_15 : decode cX21_is 15 = .ok (.if_icmp .ge 65, 3) := dk_162 0 65 (dk_at dksX21_is_0 15 rfl rfl)
theorem dX21_is_18 : decode cX21_is 18 = .ok (.aload_n 0, 1) := dk_42 (dk_at dksX21_is_0 18 rfl rfl)
theorem dX21_is_19 : decode cX21_is 19 = .ok (.getfield 3, 3) := dk_180 0 3 (dk_at dksX21_is_0 19 rfl rfl)
theorem dX21_is_22 : decode cX21_is 22 = .ok (.getfield 26, 3) := dk_180 0 26 (dk_at dksX21_is_1 0 rfl rfl)
theorem dX21_is_25 : decode cX21_is 25 = .ok (.iload_n 1, 1) := dk_27 (dk_at dksX21_is_1 3 rfl rfl)
theorem dX21_is_26 : decode cX21_is 26 = .ok (.iaload, 1) := dk_46 (dk_at dksX21_is_1 4 rfl rfl)
theorem dX21_is_27 : decode cX21_is 27 = .ok (.iconst (-1), 1) := dk_2 (dk_at dksX21_is_1 5 rfl rfl)
theorem dX21_is_28 : decode cX21_is 28 = .ok (.if_icmp .ne 19, 3) := dk_160 0 19 (dk_at dksX21_is_1 6 rfl rfl)
theorem dX21_is_31 : decode cX21_is 31 = .ok (.aload_n 0, 1) := dk_42 (dk_at dksX21_is_1 9 rfl rfl)
theorem dX21_is_32 : decode cX21_is 32 = .ok (.getfield 3, 3) := dk_180 0 3 (dk_at dksX21_is_1 10 rfl rfl)
theorem dX21_is_35 : decode cX21_is 35 = .ok (.getfield 19, 3) := dk_180 0 19 (dk_at dksX21_is_1 13 rfl rfl)
theorem dX21_is_38 : decode cX21_is 38 = .ok (.iload_n 1, 1) := dk_27 (dk_at dksX21_is_1 16 rfl rfl)
theorem dX21_is_39 : decode cX21_is 39 = .ok (.dup2, 1) := dk_92 (dk_at dksX21_is_1 17 rfl rfl)
theorem dX21_is_40 : decode cX21_is 40 = .ok (.iaload, 1) := dk_46 (dk_at dksX21_is_1 18 rfl rfl)
theorem dX21_is_41 : decode cX21_is 41 = .ok (.iconst 1, 1) := dk_4 (dk_at dksX21_is_1 19 rfl rfl)
theorem dX21_is_42 : decode cX21_is 42 = .ok (.iadd, 1) := dk_96 (dk_at dksX21_is_1 20 rfl rfl)
theorem dX21_is_43 : decode cX21_is 43 = .ok (.iastore, 1) := dk_79 (dk_at dksX21_is_1 21 rfl rfl)
theorem dX21_is_44 : decode cX21_is 44 = .ok (.goto 30, 3) := dk_167 0 30 (dk_at dksX21_is_2 0 rfl rfl)
theorem dX21_is_47 : decode cX21_is 47 = .ok (.aload_n 0, 1) := dk_42 (dk_at dksX21_is_2 3 rfl rfl)
theorem dX21_is_48 : decode cX21_is 48 = .ok (.getfield 3, 3) := dk_180 0 3 (dk_at dksX21_is_2 4 rfl rfl)
theorem dX21_is_51 : decode cX21_is 51 = .ok (.getfield 15, 3) := dk_180 0 15 (dk_at dksX21_is_2 7 rfl rfl)
theorem dX21_is_54 : decode cX21_is 54 = .ok (.sipush 135, 3) := dk_17 0 135 (dk_at dksX21_is_2 10 rfl rfl)
theorem dX21_is_57 : decode cX21_is 57 = .ok (.iload_n 1, 1) := dk_27 (dk_at dksX21_is_2 13 rfl rfl)
theorem dX21_is_58 : decode cX21_is 58 = .ok (.imul, 1) := dk_104 (dk_at dksX21_is_2 14 rfl rfl)
theorem dX21_is_59 : decode cX21_is 59 = .ok (.aload_n 0, 1) := dk_42 (dk_at dksX21_is_2 15 rfl rfl)
theorem dX21_is_60 : decode cX21_is 60 = .ok (.getfield 3, 3) := dk_180 0 3 (dk_at dksX21_is_2 16 rfl rfl)
theorem dX21_is_63 : decode cX21_is 63 = .ok (.getfield 26, 3) := dk_180 0 26 (dk_at dksX21_is_2 19 rfl rfl)
theorem dX21_is_66 : decode cX21_is 66 = .ok (.iload_n 1, 1) := dk_27 (dk_at dksX21_is_2 22 rfl rfl)
theorem dX21_is_67 : decode cX21_is 67 = .ok (.iaload, 1) := dk_46 (dk_at dksX21_is_2 23 rfl rfl)
theorem dX21_is_68 : decode cX21_is 68 = .ok (.iadd, 1) := dk_96 (dk_at dksX21_is_3 0 rfl rfl)
theorem dX21_is_69 : decode cX21_is 69 = .ok (.dup2, 1) := dk_92 (dk_at dksX21_is_3 1 rfl rfl)
theorem dX21_is_70 : decode cX21_is 70 = .ok (.iaload, 1) := dk_46 (dk_at dksX21_is_3 2 rfl rfl)
theorem dX21_is_71 : decode cX21_is 71 = .ok (.iconst 1, 1) := dk_4 (dk_at dksX21_is_3 3 rfl rfl)
theorem dX21_is_72 : decode cX21_is 72 = .ok (.iadd, 1) := dk_96 (dk_at dksX21_is_3 4 rfl rfl)
theorem dX21_is_73 : decode cX21_is 73 = .ok (.iastore, 1) := dk_79 (dk_at dksX21_is_3 5 rfl rfl)
theorem dX21_is_74 : decode cX21_is 74 = .ok (.iinc 1 1, 3) := dk_132 1 1 (dk_at dksX21_is_3 6 rfl rfl)
theorem dX21_is_77 : decode cX21_is 77 = .ok (.goto (-65), 3) := dk_167 255 191 (dk_at dksX21_is_3 9 rfl rfl)
theorem dX21_is_80 : decode cX21_is 80 = .ok (.iconst 1, 1) := dk_4 (dk_at dksX21_is_3 12 rfl rfl)
theorem dX21_is_81 : decode cX21_is 81 = .ok (.ireturn, 1) := dk_172 (dk_at dksX21_is_3 13 rfl rfl)
def dkwX21_init_2 : List UInt8 := [28, 3, 79, 132, 2, 1, 167, 255, 240, 177]
abbrev dktX21_init_2 : List UInt8 := dkwX21_init_2 ++ []
def dkwX21_init_1 : List UInt8 := [180, 0, 15, 28, 3, 79, 132, 2, 1, 167, 255, 237, 3, 61, 28, 16, 40, 162, 0, 16, 43, 180, 0, 19]
abbrev dktX21_init_1 : List UInt8 := dkwX21_init_1 ++ dktX21_init_2
def dkwX21_init_0 : List UInt8 := [42, 43, 181, 0, 3, 42, 43, 3, 183, 0, 9, 3, 61, 28, 43, 180, 0, 15, 190, 162, 0, 16, 43]
abbrev dktX21_init_0 : List UInt8 := dkwX21_init_0 ++ dktX21_init_1
theorem dksX21_init_0 : cX21_init.data.toList.drop 0 = dktX21_init_0 := by decide +kernel
theorem dksX21_init_1 : cX21_init.data.toList.drop 23 = dktX21_init_1 := dk_seg dksX21_init_0 23 rfl rfl
theorem dksX21_init_2 : cX21_init.data.toList.drop 47 = dktX21_init_2 := dk_seg dksX21_init_1 24 rfl rfl
theorem dX21_init_0 : decode cX21_init 0 = .ok (.aload_n 0, 1) := dk_42 (dk_at dksX21_init_0 0 rfl rfl)
theorem dX21_init_1 : decode cX21_init 1 = .ok (.aload_n 1, 1) := dk_43 (dk_at dksX21_init_0 1 rfl rfl)
theorem dX21_init_2 : decode cX21_init 2 = .ok (.putfield 3, 3) := dk_181 0 3 (dk_at dksX21_init_0 2 rfl rfl)
theorem dX21_init_5 : decode cX21_init 5 = .ok (.aload_n 0, 1) := dk_42 (dk_at dksX21_init_0 5 rfl rfl)
theorem dX21_init_6 : decode cX21_init 6 = .ok (.aload_n 1, 1) := dk_43 (dk_at dksX21_init_0 6 rfl rfl)
theorem dX21_init_7 : decode cX21_init 7 = .ok (.iconst 0, 1) := dk_3 (dk_at dksX21_init_0 7 rfl rfl)
theorem dX21_init_8 : decode cX21_init 8 = .ok (.invokespecial 9, 3) := dk_183 0 9 (dk_at dksX21_init_0 8 rfl rfl)
theorem dX21_init_11 : decode cX21_init 11 = .ok (.iconst 0, 1) := dk_3 (dk_at dksX21_init_0 11 rfl rfl)
theorem dX21_init_12 : decode cX21_init 12 = .ok (.istore_n 2, 1) := dk_61 (dk_at dksX21_init_0 12 rfl rfl)
theorem dX21_init_13 : decode cX21_init 13 = .ok (.iload_n 2, 1) := dk_28 (dk_at dksX21_init_0 13 rfl rfl)
theorem dX21_init_14 : decode cX21_init 14 = .ok (.aload_n 1, 1) := dk_43 (dk_at dksX21_init_0 14 rfl rfl)
theorem dX21_init_15 : decode cX21_init 15 = .ok (.getfield 15, 3) := dk_180 0 15 (dk_at dksX21_init_0 15 rfl rfl)
theorem dX21_init_18 : decode cX21_init 18 = .ok (.arraylength, 1) := dk_190 (dk_at dksX21_init_0 18 rfl rfl)
theorem dX21_init_19 : decode cX21_init 19 = .ok (.if_icmp .ge 16, 3) := dk_162 0 16 (dk_at dksX21_init_0 19 rfl rfl)
theorem dX21_init_22 : decode cX21_init 22 = .ok (.aload_n 1, 1) := dk_43 (dk_at dksX21_init_0 22 rfl rfl)
theorem dX21_init_23 : decode cX21_init 23 = .ok (.getfield 15, 3) := dk_180 0 15 (dk_at dksX21_init_1 0 rfl rfl)
theorem dX21_init_26 : decode cX21_init 26 = .ok (.iload_n 2, 1) := dk_28 (dk_at dksX21_init_1 3 rfl rfl)
theorem dX21_init_27 : decode cX21_init 27 = .ok (.iconst 0, 1) := dk_3 (dk_at dksX21_init_1 4 rfl rfl)
theorem dX21_init_28 : decode cX21_init 28 = .ok (.iastore, 1) := dk_79 (dk_at dksX21_init_1 5 rfl rfl)
theorem dX21_init_29 : decode cX21_init 29 = .ok (.iinc 2 1, 3) := dk_132 2 1 (dk_at dksX21_init_1 6 rfl rfl)
theorem dX21_init_32 : decode cX21_init 32 = .ok (.goto (-19), 3) := dk_167 255 237 (dk_at dksX21_init_1 9 rfl rfl)
theorem dX21_init_35 : decode cX21_init 35 = .ok (.iconst 0, 1) := dk_3 (dk_at dksX21_init_1 12 rfl rfl)
theorem dX21_init_36 : decode cX21_init 36 = .ok (.istore_n 2, 1) := dk_61 (dk_at dksX21_init_1 13 rfl rfl)
theorem dX21_init_37 : decode cX21_init 37 = .ok (.iload_n 2, 1) := dk_28 (dk_at dksX21_init_1 14 rfl rfl)
theorem dX21_init_38 : decode cX21_init 38 = .ok (.bipush 40, 2) := dk_16 40 (dk_at dksX21_init_1 15 rfl rfl)
theorem dX21_init_40 : decode cX21_init 40 = .ok (.if_icmp .ge 16, 3) := dk_162 0 16 (dk_at dksX21_init_1 17 rfl rfl)
theorem dX21_init_43 : decode cX21_init 43 = .ok (.aload_n 1, 1) := dk_43 (dk_at dksX21_init_1 20 rfl rfl)
theorem dX21_init_44 : decode cX21_init 44 = .ok (.getfield 19, 3) := dk_180 0 19 (dk_at dksX21_init_1 21 rfl rfl)
theorem dX21_init_47 : decode cX21_init 47 = .ok (.iload_n 2, 1) := dk_28 (dk_at dksX21_init_2 0 rfl rfl)
theorem dX21_init_48 : decode cX21_init 48 = .ok (.iconst 0, 1) := dk_3 (dk_at dksX21_init_2 1 rfl rfl)
theorem dX21_init_49 : decode cX21_init 49 = .ok (.iastore, 1) := dk_79 (dk_at dksX21_init_2 2 rfl rfl)
theorem dX21_init_50 : decode cX21_init 50 = .ok (.iinc 2 1, 3) := dk_132 2 1 (dk_at dksX21_init_2 3 rfl rfl)
theorem dX21_init_53 : decode cX21_init 53 = .ok (.goto (-16), 3) := dk_167 255 240 (dk_at dksX21_init_2 6 rfl rfl)
theorem dX21_init_56 : decode cX21_init 56 = .ok (.return_, 1) := dk_177 (dk_at dksX21_init_2 9 rfl rfl)
def dkwX21_forced_2 : List UInt8 := [172]
abbrev dktX21_forced_2 : List UInt8 := dkwX21_forced_2 ++ []
def dkwX21_forced_1 : List UInt8 := [17, 0, 135, 27, 104, 28, 96, 46, 42, 180, 0, 22, 160, 0, 5, 28, 172, 132, 2, 1, 167, 255, 215, 2]
abbrev dktX21_forced_1 : List UInt8 := dkwX21_forced_1 ++ dktX21_forced_2
def dkwX21_forced_0 : List UInt8 := [3, 61, 28, 17, 0, 135, 162, 0, 40, 42, 180, 0, 22, 158, 0, 33, 42, 180, 0, 3, 180, 0, 15]
abbrev dktX21_forced_0 : List UInt8 := dkwX21_forced_0 ++ dktX21_forced_1
theorem dksX21_forced_0 : cX21_forced.data.toList.drop 0 = dktX21_forced_0 := by decide +kernel
theorem dksX21_forced_1 : cX21_forced.data.toList.drop 23 = dktX21_forced_1 := dk_seg dksX21_forced_0 23 rfl rfl
theorem dksX21_forced_2 : cX21_forced.data.toList.drop 47 = dktX21_forced_2 := dk_seg dksX21_forced_1 24 rfl rfl
theorem dX21_forced_0 : decode cX21_forced 0 = .ok (.iconst 0, 1) := dk_3 (dk_at dksX21_forced_0 0 rfl rfl)
theorem dX21_forced_1 : decode cX21_forced 1 = .ok (.istore_n 2, 1) := dk_61 (dk_at dksX21_forced_0 1 rfl rfl)
theorem dX21_forced_2 : decode cX21_forced 2 = .ok (.iload_n 2, 1) := dk_28 (dk_at dksX21_forced_0 2 rfl rfl)
theorem dX21_forced_3 : decode cX21_forced 3 = .ok (.sipush 135, 3) := dk_17 0 135 (dk_at dksX21_forced_0 3 rfl rfl)
theorem dX21_forced_6 : decode cX21_forced 6 = .ok (.if_icmp .ge 40, 3) := dk_162 0 40 (dk_at dksX21_forced_0 6 rfl rfl)
theorem dX21_forced_9 : decode cX21_forced 9 = .ok (.aload_n 0, 1) := dk_42 (dk_at dksX21_forced_0 9 rfl rfl)
theorem dX21_forced_10 : decode cX21_forced 10 = .ok (.getfield 22, 3) := dk_180 0 22 (dk_at dksX21_forced_0 10 rfl rfl)
theorem dX21_forced_13 : decode cX21_forced 13 = .ok (.ifCond .le 33, 3) := dk_158 0 33 (dk_at dksX21_forced_0 13 rfl rfl)
theorem dX21_forced_16 : decode cX21_forced 16 = .ok (.aload_n 0, 1) := dk_42 (dk_at dksX21_forced_0 16 rfl rfl)
theorem dX21_forced_17 : decode cX21_forced 17 = .ok (.getfield 3, 3) := dk_180 0 3 (dk_at dksX21_forced_0 17 rfl rfl)
theorem dX21_forced_20 : decode cX21_forced 20 = .ok (.getfield 15, 3) := dk_180 0 15 (dk_at dksX21_forced_0 20 rfl rfl)
theorem dX21_forced_23 : decode cX21_forced 23 = .ok (.sipush 135, 3) := dk_17 0 135 (dk_at dksX21_forced_1 0 rfl rfl)
theorem dX21_forced_26 : decode cX21_forced 26 = .ok (.iload_n 1, 1) := dk_27 (dk_at dksX21_forced_1 3 rfl rfl)
theorem dX21_forced_27 : decode cX21_forced 27 = .ok (.imul, 1) := dk_104 (dk_at dksX21_forced_1 4 rfl rfl)
theorem dX21_forced_28 : decode cX21_forced 28 = .ok (.iload_n 2, 1) := dk_28 (dk_at dksX21_forced_1 5 rfl rfl)
theorem dX21_forced_29 : decode cX21_forced 29 = .ok (.iadd, 1) := dk_96 (dk_at dksX21_forced_1 6 rfl rfl)
theorem dX21_forced_30 : decode cX21_forced 30 = .ok (.iaload, 1) := dk_46 (dk_at dksX21_forced_1 7 rfl rfl)
theorem dX21_forced_31 : decode cX21_forced 31 = .ok (.aload_n 0, 1) := dk_42 (dk_at dksX21_forced_1 8 rfl rfl)
theorem dX21_forced_32 : decode cX21_forced 32 = .ok (.getfield 22, 3) := dk_180 0 22 (dk_at dksX21_forced_1 9 rfl rfl)
theorem dX21_forced_35 : decode cX21_forced 35 = .ok (.if_icmp .ne 5, 3) := dk_160 0 5 (dk_at dksX21_forced_1 12 rfl rfl)
theorem dX21_forced_38 : decode cX21_forced 38 = .ok (.iload_n 2, 1) := dk_28 (dk_at dksX21_forced_1 15 rfl rfl)
theorem dX21_forced_39 : decode cX21_forced 39 = .ok (.ireturn, 1) := dk_172 (dk_at dksX21_forced_1 16 rfl rfl)
theorem dX21_forced_40 : decode cX21_forced 40 = .ok (.iinc 2 1, 3) := dk_132 2 1 (dk_at dksX21_forced_1 17 rfl rfl)
theorem dX21_forced_43 : decode cX21_forced 43 = .ok (.goto (-41), 3) := dk_167 255 215 (dk_at dksX21_forced_1 20 rfl rfl)
theorem dX21_forced_46 : decode cX21_forced 46 = .ok (.iconst (-1), 1) := dk_2 (dk_at dksX21_forced_1 23 rfl rfl)
theorem dX21_forced_47 : decode cX21_forced 47 = .ok (.ireturn, 1) := dk_172 (dk_at dksX21_forced_2 0 rfl rfl)
def dkwX21_most_1 : List UInt8 := [180, 0, 15, 17, 0, 135, 27, 104, 29, 96, 46, 184, 0, 29, 61, 132, 3, 1, 167, 255, 226, 28, 172]
abbrev dktX21_most_1 : List UInt8 := dkwX21_most_1 ++ []
def dkwX21_most_0 : List UInt8 := [42, 180, 0, 3, 180, 0, 19, 27, 46, 61, 3, 62, 29, 17, 0, 135, 162, 0, 29, 28, 42, 180, 0, 3]
abbrev dktX21_most_0 : List UInt8 := dkwX21_most_0 ++ dktX21_most_1
theorem dksX21_most_0 : cX21_most.data.toList.drop 0 = dktX21_most_0 := by decide +kernel
theorem dksX21_most_1 : cX21_most.data.toList.drop 24 = dktX21_most_1 := dk_seg dksX21_most_0 24 rfl rfl
theorem dX21_most_0 : decode cX21_most 0 = .ok (.aload_n 0, 1) := dk_42 (dk_at dksX21_most_0 0 rfl rfl)
theorem dX21_most_1 : decode cX21_most 1 = .ok (.getfield 3, 3) := dk_180 0 3 (dk_at dksX21_most_0 1 rfl rfl)
theorem dX21_most_4 : decode cX21_most 4 = .ok (.getfield 19, 3) := dk_180 0 19 (dk_at dksX21_most_0 4 rfl rfl)
theorem dX21_most_7 : decode cX21_most 7 = .ok (.iload_n 1, 1) := dk_27 (dk_at dksX21_most_0 7 rfl rfl)
theorem dX21_most_8 : decode cX21_most 8 = .ok (.iaload, 1) := dk_46 (dk_at dksX21_most_0 8 rfl rfl)
theorem dX21_most_9 : decode cX21_most 9 = .ok (.istore_n 2, 1) := dk_61 (dk_at dksX21_most_0 9 rfl rfl)
theorem dX21_most_10 : decode cX21_most 10 = .ok (.iconst 0, 1) := dk_3 (dk_at dksX21_most_0 10 rfl rfl)
theorem dX21_most_11 : decode cX21_most 11 = .ok (.istore_n 3, 1) := dk_62 (dk_at dksX21_most_0 11 rfl rfl)
theorem dX21_most_12 : decode cX21_most 12 = .ok (.iload_n 3, 1) := dk_29 (dk_at dksX21_most_0 12 rfl rfl)
theorem dX21_most_13 : decode cX21_most 13 = .ok (.sipush 135, 3) := dk_17 0 135 (dk_at dksX21_most_0 13 rfl rfl)
theorem dX21_most_16 : decode cX21_most 16 = .ok (.if_icmp .ge 29, 3) := dk_162 0 29 (dk_at dksX21_most_0 16 rfl rfl)
theorem dX21_most_19 : decode cX21_most 19 = .ok (.iload_n 2, 1) := dk_28 (dk_at dksX21_most_0 19 rfl rfl)
theorem dX21_most_20 : decode cX21_most 20 = .ok (.aload_n 0, 1) := dk_42 (dk_at dksX21_most_0 20 rfl rfl)
theorem dX21_most_21 : decode cX21_most 21 = .ok (.getfield 3, 3) := dk_180 0 3 (dk_at dksX21_most_0 21 rfl rfl)
theorem dX21_most_24 : decode cX21_most 24 = .ok (.getfield 15, 3) := dk_180 0 15 (dk_at dksX21_most_1 0 rfl rfl)
theorem dX21_most_27 : decode cX21_most 27 = .ok (.sipush 135, 3) := dk_17 0 135 (dk_at dksX21_most_1 3 rfl rfl)
theorem dX21_most_30 : decode cX21_most 30 = .ok (.iload_n 1, 1) := dk_27 (dk_at dksX21_most_1 6 rfl rfl)
theorem dX21_most_31 : decode cX21_most 31 = .ok (.imul, 1) := dk_104 (dk_at dksX21_most_1 7 rfl rfl)
theorem dX21_most_32 : decode cX21_most 32 = .ok (.iload_n 3, 1) := dk_29 (dk_at dksX21_most_1 8 rfl rfl)
theorem dX21_most_33 : decode cX21_most 33 = .ok (.iadd, 1) := dk_96 (dk_at dksX21_most_1 9 rfl rfl)
theorem dX21_most_34 : decode cX21_most 34 = .ok (.iaload, 1) := dk_46 (dk_at dksX21_most_1 10 rfl rfl)
theorem dX21_most_35 : decode cX21_most 35 = .ok (.invokestatic 29, 3) := dk_184 0 29 (dk_at dksX21_most_1 11 rfl rfl)
theorem dX21_most_38 : decode cX21_most 38 = .ok (.istore_n 2, 1) := dk_61 (dk_at dksX21_most_1 14 rfl rfl)
theorem dX21_most_39 : decode cX21_most 39 = .ok (.iinc 3 1, 3) := dk_132 3 1 (dk_at dksX21_most_1 15 rfl rfl)
theorem dX21_most_42 : decode cX21_most 42 = .ok (.goto (-30), 3) := dk_167 255 226 (dk_at dksX21_most_1 18 rfl rfl)
theorem dX21_most_45 : decode cX21_most 45 = .ok (.iload_n 2, 1) := dk_28 (dk_at dksX21_most_1 21 rfl rfl)
theorem dX21_most_46 : decode cX21_most 46 = .ok (.ireturn, 1) := dk_172 (dk_at dksX21_most_1 22 rfl rfl)
def dkwX22_is_3 : List UInt8 := [182, 0, 58, 42, 180, 0, 54, 154, 0, 7, 4, 167, 0, 4, 3, 172]
abbrev dktX22_is_3 : List UInt8 := dkwX22_is_3 ++ []
def dkwX22_is_2 : List UInt8 := [192, 0, 44, 180, 0, 46, 42, 180, 0, 19, 50, 42, 180, 0, 22, 182, 0, 50, 181, 0, 54, 42, 27]
abbrev dktX22_is_2 : List UInt8 := dkwX22_is_2 ++ dktX22_is_3
def dkwX22_is_1 : List UInt8 := [172, 42, 182, 0, 30, 60, 42, 42, 42, 180, 0, 3, 180, 0, 34, 42, 180, 0, 15, 182, 0, 38]
abbrev dktX22_is_1 : List UInt8 := dkwX22_is_1 ++ dktX22_is_2
def dkwX22_is_0 : List UInt8 := [42, 180, 0, 3, 180, 0, 26, 16, 8, 42, 180, 0, 15, 104, 42, 180, 0, 19, 96, 51, 153, 0, 5, 4]
abbrev dktX22_is_0 : List UInt8 := dkwX22_is_0 ++ dktX22_is_1
theorem dksX22_is_0 : cX22_is.data.toList.drop 0 = dktX22_is_0 := by decide +kernel
theorem dksX22_is_1 : cX22_is.data.toList.drop 24 = dktX22_is_1 := dk_seg dksX22_is_0 24 rfl rfl
theorem dksX22_is_2 : cX22_is.data.toList.drop 46 = dktX22_is_2 := dk_seg dksX22_is_1 22 rfl rfl
theorem dksX22_is_3 : cX22_is.data.toList.drop 69 = dktX22_is_3 := dk_seg dksX22_is_2 23 rfl rfl
theorem dX22_is_0 : decode cX22_is 0 = .ok (.aload_n 0, 1) := dk_42 (dk_at dksX22_is_0 0 rfl rfl)
theorem dX22_is_1 : decode cX22_is 1 = .ok (.getfield 3, 3) := dk_180 0 3 (dk_at dksX22_is_0 1 rfl rfl)
theorem dX22_is_4 : decode cX22_is 4 = .ok (.getfield 26, 3) := dk_180 0 26 (dk_at dksX22_is_0 4 rfl rfl)
theorem dX22_is_7 : decode cX22_is 7 = .ok (.bipush 8, 2) := dk_16 8 (dk_at dksX22_is_0 7 rfl rfl)
theorem dX22_is_9 : decode cX22_is 9 = .ok (.aload_n 0, 1) := dk_42 (dk_at dksX22_is_0 9 rfl rfl)
theorem dX22_is_10 : decode cX22_is 10 = .ok (.getfield 15, 3) := dk_180 0 15 (dk_at dksX22_is_0 10 rfl rfl)
theorem dX22_is_13 : decode cX22_is 13 = .ok (.imul, 1) := dk_104 (dk_at dksX22_is_0 13 rfl rfl)
theorem dX22_is_14 : decode cX22_is 14 = .ok (.aload_n 0, 1) := dk_42 (dk_at dksX22_is_0 14 rfl rfl)
theorem dX22_is_15 : decode cX22_is 15 = .ok (.getfield 19, 3) := dk_180 0 19 (dk_at dksX22_is_0 15 rfl rfl)
theorem dX22_is_18 : decode cX22_is 18 = .ok (.iadd, 1) := dk_96 (dk_at dksX22_is_0 18 rfl rfl)
theorem dX22_is_19 : decode cX22_is 19 = .ok (.baload, 1) := dk_51 (dk_at dksX22_is_0 19 rfl rfl)
theorem dX22_is_20 : decode cX22_is 20 = .ok (.ifCond .eq 5, 3) := dk_153 0 5 (dk_at dksX22_is_0 20 rfl rfl)
theorem dX22_is_23 : decode cX22_is 23 = .ok (.iconst 1, 1) := dk_4 (dk_at dksX22_is_0 23 rfl rfl)
theorem dX22_is_24 : decode cX22_is 24 = .ok (.ireturn, 1) := dk_172 (dk_at dksX22_is_1 0 rfl rfl)
theorem dX22_is_25 : decode cX22_is 25 = .ok (.aload_n 0, 1) := dk_42 (dk_at dksX22_is_1 1 rfl rfl)
theorem dX22_is_26 : decode cX22_is 26 = .ok (.invokevirtual 30, 3) := dk_182 0 30 (dk_at dksX22_is_1 2 rfl rfl)
theorem dX22_is_29 : decode cX22_is 29 = .ok (.istore_n 1, 1) := dk_60 (dk_at dksX22_is_1 5 rfl rfl)
theorem dX22_is_30 : decode cX22_is 30 = .ok (.aload_n 0, 1) := dk_42 (dk_at dksX22_is_1 6 rfl rfl)
theorem dX22_is_31 : decode cX22_is 31 = .ok (.aload_n 0, 1) := dk_42 (dk_at dksX22_is_1 7 rfl rfl)
theorem dX22_is_32 : decode cX22_is 32 = .ok (.aload_n 0, 1) := dk_42 (dk_at dksX22_is_1 8 rfl rfl)
theorem dX22_is_33 : decode cX22_is 33 = .ok (.getfield 3, 3) := dk_180 0 3 (dk_at dksX22_is_1 9 rfl rfl)
theorem dX22_is_36 : decode cX22_is 36 = .ok (.getfield 34, 3) := dk_180 0 34 (dk_at dksX22_is_1 12 rfl rfl)
theorem dX22_is_39 : decode cX22_is 39 = .ok (.aload_n 0, 1) := dk_42 (dk_at dksX22_is_1 15 rfl rfl)
theorem dX22_is_40 : decode cX22_is 40 = .ok (.getfield 15, 3) := dk_180 0 15 (dk_at dksX22_is_1 16 rfl rfl)
theorem dX22_is_43 : decode cX22_is 43 = .ok (.invokevirtual 38, 3) := dk_182 0 38 (dk_at dksX22_is_1 19 rfl rfl)
theorem dX22_is_46 : decode cX22_is 46 = .ok (.checkcast 44, 3) := dk_192 0 44 (dk_at dksX22_is_2 0 rfl rfl)
theorem dX22_is_49 : decode cX22_is 49 = .ok (.getfield 46, 3) := dk_180 0 46 (dk_at dksX22_is_2 3 rfl rfl)
theorem dX22_is_52 : decode cX22_is 52 = .ok (.aload_n 0, 1) := dk_42 (dk_at dksX22_is_2 6 rfl rfl)
theorem dX22_is_53 : decode cX22_is 53 = .ok (.getfield 19, 3) := dk_180 0 19 (dk_at dksX22_is_2 7 rfl rfl)
theorem dX22_is_56 : decode cX22_is 56 = .ok (.aaload, 1) := dk_50 (dk_at dksX22_is_2 10 rfl rfl)
theorem dX22_is_57 : decode cX22_is 57 = .ok (.aload_n 0, 1) := dk_42 (dk_at dksX22_is_2 11 rfl rfl)
theorem dX22_is_58 : decode cX22_is 58 = .ok (.getfield 22, 3) := dk_180 0 22 (dk_at dksX22_is_2 12 rfl rfl)
theorem dX22_is_61 : decode cX22_is 61 = .ok (.invokevirtual 50, 3) := dk_182 0 50 (dk_at dksX22_is_2 15 rfl rfl)
theorem dX22_is_64 : decode cX22_is 64 = .ok (.putfield 54, 3) := dk_181 0 54 (dk_at dksX22_is_2 18 rfl rfl)
theorem dX22_is_67 : decode cX22_is 67 = .ok (.aload_n 0, 1) := dk_42 (dk_at dksX22_is_2 21 rfl rfl)
theorem dX22_is_68 : decode cX22_is 68 = .ok (.iload_n 1, 1) := dk_27 (dk_at dksX22_is_2 22 rfl rfl)
theorem dX22_is_69 : decode cX22_is 69 = .ok (.invokevirtual 58, 3) := dk_182 0 58 (dk_at dksX22_is_3 0 rfl rfl)
theorem dX22_is_72 : decode cX22_is 72 = .ok (.aload_n 0, 1) := dk_42 (dk_at dksX22_is_3 3 rfl rfl)
theorem dX22_is_73 : decode cX22_is 73 = .ok (.getfield 54, 3) := dk_180 0 54 (dk_at dksX22_is_3 4 rfl rfl)
theorem dX22_is_76 : decode cX22_is 76 = .ok (.ifCond .ne 7, 3) := dk_154 0 7 (dk_at dksX22_is_3 7 rfl rfl)
theorem dX22_is_79 : decode cX22_is 79 = .ok (.iconst 1, 1) := dk_4 (dk_at dksX22_is_3 10 rfl rfl)
theorem dX22_is_80 : decode cX22_is 80 = .ok (.goto 4, 3) := dk_167 0 4 (dk_at dksX22_is_3 11 rfl rfl)
theorem dX22_is_83 : decode cX22_is 83 = .ok (.iconst 0, 1) := dk_3 (dk_at dksX22_is_3 14 rfl rfl)
theorem dX22_is_84 : decode cX22_is 84 = .ok (.ireturn, 1) := dk_172 (dk_at dksX22_is_3 15 rfl rfl)
def dkwX22_init_1 : List UInt8 := [181, 0, 22, 177]
abbrev dktX22_init_1 : List UInt8 := dkwX22_init_1 ++ []
def dkwX22_init_0 : List UInt8 := [42, 43, 181, 0, 3, 42, 43, 3, 183, 0, 9, 42, 28, 181, 0, 15, 42, 29, 181, 0, 19, 42, 25, 4]
abbrev dktX22_init_0 : List UInt8 := dkwX22_init_0 ++ dktX22_init_1
theorem dksX22_init_0 : cX22_init.data.toList.drop 0 = dktX22_init_0 := by decide +kernel
theorem dksX22_init_1 : cX22_init.data.toList.drop 24 = dktX22_init_1 := dk_seg dksX22_init_0 24 rfl rfl
theorem dX22_init_0 : decode cX22_init 0 = .ok (.aload_n 0, 1) := dk_42 (dk_at dksX22_init_0 0 rfl rfl)
theorem dX22_init_1 : decode cX22_init 1 = .ok (.aload_n 1, 1) := dk_43 (dk_at dksX22_init_0 1 rfl rfl)
theorem dX22_init_2 : decode cX22_init 2 = .ok (.putfield 3, 3) := dk_181 0 3 (dk_at dksX22_init_0 2 rfl rfl)
theorem dX22_init_5 : decode cX22_init 5 = .ok (.aload_n 0, 1) := dk_42 (dk_at dksX22_init_0 5 rfl rfl)
theorem dX22_init_6 : decode cX22_init 6 = .ok (.aload_n 1, 1) := dk_43 (dk_at dksX22_init_0 6 rfl rfl)
theorem dX22_init_7 : decode cX22_init 7 = .ok (.iconst 0, 1) := dk_3 (dk_at dksX22_init_0 7 rfl rfl)
theorem dX22_init_8 : decode cX22_init 8 = .ok (.invokespecial 9, 3) := dk_183 0 9 (dk_at dksX22_init_0 8 rfl rfl)
theorem dX22_init_11 : decode cX22_init 11 = .ok (.aload_n 0, 1) := dk_42 (dk_at dksX22_init_0 11 rfl rfl)
theorem dX22_init_12 : decode cX22_init 12 = .ok (.iload_n 2, 1) := dk_28 (dk_at dksX22_init_0 12 rfl rfl)
theorem dX22_init_13 : decode cX22_init 13 = .ok (.putfield 15, 3) := dk_181 0 15 (dk_at dksX22_init_0 13 rfl rfl)
theorem dX22_init_16 : decode cX22_init 16 = .ok (.aload_n 0, 1) := dk_42 (dk_at dksX22_init_0 16 rfl rfl)
theorem dX22_init_17 : decode cX22_init 17 = .ok (.iload_n 3, 1) := dk_29 (dk_at dksX22_init_0 17 rfl rfl)
theorem dX22_init_18 : decode cX22_init 18 = .ok (.putfield 19, 3) := dk_181 0 19 (dk_at dksX22_init_0 18 rfl rfl)
theorem dX22_init_21 : decode cX22_init 21 = .ok (.aload_n 0, 1) := dk_42 (dk_at dksX22_init_0 21 rfl rfl)
theorem dX22_init_22 : decode cX22_init 22 = .ok (.aload 4, 2) := dk_25 4 (dk_at dksX22_init_0 22 rfl rfl)
theorem dX22_init_24 : decode cX22_init 24 = .ok (.putfield 22, 3) := dk_181 0 22 (dk_at dksX22_init_1 0 rfl rfl)
theorem dX22_init_27 : decode cX22_init 27 = .ok (.return_, 1) := dk_177 (dk_at dksX22_init_1 3 rfl rfl)
def dkwX23_is_0 : List UInt8 := [42, 4, 181, 0, 13, 3, 172]
abbrev dktX23_is_0 : List UInt8 := dkwX23_is_0 ++ []
theorem dksX23_is_0 : cX23_is.data.toList.drop 0 = dktX23_is_0 := by decide +kernel
theorem dX23_is_0 : decode cX23_is 0 = .ok (.aload_n 0, 1) := dk_42 (dk_at dksX23_is_0 0 rfl rfl)
theorem dX23_is_1 : decode cX23_is 1 = .ok (.iconst 1, 1) := dk_4 (dk_at dksX23_is_0 1 rfl rfl)
theorem dX23_is_2 : decode cX23_is 2 = .ok (.putfield 13, 3) := dk_181 0 13 (dk_at dksX23_is_0 2 rfl rfl)
theorem dX23_is_5 : decode cX23_is 5 = .ok (.iconst 0, 1) := dk_3 (dk_at dksX23_is_0 5 rfl rfl)
theorem dX23_is_6 : decode cX23_is 6 = .ok (.ireturn, 1) := dk_172 (dk_at dksX23_is_0 6 rfl rfl)
def dkwX23_init_0 : List UInt8 := [42, 43, 181, 0, 1, 42, 43, 28, 183, 0, 7, 177]
abbrev dktX23_init_0 : List UInt8 := dkwX23_init_0 ++ []
theorem dksX23_init_0 : cX23_init.data.toList.drop 0 = dktX23_init_0 := by decide +kernel
theorem dX23_init_0 : decode cX23_init 0 = .ok (.aload_n 0, 1) := dk_42 (dk_at dksX23_init_0 0 rfl rfl)
theorem dX23_init_1 : decode cX23_init 1 = .ok (.aload_n 1, 1) := dk_43 (dk_at dksX23_init_0 1 rfl rfl)
theorem dX23_init_2 : decode cX23_init 2 = .ok (.putfield 1, 3) := dk_181 0 1 (dk_at dksX23_init_0 2 rfl rfl)
theorem dX23_init_5 : decode cX23_init 5 = .ok (.aload_n 0, 1) := dk_42 (dk_at dksX23_init_0 5 rfl rfl)
theorem dX23_init_6 : decode cX23_init 6 = .ok (.aload_n 1, 1) := dk_43 (dk_at dksX23_init_0 6 rfl rfl)
theorem dX23_init_7 : decode cX23_init 7 = .ok (.iload_n 2, 1) := dk_28 (dk_at dksX23_init_0 7 rfl rfl)
theorem dX23_init_8 : decode cX23_init 8 = .ok (.invokespecial 7, 3) := dk_183 0 7 (dk_at dksX23_init_0 8 rfl rfl)
theorem dX23_init_11 : decode cX23_init 11 = .ok (.return_, 1) := dk_177 (dk_at dksX23_init_0 11 rfl rfl)
