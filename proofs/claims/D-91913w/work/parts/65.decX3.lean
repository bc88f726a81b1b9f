set_option maxRecDepth 100000
def dkwX3_init_5 : List UInt8 := [181, 0, 52, 42, 16, 80, 188, 10, 181, 0, 55, 177]
abbrev dktX3_init_5 : List UInt8 := dkwX3_init_5 ++ []
def dkwX3_init_4 : List UInt8 := [181, 0, 43, 42, 16, 40, 188, 10, 181, 0, 46, 42, 16, 80, 188, 10, 181, 0, 49, 42, 16, 80, 188, 10]
abbrev dktX3_init_4 : List UInt8 := dkwX3_init_4 ++ dktX3_init_5
def dkwX3_init_3 : List UInt8 := [17, 12, 128, 188, 10, 181, 0, 37, 42, 16, 80, 188, 10, 181, 0, 40, 42, 17, 6, 64, 188, 10]
abbrev dktX3_init_3 : List UInt8 := dkwX3_init_3 ++ dktX3_init_4
def dkwX3_init_2 : List UInt8 := [181, 0, 27, 42, 17, 12, 128, 188, 4, 181, 0, 30, 42, 17, 12, 128, 188, 4, 181, 0, 34, 42]
abbrev dktX3_init_2 : List UInt8 := dkwX3_init_2 ++ dktX3_init_3
def dkwX3_init_1 : List UInt8 := [181, 0, 19, 42, 17, 0, 192, 16, 6, 197, 0, 22, 2, 181, 0, 24, 42, 17, 0, 192, 188, 10]
abbrev dktX3_init_1 : List UInt8 := dkwX3_init_1 ++ dktX3_init_2
def dkwX3_init_0 : List UInt8 := [42, 43, 181, 0, 3, 42, 183, 0, 9, 42, 16, 40, 188, 10, 181, 0, 15, 42, 17, 6, 64, 188, 10]
abbrev dktX3_init_0 : List UInt8 := dkwX3_init_0 ++ dktX3_init_1
theorem dksX3_init_0 : cX3_init.data.toList.drop 0 = dktX3_init_0 := by decide +kernel
theorem dksX3_init_1 : cX3_init.data.toList.drop 23 = dktX3_init_1 := dk_seg dksX3_init_0 23 rfl rfl
theorem dksX3_init_2 : cX3_init.data.toList.drop 45 = dktX3_init_2 := dk_seg dksX3_init_1 22 rfl rfl
theorem dksX3_init_3 : cX3_init.data.toList.drop 67 = dktX3_init_3 := dk_seg dksX3_init_2 22 rfl rfl
theorem dksX3_init_4 : cX3_init.data.toList.drop 89 = dktX3_init_4 := dk_seg dksX3_init_3 22 rfl rfl
theorem dksX3_init_5 : cX3_init.data.toList.drop 113 = dktX3_init_5 := dk_seg dksX3_init_4 24 rfl rfl
theorem dX3_init_0 : decode cX3_init 0 = .ok (.aload_n 0, 1) := dk_42 (dk_at dksX3_init_0 0 rfl rfl)
theorem dX3_init_1 : decode cX3_init 1 = .ok (.aload_n 1, 1) := dk_43 (dk_at dksX3_init_0 1 rfl rfl)
theorem dX3_init_2 : decode cX3_init 2 = .ok (.putfield 3, 3) := dk_181 0 3 (dk_at dksX3_init_0 2 rfl rfl)
theorem dX3_init_5 : decode cX3_init 5 = .ok (.aload_n 0, 1) := dk_42 (dk_at dksX3_init_0 5 rfl rfl)
theorem dX3_init_6 : decode cX3_init 6 = .ok (.invokespecial 9, 3) := dk_183 0 9 (dk_at dksX3_init_0 6 rfl rfl)
theorem dX3_init_9 : decode cX3_init 9 = .ok (.aload_n 0, 1) := dk_42 (dk_at dksX3_init_0 9 rfl rfl)
theorem dX3_init_10 : decode cX3_init 10 = .ok (.bipush 40, 2) := dk_16 40 (dk_at dksX3_init_0 10 rfl rfl)
theorem dX3_init_12 : decode cX3_init 12 = .ok (.newarray .int, 2) := dk_188_10 (dk_at dksX3_init_0 12 rfl rfl)
theorem dX3_init_14 : decode cX3_init 14 = .ok (.putfield 15, 3) := dk_181 0 15 (dk_at dksX3_init_0 14 rfl rfl)
theorem dX3_init_17 : decode cX3_init 17 = .ok (.aload_n 0, 1) := dk_42 (dk_at dksX3_init_0 17 rfl rfl)
theorem dX3_init_18 : decode cX3_init 18 = .ok (.sipush 1600, 3) := dk_17 6 64 (dk_at dksX3_init_0 18 rfl rfl)
theorem dX3_init_21 : decode cX3_init 21 = .ok (.newarray .int, 2) := dk_188_10 (dk_at dksX3_init_0 21 rfl rfl)
theorem dX3_init_23 : decode cX3_init 23 = .ok (.putfield 19, 3) := dk_181 0 19 (dk_at dksX3_init_1 0 rfl rfl)
theorem dX3_init_26 : decode cX3_init 26 = .ok (.aload_n 0, 1) := dk_42 (dk_at dksX3_init_1 3 rfl rfl)
theorem dX3_init_27 : decode cX3_init 27 = .ok (.sipush 192, 3) := dk_17 0 192 (dk_at dksX3_init_1 4 rfl rfl)
theorem dX3_init_30 : decode cX3_init 30 = .ok (.bipush 6, 2) := dk_16 6 (dk_at dksX3_init_1 7 rfl rfl)
theorem dX3_init_32 : decode cX3_init 32 = .ok (.multianewarray 22 2, 4) := by decide +kernel
theorem dX3_init_36 : decode cX3_init 36 = .ok (.putfield 24, 3) := dk_181 0 24 (dk_at dksX3_init_1 13 rfl rfl)
theorem dX3_init_39 : decode cX3_init 39 = .ok (.aload_n 0, 1) := dk_42 (dk_at dksX3_init_1 16 rfl rfl)
theorem dX3_init_40 : decode cX3_init 40 = .ok (.sipush 192, 3) := dk_17 0 192 (dk_at dksX3_init_1 17 rfl rfl)
theorem dX3_init_43 : decode cX3_init 43 = .ok (.newarray .int, 2) := dk_188_10 (dk_at dksX3_init_1 20 rfl rfl)
theorem dX3_init_45 : decode cX3_init 45 = .ok (.putfield 27, 3) := dk_181 0 27 (dk_at dksX3_init_2 0 rfl rfl)
theorem dX3_init_48 : decode cX3_init 48 = .ok (.aload_n 0, 1) := dk_42 (dk_at dksX3_init_2 3 rfl rfl)
theorem dX3_init_49 : decode cX3_init 49 = .ok (.sipush 3200, 3) := dk_17 12 128 (dk_at dksX3_init_2 4 rfl rfl)
theorem dX3_init_52 : decode cX3_init 52 = .ok (.newarray .boolean, 2) := dk_188_4 (dk_at dksX3_init_2 7 rfl rfl)
theorem dX3_init_54 : decode cX3_init 54 = .ok (.putfield 30, 3) := dk_181 0 30 (dk_at dksX3_init_2 9 rfl rfl)
theorem dX3_init_57 : decode cX3_init 57 = .ok (.aload_n 0, 1) := dk_42 (dk_at dksX3_init_2 12 rfl rfl)
theorem dX3_init_58 : decode cX3_init 58 = .ok (.sipush 3200, 3) := dk_17 12 128 (dk_at dksX3_init_2 13 rfl rfl)
theorem dX3_init_61 : decode cX3_init 61 = .ok (.newarray .boolean, 2) := dk_188_4 (dk_at dksX3_init_2 16 rfl rfl)
theorem dX3_init_63 : decode cX3_init 63 = .ok (.putfield 34, 3) := dk_181 0 34 (dk_at dksX3_init_2 18 rfl rfl)
theorem dX3_init_66 : decode cX3_init 66 = .ok (.aload_n 0, 1) := dk_42 (dk_at dksX3_init_2 21 rfl rfl)
theorem dX3_init_67 : decode cX3_init 67 = .ok (.sipush 3200, 3) := dk_17 12 128 (dk_at dksX3_init_3 0 rfl rfl)
theorem dX3_init_70 : decode cX3_init 70 = .ok (.newarray .int, 2) := dk_188_10 (dk_at dksX3_init_3 3 rfl rfl)
theorem dX3_init_72 : decode cX3_init 72 = .ok (.putfield 37, 3) := dk_181 0 37 (dk_at dksX3_init_3 5 rfl rfl)
theorem dX3_init_75 : decode cX3_init 75 = .ok (.aload_n 0, 1) := dk_42 (dk_at dksX3_init_3 8 rfl rfl)
theorem dX3_init_76 : decode cX3_init 76 = .ok (.bipush 80, 2) := dk_16 80 (dk_at dksX3_init_3 9 rfl rfl)
theorem dX3_init_78 : decode cX3_init 78 = .ok (.newarray .int, 2) := dk_188_10 (dk_at dksX3_init_3 11 rfl rfl)
theorem dX3_init_80 : decode cX3_init 80 = .ok (.putfield 40, 3) := dk_181 0 40 (dk_at dksX3_init_3 13 rfl rfl)
theorem dX3_init_83 : decode cX3_init 83 = .ok (.aload_n 0, 1) := dk_42 (dk_at dksX3_init_3 16 rfl rfl)
theorem dX3_init_84 : decode cX3_init 84 = .ok (.sipush 1600, 3) := dk_17 6 64 (dk_at dksX3_init_3 17 rfl rfl)
theorem dX3_init_87 : decode cX3_init 87 = .ok (.newarray .int, 2) := dk_188_10 (dk_at dksX3_init_3 20 rfl rfl)
theorem dX3_init_89 : decode cX3_init 89 = .ok (.putfield 43, 3) := dk_181 0 43 (dk_at dksX3_init_4 0 rfl rfl)
theorem dX3_init_92 : decode cX3_init 92 = .ok (.aload_n 0, 1) := dk_42 (dk_at dksX3_init_4 3 rfl rfl)
theorem dX3_init_93 : decode cX3_init 93 = .ok (.bipush 40, 2) := dk_16 40 (dk_at dksX3_init_4 4 rfl rfl)
theorem dX3_init_95 : decode cX3_init 95 = .ok (.newarray .int, 2) := dk_188_10 (dk_at dksX3_init_4 6 rfl rfl)
theorem dX3_init_97 : decode cX3_init 97 = .ok (.putfield 46, 3) := dk_181 0 46 (dk_at dksX3_init_4 8 rfl rfl)
theorem dX3_init_100 : decode cX3_init 100 = .ok (.aload_n 0, 1) := dk_42 (dk_at dksX3_init_4 11 rfl rfl)
theorem dX3_init_101 : decode cX3_init 101 = .ok (.bipush 80, 2) := dk_16 80 (dk_at dksX3_init_4 12 rfl rfl)
theorem dX3_init_103 : decode cX3_init 103 = .ok (.newarray .int, 2) := dk_188_10 (dk_at dksX3_init_4 14 rfl rfl)
theorem dX3_init_105 : decode cX3_init 105 = .ok (.putfield 49, 3) := dk_181 0 49 (dk_at dksX3_init_4 16 rfl rfl)
theorem dX3_init_108 : decode cX3_init 108 = .ok (.aload_n 0, 1) := dk_42 (dk_at dksX3_init_4 19 rfl rfl)
theorem dX3_init_109 : decode cX3_init 109 = .ok (.bipush 80, 2) := dk_16 80 (dk_at dksX3_init_4 20 rfl rfl)
theorem dX3_init_111 : decode cX3_init 111 = .ok (.newarray .int, 2) := dk_188_10 (dk_at dksX3_init_4 22 rfl rfl)
theorem dX3_init_113 : decode cX3_init 113 = .ok (.putfield 52, 3) := dk_181 0 52 (dk_at dksX3_init_5 0 rfl rfl)
theorem dX3_init_116 : decode cX3_init 116 = .ok (.aload_n 0, 1) := dk_42 (dk_at dksX3_init_5 3 rfl rfl)
theorem dX3_init_117 : decode cX3_init 117 = .ok (.bipush 80, 2) := dk_16 80 (dk_at dksX3_init_5 4 rfl rfl)
theorem dX3_init_119 : decode cX3_init 119 = .ok (.newarray .int, 2) := dk_188_10 (dk_at dksX3_init_5 6 rfl rfl)
theorem dX3_init_121 : decode cX3_init 121 = .ok (.putfield 55, 3) := dk_181 0 55 (dk_at dksX3_init_5 8 rfl rfl)
theorem dX3_init_124 : decode cX3_init 124 = .ok (.return_, 1) := dk_177 (dk_at dksX3_init_5 11 rfl rfl)
def dkwX3_be_7 : List UInt8 := [167, 255, 186, 42, 176]
abbrev dktX3_be_7 : List UInt8 := dkwX3_be_7 ++ []
def dkwX3_be_6 : List UInt8 := [153, 0, 20, 42, 45, 180, 0, 98, 21, 4, 50, 182, 0, 105, 132, 4, 1, 167, 255, 224, 132, 2, 1]
abbrev dktX3_be_6 : List UInt8 := dkwX3_be_6 ++ dktX3_be_7
def dkwX3_be_5 : List UInt8 := [192, 0, 96, 78, 3, 54, 4, 21, 4, 45, 180, 0, 98, 190, 162, 0, 28, 45, 27, 182, 0, 101]
abbrev dktX3_be_5 : List UInt8 := dkwX3_be_5 ++ dktX3_be_6
def dkwX3_be_4 : List UInt8 := [180, 0, 3, 180, 0, 93, 182, 0, 73, 162, 0, 62, 42, 180, 0, 3, 180, 0, 93, 28, 182, 0, 78]
abbrev dktX3_be_4 : List UInt8 := dkwX3_be_4 ++ dktX3_be_5
def dkwX3_be_3 : List UInt8 := [181, 0, 66, 132, 2, 1, 167, 255, 200, 42, 182, 0, 87, 42, 3, 181, 0, 90, 3, 61, 28, 42]
abbrev dktX3_be_3 : List UInt8 := dkwX3_be_3 ++ dktX3_be_4
def dkwX3_be_2 : List UInt8 := [180, 0, 84, 27, 163, 0, 21, 42, 42, 180, 0, 3, 180, 0, 69, 28, 182, 0, 78, 192, 0, 82]
abbrev dktX3_be_2 : List UInt8 := dkwX3_be_2 ++ dktX3_be_3
def dkwX3_be_1 : List UInt8 := [180, 0, 69, 182, 0, 73, 162, 0, 48, 42, 180, 0, 3, 180, 0, 69, 28, 182, 0, 78, 192, 0, 82]
abbrev dktX3_be_1 : List UInt8 := dkwX3_be_1 ++ dktX3_be_2
def dkwX3_be_0 : List UInt8 := [42, 27, 181, 0, 58, 42, 42, 180, 0, 3, 180, 0, 62, 181, 0, 66, 3, 61, 28, 42, 180, 0, 3]
abbrev dktX3_be_0 : List UInt8 := dkwX3_be_0 ++ dktX3_be_1
theorem dksX3_be_0 : cX3_be.data.toList.drop 0 = dktX3_be_0 := by decide +kernel
theorem dksX3_be_1 : cX3_be.data.toList.drop 23 = dktX3_be_1 := dk_seg dksX3_be_0 23 rfl rfl
theorem dksX3_be_2 : cX3_be.data.toList.drop 46 = dktX3_be_2 := dk_seg dksX3_be_1 23 rfl rfl
theorem dksX3_be_3 : cX3_be.data.toList.drop 68 = dktX3_be_3 := dk_seg dksX3_be_2 22 rfl rfl
theorem dksX3_be_4 : cX3_be.data.toList.drop 90 = dktX3_be_4 := dk_seg dksX3_be_3 22 rfl rfl
theorem dksX3_be_5 : cX3_be.data.toList.drop 113 = dktX3_be_5 := dk_seg dksX3_be_4 23 rfl rfl
theorem dksX3_be_6 : cX3_be.data.toList.drop 135 = dktX3_be_6 := dk_seg dksX3_be_5 22 rfl rfl
theorem dksX3_be_7 : cX3_be.data.toList.drop 158 = dktX3_be_7 := dk_seg dksX3_be_6 23 rfl rfl
theorem dX3_be_0 : decode cX3_be 0 = .ok (.aload_n 0, 1) := dk_42 (dk_at dksX3_be_0 0 rfl rfl)
theorem dX3_be_1 : decode cX3_be 1 = .ok (.iload_n 1, 1) := dk_27 (dk_at dksX3_be_0 1 rfl rfl)
theorem dX3_be_2 : decode cX3_be 2 = .ok (.putfield 58, 3) := dk_181 0 58 (dk_at dksX3_be_0 2 rfl rfl)
theorem dX3_be_5 : decode cX3_be 5 = .ok (.aload_n 0, 1) := dk_42 (dk_at dksX3_be_0 5 rfl rfl)
theorem dX3_be_6 : decode cX3_be 6 = .ok (.aload_n 0, 1) := dk_42 (dk_at dksX3_be_0 6 rfl rfl)
theorem dX3_be_7 : decode cX3_be 7 = .ok (.getfield 3, 3) := dk_180 0 3 (dk_at dksX3_be_0 7 rfl rfl)
theorem dX3_be_10 : decode cX3_be 10 = .ok (.getfield 62, 3) := dk_180 0 62 (dk_at dksX3_be_0 10 rfl rfl)
theorem dX3_be_13 : decode cX3_be 13 = .ok (.putfield 66, 3) := dk_181 0 66 (dk_at dksX3_be_0 13 rfl rfl)
theorem dX3_be_16 : decode cX3_be 16 = .ok (.iconst 0, 1) := dk_3 (dk_at dksX3_be_0 16 rfl rfl)
theorem dX3_be_17 : decode cX3_be 17 = .ok (.istore_n 2, 1) := dk_61 (dk_at dksX3_be_0 17 rfl rfl)
theorem dX3_be_18 : decode cX3_be 18 = .ok (.iload_n 2, 1) := dk_28 (dk_at dksX3_be_0 18 rfl rfl)
theorem dX3_be_19 : decode cX3_be 19 = .ok (.aload_n 0, 1) := dk_42 (dk_at dksX3_be_0 19 rfl rfl)
theorem dX3_be_20 : decode cX3_be 20 = .ok (.getfield 3, 3) := dk_180 0 3 (dk_at dksX3_be_0 20 rfl rfl)
theorem dX3_be_23 : decode cX3_be 23 = .ok (.getfield 69, 3) := dk_180 0 69 (dk_at dksX3_be_1 0 rfl rfl)
theorem dX3_be_26 : decode cX3_be 26 = .ok (.invokevirtual 73, 3) := dk_182 0 73 (dk_at dksX3_be_1 3 rfl rfl)
theorem dX3_be_29 : decode cX3_be 29 = .ok (.if_icmp .ge 48, 3) := dk_162 0 48 (dk_at dksX3_be_1 6 rfl rfl)
theorem dX3_be_32 : decode cX3_be 32 = .ok (.aload_n 0, 1) := dk_42 (dk_at dksX3_be_1 9 rfl rfl)
theorem dX3_be_33 : decode cX3_be 33 = .ok (.getfield 3, 3) := dk_180 0 3 (dk_at dksX3_be_1 10 rfl rfl)
theorem dX3_be_36 : decode cX3_be 36 = .ok (.getfield 69, 3) := dk_180 0 69 (dk_at dksX3_be_1 13 rfl rfl)
theorem dX3_be_39 : decode cX3_be 39 = .ok (.iload_n 2, 1) := dk_28 (dk_at dksX3_be_1 16 rfl rfl)
theorem dX3_be_40 : decode cX3_be 40 = .ok (.invokevirtual 78, 3) := dk_182 0 78 (dk_at dksX3_be_1 17 rfl rfl)
theorem dX3_be_43 : decode cX3_be 43 = .ok (.checkcast 82, 3) := dk_192 0 82 (dk_at dksX3_be_1 20 rfl rfl)
theorem dX3_be_46 : decode cX3_be 46 = .ok (.getfield 84, 3) := dk_180 0 84 (dk_at dksX3_be_2 0 rfl rfl)
theorem dX3_be_49 : decode cX3_be 49 = .ok (.iload_n 1, 1) := dk_27 (dk_at dksX3_be_2 3 rfl rfl)
theorem dX3_be_50 : decode cX3_be 50 = .ok (.if_icmp .gt 21, 3) := dk_163 0 21 (dk_at dksX3_be_2 4 rfl rfl)
theorem dX3_be_53 : decode cX3_be 53 = .ok (.aload_n 0, 1) := dk_42 (dk_at dksX3_be_2 7 rfl rfl)
theorem dX3_be_54 : decode cX3_be 54 = .ok (.aload_n 0, 1) := dk_42 (dk_at dksX3_be_2 8 rfl rfl)
theorem dX3_be_55 : decode cX3_be 55 = .ok (.getfield 3, 3) := dk_180 0 3 (dk_at dksX3_be_2 9 rfl rfl)
theorem dX3_be_58 : decode cX3_be 58 = .ok (.getfield 69, 3) := dk_180 0 69 (dk_at dksX3_be_2 12 rfl rfl)
theorem dX3_be_61 : decode cX3_be 61 = .ok (.iload_n 2, 1) := dk_28 (dk_at dksX3_be_2 15 rfl rfl)
theorem dX3_be_62 : decode cX3_be 62 = .ok (.invokevirtual 78, 3) := dk_182 0 78 (dk_at dksX3_be_2 16 rfl rfl)
theorem dX3_be_65 : decode cX3_be 65 = .ok (.checkcast 82, 3) := dk_192 0 82 (dk_at dksX3_be_2 19 rfl rfl)
theorem dX3_be_68 : decode cX3_be 68 = .ok (.putfield 66, 3) := dk_181 0 66 (dk_at dksX3_be_3 0 rfl rfl)
theorem dX3_be_71 : decode cX3_be 71 = .ok (.iinc 2 1, 3) := dk_132 2 1 (dk_at dksX3_be_3 3 rfl rfl)
theorem dX3_be_74 : decode cX3_be 74 = .ok (.goto (-56), 3) := dk_167 255 200 (dk_at dksX3_be_3 6 rfl rfl)
theorem dX3_be_77 : decode cX3_be 77 = .ok (.aload_n 0, 1) := dk_42 (dk_at dksX3_be_3 9 rfl rfl)
theorem dX3_be_78 : decode cX3_be 78 = .ok (.invokevirtual 87, 3) := dk_182 0 87 (dk_at dksX3_be_3 10 rfl rfl)
theorem dX3_be_81 : decode cX3_be 81 = .ok (.aload_n 0, 1) := dk_42 (dk_at dksX3_be_3 13 rfl rfl)
theorem dX3_be_82 : decode cX3_be 82 = .ok (.iconst 0, 1) := dk_3 (dk_at dksX3_be_3 14 rfl rfl)
theorem dX3_be_83 : decode cX3_be 83 = .ok (.putfield 90, 3) := dk_181 0 90 (dk_at dksX3_be_3 15 rfl rfl)
theorem dX3_be_86 : decode cX3_be 86 = .ok (.iconst 0, 1) := dk_3 (dk_at dksX3_be_3 18 rfl rfl)
theorem dX3_be_87 : decode cX3_be 87 = .ok (.istore_n 2, 1) := dk_61 (dk_at dksX3_be_3 19 rfl rfl)
theorem dX3_be_88 : decode cX3_be 88 = .ok (.iload_n 2, 1) := dk_28 (dk_at dksX3_be_3 20 rfl rfl)
theorem dX3_be_89 : decode cX3_be 89 = .ok (.aload_n 0, 1) := dk_42 (dk_at dksX3_be_3 21 rfl rfl)
theorem dX3_be_90 : decode cX3_be 90 = .ok (.getfield 3, 3) := dk_180 0 3 (dk_at dksX3_be_4 0 rfl rfl)
theorem dX3_be_93 : decode cX3_be 93 = .ok (.getfield 93, 3) := dk_180 0 93 (dk_at dksX3_be_4 3 rfl rfl)
theorem dX3_be_96 : decode cX3_be 96 = .ok (.invokevirtual 73, 3) := dk_182 0 73 (dk_at dksX3_be_4 6 rfl rfl)
theorem dX3_be_99 : decode cX3_be 99 = .ok (.if_icmp .ge 62, 3) := dk_162 0 62 (dk_at dksX3_be_4 9 rfl rfl)
theorem dX3_be_102 : decode cX3_be 102 = .ok (.aload_n 0, 1) := dk_42 (dk_at dksX3_be_4 12 rfl rfl)
theorem dX3_be_103 : decode cX3_be 103 = .ok (.getfield 3, 3) := dk_180 0 3 (dk_at dksX3_be_4 13 rfl rfl)
theorem dX3_be_106 : decode cX3_be 106 = .ok (.getfield 93, 3) := dk_180 0 93 (dk_at dksX3_be_4 16 rfl rfl)
theorem dX3_be_109 : decode cX3_be 109 = .ok (.iload_n 2, 1) := dk_28 (dk_at dksX3_be_4 19 rfl rfl)
theorem dX3_be_110 : decode cX3_be 110 = .ok (.invokevirtual 78, 3) := dk_182 0 78 (dk_at dksX3_be_4 20 rfl rfl)
theorem dX3_be_113 : decode cX3_be 113 = .ok (.checkcast 96, 3) := dk_192 0 96 (dk_at dksX3_be_5 0 rfl rfl)
theorem dX3_be_116 : decode cX3_be 116 = .ok (.astore_n 3, 1) := dk_78 (dk_at dksX3_be_5 3 rfl rfl)
theorem dX3_be_117 : decode cX3_be 117 = .ok (.iconst 0, 1) := dk_3 (dk_at dksX3_be_5 4 rfl rfl)
theorem dX3_be_118 : decode cX3_be 118 = .ok (.istore 4, 2) := dk_54 4 (dk_at dksX3_be_5 5 rfl rfl)
theorem dX3_be_120 : decode cX3_be 120 = .ok (.iload 4, 2) := dk_21 4 (dk_at dksX3_be_5 7 rfl rfl)
theorem dX3_be_122 : decode cX3_be 122 = .ok (.aload_n 3, 1) := dk_45 (dk_at dksX3_be_5 9 rfl rfl)
theorem dX3_be_123 : decode cX3_be 123 = .ok (.getfield 98, 3) := dk_180 0 98 (dk_at dksX3_be_5 10 rfl rfl)
theorem dX3_be_126 : decode cX3_be 126 = .ok (.arraylength, 1) := dk_190 (dk_at dksX3_be_5 13 rfl rfl)
theorem dX3_be_127 : decode cX3_be 127 = .ok (.if_icmp .ge 28, 3) := dk_162 0 28 (dk_at dksX3_be_5 14 rfl rfl)
theorem dX3_be_130 : decode cX3_be 130 = .ok (.aload_n 3, 1) := dk_45 (dk_at dksX3_be_5 17 rfl rfl)
theorem dX3_be_131 : decode cX3_be 131 = .ok (.iload_n 1, 1) := dk_27 (dk_at dksX3_be_5 18 rfl rfl)
theorem dX3_be_132 : decode cX3_be 132 = .ok (.invokevirtual 101, 3) := dk_182 0 101 (dk_at dksX3_be_5 19 rfl rfl)
theorem dX3_be_135 : decode cX3_be 135 = .ok (.ifCond .eq 20, 3) := dk_153 0 20 (dk_at dksX3_be_6 0 rfl rfl)
theorem dX3_be_138 : decode cX3_be 138 = .ok (.aload_n 0, 1) := dk_42 (dk_at dksX3_be_6 3 rfl rfl)
theorem dX3_be_139 : decode cX3_be 139 = .ok (.aload_n 3, 1) := dk_45 (dk_at dksX3_be_6 4 rfl rfl)
theorem dX3_be_140 : decode cX3_be 140 = .ok (.getfield 98, 3) := dk_180 0 98 (dk_at dksX3_be_6 5 rfl rfl)
theorem dX3_be_143 : decode cX3_be 143 = .ok (.iload 4, 2) := dk_21 4 (dk_at dksX3_be_6 8 rfl rfl)
theorem dX3_be_145 : decode cX3_be 145 = .ok (.aaload, 1) := dk_50 (dk_at dksX3_be_6 10 rfl rfl)
theorem dX3_be_146 : decode cX3_be 146 = .ok (.invokevirtual 105, 3) := dk_182 0 105 (dk_at dksX3_be_6 11 rfl rfl)
theorem dX3_be_149 : decode cX3_be 149 = .ok (.iinc 4 1, 3) := dk_132 4 1 (dk_at dksX3_be_6 14 rfl rfl)
theorem dX3_be_152 : decode cX3_be 152 = .ok (.goto (-32), 3) := dk_167 255 224 (dk_at dksX3_be_6 17 rfl rfl)
theorem dX3_be_155 : decode cX3_be 155 = .ok (.iinc 2 1, 3) := dk_132 2 1 (dk_at dksX3_be_6 20 rfl rfl)
theorem dX3_be_158 : decode cX3_be 158 = .ok (.goto (-70), 3) := dk_167 255 186 (dk_at dksX3_be_7 0 rfl rfl)
theorem dX3_be_161 : decode cX3_be 161 = .ok (.aload_n 0, 1) := dk_42 (dk_at dksX3_be_7 3 rfl rfl)
theorem dX3_be_162 : decode cX3_be 162 = .ok (.areturn, 1) := dk_176 (dk_at dksX3_be_7 4 rfl rfl)
def dkwX3_stand_10 : List UInt8 := [167, 255, 207, 177]
abbrev dktX3_stand_10 : List UInt8 := dkwX3_stand_10 ++ []
def dkwX3_stand_9 : List UInt8 := [96, 46, 158, 0, 13, 42, 42, 180, 0, 15, 27, 28, 182, 0, 133, 132, 2, 1, 167, 255, 223, 132, 1, 1]
abbrev dktX3_stand_9 : List UInt8 := dkwX3_stand_9 ++ dktX3_stand_10
def dkwX3_stand_8 : List UInt8 := [16, 40, 162, 0, 49, 27, 4, 96, 61, 28, 16, 40, 162, 0, 33, 42, 180, 0, 19, 16, 40, 27, 104, 28]
abbrev dktX3_stand_8 : List UInt8 := dkwX3_stand_8 ++ dktX3_stand_9
def dkwX3_stand_7 : List UInt8 := [60, 27, 16, 40, 162, 0, 16, 42, 180, 0, 15, 27, 27, 79, 132, 1, 1, 167, 255, 240, 3, 60, 27]
abbrev dktX3_stand_7 : List UInt8 := dkwX3_stand_7 ++ dktX3_stand_8
def dkwX3_stand_6 : List UInt8 := [42, 180, 0, 3, 180, 0, 130, 27, 46, 46, 116, 167, 0, 4, 3, 96, 79, 132, 1, 1, 167, 255, 118, 3]
abbrev dktX3_stand_6 : List UInt8 := dkwX3_stand_6 ++ dktX3_stand_7
def dkwX3_stand_5 : List UInt8 := [46, 46, 167, 0, 37, 42, 180, 0, 3, 180, 0, 124, 27, 46, 154, 0, 24, 42, 180, 0, 3, 180, 0, 127]
abbrev dktX3_stand_5 : List UInt8 := dkwX3_stand_5 ++ dktX3_stand_6
def dkwX3_stand_4 : List UInt8 := [180, 0, 124, 27, 46, 4, 160, 0, 23, 42, 180, 0, 3, 180, 0, 127, 42, 180, 0, 3, 180, 0, 130, 27]
abbrev dktX3_stand_4 : List UInt8 := dkwX3_stand_4 ++ dktX3_stand_5
def dkwX3_stand_3 : List UInt8 := [180, 0, 118, 27, 46, 104, 42, 180, 0, 3, 180, 0, 121, 27, 46, 96, 92, 46, 42, 180, 0, 3]
abbrev dktX3_stand_3 : List UInt8 := dkwX3_stand_3 ++ dktX3_stand_4
def dkwX3_stand_2 : List UInt8 := [163, 0, 111, 42, 27, 182, 0, 115, 153, 0, 6, 167, 0, 100, 42, 180, 0, 19, 16, 40, 42, 180, 0, 3]
abbrev dktX3_stand_2 : List UInt8 := dkwX3_stand_2 ++ dktX3_stand_3
def dkwX3_stand_1 : List UInt8 := [27, 42, 180, 0, 3, 180, 0, 109, 162, 0, 133, 42, 180, 0, 3, 180, 0, 112, 27, 46, 42, 180, 0, 58]
abbrev dktX3_stand_1 : List UInt8 := dkwX3_stand_1 ++ dktX3_stand_2
def dkwX3_stand_0 : List UInt8 := [3, 60, 27, 17, 6, 64, 162, 0, 16, 42, 180, 0, 19, 27, 3, 79, 132, 1, 1, 167, 255, 239, 3, 60]
abbrev dktX3_stand_0 : List UInt8 := dkwX3_stand_0 ++ dktX3_stand_1
theorem dksX3_stand_0 : cX3_stand.data.toList.drop 0 = dktX3_stand_0 := by decide +kernel
theorem dksX3_stand_1 : cX3_stand.data.toList.drop 24 = dktX3_stand_1 := dk_seg dksX3_stand_0 24 rfl rfl
theorem dksX3_stand_2 : cX3_stand.data.toList.drop 48 = dktX3_stand_2 := dk_seg dksX3_stand_1 24 rfl rfl
theorem dksX3_stand_3 : cX3_stand.data.toList.drop 72 = dktX3_stand_3 := dk_seg dksX3_stand_2 24 rfl rfl
theorem dksX3_stand_4 : cX3_stand.data.toList.drop 94 = dktX3_stand_4 := dk_seg dksX3_stand_3 22 rfl rfl
theorem dksX3_stand_5 : cX3_stand.data.toList.drop 118 = dktX3_stand_5 := dk_seg dksX3_stand_4 24 rfl rfl
theorem dksX3_stand_6 : cX3_stand.data.toList.drop 142 = dktX3_stand_6 := dk_seg dksX3_stand_5 24 rfl rfl
theorem dksX3_stand_7 : cX3_stand.data.toList.drop 166 = dktX3_stand_7 := dk_seg dksX3_stand_6 24 rfl rfl
theorem dksX3_stand_8 : cX3_stand.data.toList.drop 189 = dktX3_stand_8 := dk_seg dksX3_stand_7 23 rfl rfl
theorem dksX3_stand_9 : cX3_stand.data.toList.drop 213 = dktX3_stand_9 := dk_seg dksX3_stand_8 24 rfl rfl
theorem dksX3_stand_10 : cX3_stand.data.toList.drop 237 = dktX3_stand_10 := dk_seg dksX3_stand_9 24 rfl rfl
theorem dX3_stand_0 : decode cX3_stand 0 = .ok (.iconst 0, 1) := dk_3 (dk_at dksX3_stand_0 0 rfl rfl)
theorem dX3_stand_1 : decode cX3_stand 1 = .ok (.istore_n 1, 1) := dk_60 (dk_at dksX3_stand_0 1 rfl rfl)
theorem dX3_stand_2 : decode cX3_stand 2 = .ok (.iload_n 1, 1) := dk_27 (dk_at dksX3_stand_0 2 rfl rfl)
theorem dX3_stand_3 : decode cX3_stand 3 = .ok (.sipush 1600, 3) := dk_17 6 64 (dk_at dksX3_stand_0 3 rfl rfl)
theorem dX3_stand_6 : decode cX3_stand 6 = .ok (.if_icmp .ge 16, 3) := dk_162 0 16 (dk_at dksX3_stand_0 6 rfl rfl)
theorem dX3_stand_9 : decode cX3_stand 9 = .ok (.aload_n 0, 1) := dk_42 (dk_at dksX3_stand_0 9 rfl rfl)
theorem dX3_stand_10 : decode cX3_stand 10 = .ok (.getfield 19, 3) := dk_180 0 19 (dk_at dksX3_stand_0 10 rfl rfl)
theorem dX3_stand_13 : decode cX3_stand 13 = .ok (.iload_n 1, 1) := dk_27 (dk_at dksX3_stand_0 13 rfl rfl)
theorem dX3_stand_14 : decode cX3_stand 14 = .ok (.iconst 0, 1) := dk_3 (dk_at dksX3_stand_0 14 rfl rfl)
theorem dX3_stand_15 : decode cX3_stand 15 = .ok (.iastore, 1) := dk_79 (dk_at dksX3_stand_0 15 rfl rfl)
theorem dX3_stand_16 : decode cX3_stand 16 = .ok (.iinc 1 1, 3) := dk_132 1 1 (dk_at dksX3_stand_0 16 rfl rfl)
theorem dX3_stand_19 : decode cX3_stand 19 = .ok (.goto (-17), 3) := dk_167 255 239 (dk_at dksX3_stand_0 19 rfl rfl)
theorem dX3_stand_22 : decode cX3_stand 22 = .ok (.iconst 0, 1) := dk_3 (dk_at dksX3_stand_0 22 rfl rfl)
theorem dX3_stand_23 : decode cX3_stand 23 = .ok (.istore_n 1, 1) := dk_60 (dk_at dksX3_stand_0 23 rfl rfl)
theorem dX3_stand_24 : decode cX3_stand 24 = .ok (.iload_n 1, 1) := dk_27 (dk_at dksX3_stand_1 0 rfl rfl)
theorem dX3_stand_25 : decode cX3_stand 25 = .ok (.aload_n 0, 1) := dk_42 (dk_at dksX3_stand_1 1 rfl rfl)
theorem dX3_stand_26 : decode cX3_stand 26 = .ok (.getfield 3, 3) := dk_180 0 3 (dk_at dksX3_stand_1 2 rfl rfl)
theorem dX3_stand_29 : decode cX3_stand 29 = .ok (.getfield 109, 3) := dk_180 0 109 (dk_at dksX3_stand_1 5 rfl rfl)
theorem dX3_stand_32 : decode cX3_stand 32 = .ok (.if_icmp .ge 133, 3) := dk_162 0 133 (dk_at dksX3_stand_1 8 rfl rfl)
theorem dX3_stand_35 : decode cX3_stand 35 = .ok (.aload_n 0, 1) := dk_42 (dk_at dksX3_stand_1 11 rfl rfl)
theorem dX3_stand_36 : decode cX3_stand 36 = .ok (.getfield 3, 3) := dk_180 0 3 (dk_at dksX3_stand_1 12 rfl rfl)
theorem dX3_stand_39 : decode cX3_stand 39 = .ok (.getfield 112, 3) := dk_180 0 112 (dk_at dksX3_stand_1 15 rfl rfl)
theorem dX3_stand_42 : decode cX3_stand 42 = .ok (.iload_n 1, 1) := dk_27 (dk_at dksX3_stand_1 18 rfl rfl)
theorem dX3_stand_43 : decode cX3_stand 43 = .ok (.iaload, 1) := dk_46 (dk_at dksX3_stand_1 19 rfl rfl)
theorem dX3_stand_44 : decode cX3_stand 44 = .ok (.aload_n 0, 1) := dk_42 (dk_at dksX3_stand_1 20 rfl rfl)
theorem dX3_stand_45 : decode cX3_stand 45 = .ok (.getfield 58, 3) := dk_180 0 58 (dk_at dksX3_stand_1 21 rfl rfl)
theorem dX3_stand_48 : decode cX3_stand 48 = .ok (.if_icmp .gt 111, 3) := dk_163 0 111 (dk_at dksX3_stand_2 0 rfl rfl)
theorem dX3_stand_51 : decode cX3_stand 51 = .ok (.aload_n 0, 1) := dk_42 (dk_at dksX3_stand_2 3 rfl rfl)
theorem dX3_stand_52 : decode cX3_stand 52 = .ok (.iload_n 1, 1) := dk_27 (dk_at dksX3_stand_2 4 rfl rfl)
theorem dX3_stand_53 : decode cX3_stand 53 = .ok (.invokevirtual 115, 3) := dk_182 0 115 (dk_at dksX3_stand_2 5 rfl rfl)
theorem dX3_stand_56 : decode cX3_stand 56 = .ok (.ifCond .eq 6, 3) := dk_153 0 6 (dk_at dksX3_stand_2 8 rfl rfl)
theorem dX3_stand_59 : decode cX3_stand 59 = .ok (.goto 100, 3) := dk_167 0 100 (dk_at dksX3_stand_2 11 rfl rfl)
theorem dX3_stand_62 : decode cX3_stand 62 = .ok (.aload_n 0, 1) := dk_42 (dk_at dksX3_stand_2 14 rfl rfl)
theorem dX3_stand_63 : decode cX3_stand 63 = .ok (.getfield 19, 3) := dk_180 0 19 (dk_at dksX3_stand_2 15 rfl rfl)
theorem dX3_stand_66 : decode cX3_stand 66 = .ok (.bipush 40, 2) := dk_16 40 (dk_at dksX3_stand_2 18 rfl rfl)
theorem dX3_stand_68 : decode cX3_stand 68 = .ok (.aload_n 0, 1) := dk_42 (dk_at dksX3_stand_2 20 rfl rfl)
theorem dX3_stand_69 : decode cX3_stand 69 = .ok (.getfield 3, 3) := dk_180 0 3 (dk_at dksX3_stand_2 21 rfl rfl)
theorem dX3_stand_72 : decode cX3_stand 72 = .ok (.getfield 118, 3) := dk_180 0 118 (dk_at dksX3_stand_3 0 rfl rfl)
theorem dX3_stand_75 : decode cX3_stand 75 = .ok (.iload_n 1, 1) := dk_27 (dk_at dksX3_stand_3 3 rfl rfl)
theorem dX3_stand_76 : decode cX3_stand 76 = .ok (.iaload, 1) := dk_46 (dk_at dksX3_stand_3 4 rfl rfl)
theorem dX3_stand_77 : decode cX3_stand 77 = .ok (.imul, 1) := dk_104 (dk_at dksX3_stand_3 5 rfl rfl)
theorem dX3_stand_78 : decode cX3_stand 78 = .ok (.aload_n 0, 1) := dk_42 (dk_at dksX3_stand_3 6 rfl rfl)
theorem dX3_stand_79 : decode cX3_stand 79 = .ok (.getfield 3, 3) := dk_180 0 3 (dk_at dksX3_stand_3 7 rfl rfl)
theorem dX3_stand_82 : decode cX3_stand 82 = .ok (.getfield 121, 3) := dk_180 0 121 (dk_at dksX3_stand_3 10 rfl rfl)
theorem dX3_stand_85 : decode cX3_stand 85 = .ok (.iload_n 1, 1) := dk_27 (dk_at dksX3_stand_3 13 rfl rfl)
theorem dX3_stand_86 : decode cX3_stand 86 = .ok (.iaload, 1) := dk_46 (dk_at dksX3_stand_3 14 rfl rfl)
theorem dX3_stand_87 : decode cX3_stand 87 = .ok (.iadd, 1) := dk_96 (dk_at dksX3_stand_3 15 rfl rfl)
theorem dX3_stand_88 : decode cX3_stand 88 = .ok (.dup2, 1) := dk_92 (dk_at dksX3_stand_3 16 rfl rfl)
theorem dX3_stand_89 : decode cX3_stand 89 = .ok (.iaload, 1) := dk_46 (dk_at dksX3_stand_3 17 rfl rfl)
theorem dX3_stand_90 : decode cX3_stand 90 = .ok (.aload_n 0, 1) := dk_42 (dk_at dksX3_stand_3 18 rfl rfl)
theorem dX3_stand_91 : decode cX3_stand 91 = .ok (.getfield 3, 3) := dk_180 0 3 (dk_at dksX3_stand_3 19 rfl rfl)
theorem dX3_stand_94 : decode cX3_stand 94 = .ok (.getfield 124, 3) := dk_180 0 124 (dk_at dksX3_stand_4 0 rfl rfl)
theorem dX3_stand_97 : decode cX3_stand 97 = .ok (.iload_n 1, 1) := dk_27 (dk_at dksX3_stand_4 3 rfl rfl)
theorem dX3_stand_98 : decode cX3_stand 98 = .ok (.iaload, 1) := dk_46 (dk_at dksX3_stand_4 4 rfl rfl)
theorem dX3_stand_99 : decode cX3_stand 99 = .ok (.iconst 1, 1) := dk_4 (dk_at dksX3_stand_4 5 rfl rfl)
theorem dX3_stand_100 : decode cX3_stand 100 = .ok (.if_icmp .ne 23, 3) := dk_160 0 23 (dk_at dksX3_stand_4 6 rfl rfl)
theorem dX3_stand_103 : decode cX3_stand 103 = .ok (.aload_n 0, 1) := dk_42 (dk_at dksX3_stand_4 9 rfl rfl)
theorem dX3_stand_104 : decode cX3_stand 104 = .ok (.getfield 3, 3) := dk_180 0 3 (dk_at dksX3_stand_4 10 rfl rfl)
theorem dX3_stand_107 : decode cX3_stand 107 = .ok (.getfield 127, 3) := dk_180 0 127 (dk_at dksX3_stand_4 13 rfl rfl)
theorem dX3_stand_110 : decode cX3_stand 110 = .ok (.aload_n 0, 1) := dk_42 (dk_at dksX3_stand_4 16 rfl rfl)
theorem dX3_stand_111 : decode cX3_stand 111 = .ok (.getfield 3, 3) := dk_180 0 3 (dk_at dksX3_stand_4 17 rfl rfl)
theorem dX3_stand_114 : decode cX3_stand 114 = .ok (.getfield 130, 3) := dk_180 0 130 (dk_at dksX3_stand_4 20 rfl rfl)
theorem dX3_stand_117 : decode cX3_stand 117 = .ok (.iload_n 1, 1) := dk_27 (dk_at dksX3_stand_4 23 rfl rfl)
theorem dX3_stand_118 : decode cX3_stand 118 = .ok (.iaload, 1) := dk_46 (dk_at dksX3_stand_5 0 rfl rfl)
theorem dX3_stand_119 : decode cX3_stand 119 = .ok (.iaload, 1) := dk_46 (dk_at dksX3_stand_5 1 rfl rfl)
theorem dX3_stand_120 : decode cX3_stand 120 = .ok (.goto 37, 3) := dk_167 0 37 (dk_at dksX3_stand_5 2 rfl rfl)
theorem dX3_stand_123 : decode cX3_stand 123 = .ok (.aload_n 0, 1) := dk_42 (dk_at dksX3_stand_5 5 rfl rfl)
theorem dX3_stand_124 : decode cX3_stand 124 = .ok (.getfield 3, 3) := dk_180 0 3 (dk_at dksX3_stand_5 6 rfl rfl)
theorem dX3_stand_127 : decode cX3_stand 127 = .ok (.getfield 124, 3) := dk_180 0 124 (dk_at dksX3_stand_5 9 rfl rfl)
theorem dX3_stand_130 : decode cX3_stand 130 = .ok (.iload_n 1, 1) := dk_27 (dk_at dksX3_stand_5 12 rfl rfl)
theorem dX3_stand_131 : decode cX3_stand 131 = .ok (.iaload, 1) := dk_46 (dk_at dksX3_stand_5 13 rfl rfl)
theorem dX3_stand_132 : decode cX3_stand 132 = .ok (.ifCond .ne 24, 3) := dk_154 0 24 (dk_at dksX3_stand_5 14 rfl rfl)
theorem dX3_stand_135 : decode cX3_stand 135 = .ok (.aload_n 0, 1) := dk_42 (dk_at dksX3_stand_5 17 rfl rfl)
theorem dX3_stand_136 : decode cX3_stand 136 = .ok (.getfield 3, 3) := dk_180 0 3 (dk_at dksX3_stand_5 18 rfl rfl)
theorem dX3_stand_139 : decode cX3_stand 139 = .ok (.getfield 127, 3) := dk_180 0 127 (dk_at dksX3_stand_5 21 rfl rfl)
theorem dX3_stand_142 : decode cX3_stand 142 = .ok (.aload_n 0, 1) := dk_42 (dk_at dksX3_stand_6 0 rfl rfl)
theorem dX3_stand_143 : decode cX3_stand 143 = .ok (.getfield 3, 3) := dk_180 0 3 (dk_at dksX3_stand_6 1 rfl rfl)
theorem dX3_stand_146 : decode cX3_stand 146 = .ok (.getfield 130, 3) := dk_180 0 130 (dk_at dksX3_stand_6 4 rfl rfl)
theorem dX3_stand_149 : decode cX3_stand 149 = .ok (.iload_n 1, 1) := dk_27 (dk_at dksX3_stand_6 7 rfl rfl)
theorem dX3_stand_150 : decode cX3_stand 150 = .ok (.iaload, 1) := dk_46 (dk_at dksX3_stand_6 8 rfl rfl)
theorem dX3_stand_151 : decode cX3_stand 151 = .ok (.iaload, 1) := dk_46 (dk_at dksX3_stand_6 9 rfl rfl)
theorem dX3_stand_152 : decode cX3_stand 152 = .ok (.ineg, 1) := dk_116 (dk_at dksX3_stand_6 10 rfl rfl)
theorem dX3_stand_153 : decode cX3_stand 153 = .ok (.goto 4, 3) := dk_167 0 4 (dk_at dksX3_stand_6 11 rfl rfl)
theorem dX3_stand_156 : decode cX3_stand 156 = .ok (.iconst 0, 1) := dk_3 (dk_at dksX3_stand_6 14 rfl rfl)
theorem dX3_stand_157 : decode cX3_stand 157 = .ok (.iadd, 1) := dk_96 (dk_at dksX3_stand_6 15 rfl rfl)
theorem dX3_stand_158 : decode cX3_stand 158 = .ok (.iastore, 1) := dk_79 (dk_at dksX3_stand_6 16 rfl rfl)
theorem dX3_stand_159 : decode cX3_stand 159 = .ok (.iinc 1 1, 3) := dk_132 1 1 (dk_at dksX3_stand_6 17 rfl rfl)
theorem dX3_stand_162 : decode cX3_stand 162 = .ok (.goto (-138), 3) := dk_167 255 118 (dk_at dksX3_stand_6 20 rfl rfl)
theorem dX3_stand_165 : decode cX3_stand 165 = .ok (.iconst 0, 1) := dk_3 (dk_at dksX3_stand_6 23 rfl rfl)
theorem dX3_stand_166 : decode cX3_stand 166 = .ok (.istore_n 1, 1) := dk_60 (dk_at dksX3_stand_7 0 rfl rfl)
theorem dX3_stand_167 : decode cX3_stand 167 = .ok (.iload_n 1, 1) := dk_27 (dk_at dksX3_stand_7 1 rfl rfl)
theorem dX3_stand_168 : decode cX3_stand 168 = .ok (.bipush 40, 2) := dk_16 40 (dk_at dksX3_stand_7 2 rfl rfl)
theorem dX3_stand_170 : decode cX3_stand 170 = .ok (.if_icmp .ge 16, 3) := dk_162 0 16 (dk_at dksX3_stand_7 4 rfl rfl)
theorem dX3_stand_173 : decode cX3_stand 173 = .ok (.aload_n 0, 1) := dk_42 (dk_at dksX3_stand_7 7 rfl rfl)
theorem dX3_stand_174 : decode cX3_stand 174 = .ok (.getfield 15, 3) := dk_180 0 15 (dk_at dksX3_stand_7 8 rfl rfl)
theorem dX3_stand_177 : decode cX3_stand 177 = .ok (.iload_n 1, 1) := dk_27 (dk_at dksX3_stand_7 11 rfl rfl)
theorem dX3_stand_178 : decode cX3_stand 178 = .ok (.iload_n 1, 1) := dk_27 (dk_at dksX3_stand_7 12 rfl rfl)
theorem dX3_stand_179 : decode cX3_stand 179 = .ok (.iastore, 1) := dk_79 (dk_at dksX3_stand_7 13 rfl rfl)
theorem dX3_stand_180 : decode cX3_stand 180 = .ok (.iinc 1 1, 3) := dk_132 1 1 (dk_at dksX3_stand_7 14 rfl rfl)
theorem dX3_stand_183 : decode cX3_stand 183 = .ok (.goto (-16), 3) := dk_167 255 240 (dk_at dksX3_stand_7 17 rfl rfl)
theorem dX3_stand_186 : decode cX3_stand 186 = .ok (.iconst 0, 1) := dk_3 (dk_at dksX3_stand_7 20 rfl rfl)
theorem dX3_stand_187 : decode cX3_stand 187 = .ok (.istore_n 1, 1) := dk_60 (dk_at dksX3_stand_7 21 rfl rfl)
theorem dX3_stand_188 : decode cX3_stand 188 = .ok (.iload_n 1, 1) := dk_27 (dk_at dksX3_stand_7 22 rfl rfl)
theorem dX3_stand_189 : decode cX3_stand 189 = .ok (.bipush 40, 2) := dk_16 40 (dk_at dksX3_stand_8 0 rfl rfl)
theorem dX3_stand_191 : decode cX3_stand 191 = .ok (.if_icmp .ge 49, 3) := dk_162 0 49 (dk_at dksX3_stand_8 2 rfl rfl)
theorem dX3_stand_194 : decode cX3_stand 194 = .ok (.iload_n 1, 1) := dk_27 (dk_at dksX3_stand_8 5 rfl rfl)
theorem dX3_stand_195 : decode cX3_stand 195 = .ok (.iconst 1, 1) := dk_4 (dk_at dksX3_stand_8 6 rfl rfl)
theorem dX3_stand_196 : decode cX3_stand 196 = .ok (.iadd, 1) := dk_96 (dk_at dksX3_stand_8 7 rfl rfl)
theorem dX3_stand_197 : decode cX3_stand 197 = .ok (.istore_n 2, 1) := dk_61 (dk_at dksX3_stand_8 8 rfl rfl)
theorem dX3_stand_198 : decode cX3_stand 198 = .ok (.iload_n 2, 1) := dk_28 (dk_at dksX3_stand_8 9 rfl rfl)
theorem dX3_stand_199 : decode cX3_stand 199 = .ok (.bipush 40, 2) := dk_16 40 (dk_at dksX3_stand_8 10 rfl rfl)
theorem dX3_stand_201 : decode cX3_stand 201 = .ok (.if_icmp .ge 33, 3) := dk_162 0 33 (dk_at dksX3_stand_8 12 rfl rfl)
theorem dX3_stand_204 : decode cX3_stand 204 = .ok (.aload_n 0, 1) := dk_42 (dk_at dksX3_stand_8 15 rfl rfl)
theorem dX3_stand_205 : decode cX3_stand 205 = .ok (.getfield 19, 3) := dk_180 0 19 (dk_at dksX3_stand_8 16 rfl rfl)
theorem dX3_stand_208 : decode cX3_stand 208 = .ok (.bipush 40, 2) := dk_16 40 (dk_at dksX3_stand_8 19 rfl rfl)
theorem dX3_stand_210 : decode cX3_stand 210 = .ok (.iload_n 1, 1) := dk_27 (dk_at dksX3_stand_8 21 rfl rfl)
theorem dX3_stand_211 : decode cX3_stand 211 = .ok (.imul, 1) := dk_104 (dk_at dksX3_stand_8 22 rfl rfl)
theorem dX3_stand_212 : decode cX3_stand 212 = .ok (.iload_n 2, 1) := dk_28 (dk_at dksX3_stand_8 23 rfl rfl)
theorem dX3_stand_213 : decode cX3_stand 213 = .ok (.iadd, 1) := dk_96 (dk_at dksX3_stand_9 0 rfl rfl)
theorem dX3_stand_214 : decode cX3_stand 214 = .ok (.iaload, 1) := dk_46 (dk_at dksX3_stand_9 1 rfl rfl)
theorem dX3_stand_215 : decode cX3_stand 215 = .ok (.ifCond .le 13, 3) := dk_158 0 13 (dk_at dksX3_stand_9 2 rfl rfl)
theorem dX3_stand_218 : decode cX3_stand 218 = .ok (.aload_n 0, 1) := dk_42 (dk_at dksX3_stand_9 5 rfl rfl)
theorem dX3_stand_219 : decode cX3_stand 219 = .ok (.aload_n 0, 1) := dk_42 (dk_at dksX3_stand_9 6 rfl rfl)
theorem dX3_stand_220 : decode cX3_stand 220 = .ok (.getfield 15, 3) := dk_180 0 15 (dk_at dksX3_stand_9 7 rfl rfl)
theorem dX3_stand_223 : decode cX3_stand 223 = .ok (.iload_n 1, 1) := dk_27 (dk_at dksX3_stand_9 10 rfl rfl)
theorem dX3_stand_224 : decode cX3_stand 224 = .ok (.iload_n 2, 1) := dk_28 (dk_at dksX3_stand_9 11 rfl rfl)
theorem dX3_stand_225 : decode cX3_stand 225 = .ok (.invokevirtual 133, 3) := dk_182 0 133 (dk_at dksX3_stand_9 12 rfl rfl)
theorem dX3_stand_228 : decode cX3_stand 228 = .ok (.iinc 2 1, 3) := dk_132 2 1 (dk_at dksX3_stand_9 15 rfl rfl)
theorem dX3_stand_231 : decode cX3_stand 231 = .ok (.goto (-33), 3) := dk_167 255 223 (dk_at dksX3_stand_9 18 rfl rfl)
theorem dX3_stand_234 : decode cX3_stand 234 = .ok (.iinc 1 1, 3) := dk_132 1 1 (dk_at dksX3_stand_9 21 rfl rfl)
theorem dX3_stand_237 : decode cX3_stand 237 = .ok (.goto (-49), 3) := dk_167 255 207 (dk_at dksX3_stand_10 0 rfl rfl)
theorem dX3_stand_240 : decode cX3_stand 240 = .ok (.return_, 1) := dk_177 (dk_at dksX3_stand_10 3 rfl rfl)
def dkwX3_isHeldLater_4 : List UInt8 := [4, 172, 132, 2, 1, 167, 255, 161, 3, 172]
abbrev dktX3_isHeldLater_4 : List UInt8 := dkwX3_isHeldLater_4 ++ []
def dkwX3_isHeldLater_3 : List UInt8 := [160, 0, 26, 42, 180, 0, 3, 180, 0, 121, 28, 46, 42, 180, 0, 3, 180, 0, 121, 27, 46, 160, 0, 5]
abbrev dktX3_isHeldLater_3 : List UInt8 := dkwX3_isHeldLater_3 ++ dktX3_isHeldLater_4
def dkwX3_isHeldLater_2 : List UInt8 := [46, 160, 0, 47, 42, 180, 0, 3, 180, 0, 118, 28, 46, 42, 180, 0, 3, 180, 0, 118, 27, 46]
abbrev dktX3_isHeldLater_2 : List UInt8 := dkwX3_isHeldLater_2 ++ dktX3_isHeldLater_3
def dkwX3_isHeldLater_1 : List UInt8 := [42, 180, 0, 58, 163, 0, 68, 42, 180, 0, 3, 180, 0, 130, 28, 46, 42, 180, 0, 3, 180, 0, 130, 27]
abbrev dktX3_isHeldLater_1 : List UInt8 := dkwX3_isHeldLater_1 ++ dktX3_isHeldLater_2
def dkwX3_isHeldLater_0 : List UInt8 := [27, 4, 96, 61, 28, 42, 180, 0, 3, 180, 0, 109, 162, 0, 90, 42, 180, 0, 3, 180, 0, 112, 28, 46]
abbrev dktX3_isHeldLater_0 : List UInt8 := dkwX3_isHeldLater_0 ++ dktX3_isHeldLater_1
theorem dksX3_isHeldLater_0 : cX3_isHeldLater.data.toList.drop 0 = dktX3_isHeldLater_0 := by decide +kernel
theorem dksX3_isHeldLater_1 : cX3_isHeldLater.data.toList.drop 24 = dktX3_isHeldLater_1 := dk_seg dksX3_isHeldLater_0 24 rfl rfl
theorem dksX3_isHeldLater_2 : cX3_isHeldLater.data.toList.drop 48 = dktX3_isHeldLater_2 := dk_seg dksX3_isHeldLater_1 24 rfl rfl
theorem dksX3_isHeldLater_3 : cX3_isHeldLater.data.toList.drop 70 = dktX3_isHeldLater_3 := dk_seg dksX3_isHeldLater_2 22 rfl rfl
theorem dksX3_isHeldLater_4 : cX3_isHeldLater.data.toList.drop 94 = dktX3_isHeldLater_4 := dk_seg dksX3_isHeldLater_3 24 rfl rfl
theorem dX3_isHeldLater_0 : decode cX3_isHeldLater 0 = .ok (.iload_n 1, 1) := dk_27 (dk_at dksX3_isHeldLater_0 0 rfl rfl)
theorem dX3_isHeldLater_1 : decode cX3_isHeldLater 1 = .ok (.iconst 1, 1) := dk_4 (dk_at dksX3_isHeldLater_0 1 rfl rfl)
theorem dX3_isHeldLater_2 : decode cX3_isHeldLater 2 = .ok (.iadd, 1) := dk_96 (dk_at dksX3_isHeldLater_0 2 rfl rfl)
theorem dX3_isHeldLater_3 : decode cX3_isHeldLater 3 = .ok (.istore_n 2, 1) := dk_61 (dk_at dksX3_isHeldLater_0 3 rfl rfl)
theorem dX3_isHeldLater_4 : decode cX3_isHeldLater 4 = .ok (.iload_n 2, 1) := dk_28 (dk_at dksX3_isHeldLater_0 4 rfl rfl)
theorem dX3_isHeldLater_5 : decode cX3_isHeldLater 5 = .ok (.aload_n 0, 1) := dk_42 (dk_at dksX3_isHeldLater_0 5 rfl rfl)
theorem dX3_isHeldLater_6 : decode cX3_isHeldLater 6 = .ok (.getfield 3, 3) := dk_180 0 3 (dk_at dksX3_isHeldLater_0 6 rfl rfl)
theorem dX3_isHeldLater_9 : decode cX3_isHeldLater 9 = .ok (.getfield 109, 3) := dk_180 0 109 (dk_at dksX3_isHeldLater_0 9 rfl rfl)
theorem dX3_isHeldLater_12 : decode cX3_isHeldLater 12 = .ok (.if_icmp .ge 90, 3) := dk_162 0 90 (dk_at dksX3_isHeldLater_0 12 rfl rfl)
theorem dX3_isHeldLater_15 : decode cX3_isHeldLater 15 = .ok (.aload_n 0, 1) := dk_42 (dk_at dksX3_isHeldLater_0 15 rfl rfl)
theorem dX3_isHeldLater_16 : decode cX3_isHeldLater 16 = .ok (.getfield 3, 3) := dk_180 0 3 (dk_at dksX3_isHeldLater_0 16 rfl rfl)
theorem dX3_isHeldLater_19 : decode cX3_isHeldLater 19 = .ok (.getfield 112, 3) := dk_180 0 112 (dk_at dksX3_isHeldLater_0 19 rfl rfl)
theorem dX3_isHeldLater_22 : decode cX3_isHeldLater 22 = .ok (.iload_n 2, 1) := dk_28 (dk_at dksX3_isHeldLater_0 22 rfl rfl)
theorem dX3_isHeldLater_23 : decode cX3_isHeldLater 23 = .ok (.iaload, 1) := dk_46 (dk_at dksX3_isHeldLater_0 23 rfl rfl)
theorem dX3_isHeldLater_24 : decode cX3_isHeldLater 24 = .ok (.aload_n 0, 1) := dk_42 (dk_at dksX3_isHeldLater_1 0 rfl rfl)
theorem dX3_isHeldLater_25 : decode cX3_isHeldLater 25 = .ok (.getfield 58, 3) := dk_180 0 58 (dk_at dksX3_isHeldLater_1 1 rfl rfl)
theorem dX3_isHeldLater_28 : decode cX3_isHeldLater 28 = .ok (.if_icmp .gt 68, 3) := dk_163 0 68 (dk_at dksX3_isHeldLater_1 4 rfl rfl)
theorem dX3_isHeldLater_31 : decode cX3_isHeldLater 31 = .ok (.aload_n 0, 1) := dk_42 (dk_at dksX3_isHeldLater_1 7 rfl rfl)
theorem dX3_isHeldLater_32 : decode cX3_isHeldLater 32 = .ok (.getfield 3, 3) := dk_180 0 3 (dk_at dksX3_isHeldLater_1 8 rfl rfl)
theorem dX3_isHeldLater_35 : decode cX3_isHeldLater 35 = .ok (.getfield 130, 3) := dk_180 0 130 (dk_at dksX3_isHeldLater_1 11 rfl rfl)
theorem dX3_isHeldLater_38 : decode cX3_isHeldLater 38 = .ok (.iload_n 2, 1) := dk_28 (dk_at dksX3_isHeldLater_1 14 rfl rfl)
theorem dX3_isHeldLater_39 : decode cX3_isHeldLater 39 = .ok (.iaload, 1) := dk_46 (dk_at dksX3_isHeldLater_1 15 rfl rfl)
theorem dX3_isHeldLater_40 : decode cX3_isHeldLater 40 = .ok (.aload_n 0, 1) := dk_42 (dk_at dksX3_isHeldLater_1 16 rfl rfl)
theorem dX3_isHeldLater_41 : decode cX3_isHeldLater 41 = .ok (.getfield 3, 3) := dk_180 0 3 (dk_at dksX3_isHeldLater_1 17 rfl rfl)
theorem dX3_isHeldLater_44 : decode cX3_isHeldLater 44 = .ok (.getfield 130, 3) := dk_180 0 130 (dk_at dksX3_isHeldLater_1 20 rfl rfl)
theorem dX3_isHeldLater_47 : decode cX3_isHeldLater 47 = .ok (.iload_n 1, 1) := dk_27 (dk_at dksX3_isHeldLater_1 23 rfl rfl)
theorem dX3_isHeldLater_48 : decode cX3_isHeldLater 48 = .ok (.iaload, 1) := dk_46 (dk_at dksX3_isHeldLater_2 0 rfl rfl)
theorem dX3_isHeldLater_49 : decode cX3_isHeldLater 49 = .ok (.if_icmp .ne 47, 3) := dk_160 0 47 (dk_at dksX3_isHeldLater_2 1 rfl rfl)
theorem dX3_isHeldLater_52 : decode cX3_isHeldLater 52 = .ok (.aload_n 0, 1) := dk_42 (dk_at dksX3_isHeldLater_2 4 rfl rfl)
theorem dX3_isHeldLater_53 : decode cX3_isHeldLater 53 = .ok (.getfield 3, 3) := dk_180 0 3 (dk_at dksX3_isHeldLater_2 5 rfl rfl)
theorem dX3_isHeldLater_56 : decode cX3_isHeldLater 56 = .ok (.getfield 118, 3) := dk_180 0 118 (dk_at dksX3_isHeldLater_2 8 rfl rfl)
theorem dX3_isHeldLater_59 : decode cX3_isHeldLater 59 = .ok (.iload_n 2, 1) := dk_28 (dk_at dksX3_isHeldLater_2 11 rfl rfl)
theorem dX3_isHeldLater_60 : decode cX3_isHeldLater 60 = .ok (.iaload, 1) := dk_46 (dk_at dksX3_isHeldLater_2 12 rfl rfl)
theorem dX3_isHeldLater_61 : decode cX3_isHeldLater 61 = .ok (.aload_n 0, 1) := dk_42 (dk_at dksX3_isHeldLater_2 13 rfl rfl)
theorem dX3_isHeldLater_62 : decode cX3_isHeldLater 62 = .ok (.getfield 3, 3) := dk_180 0 3 (dk_at dksX3_isHeldLater_2 14 rfl rfl)
theorem dX3_isHeldLater_65 : decode cX3_isHeldLater 65 = .ok (.getfield 118, 3) := dk_180 0 118 (dk_at dksX3_isHeldLater_2 17 rfl rfl)
theorem dX3_isHeldLater_68 : decode cX3_isHeldLater 68 = .ok (.iload_n 1, 1) := dk_27 (dk_at dksX3_isHeldLater_2 20 rfl rfl)
theorem dX3_isHeldLater_69 : decode cX3_isHeldLater 69 = .ok (.iaload, 1) := dk_46 (dk_at dksX3_isHeldLater_2 21 rfl rfl)
theorem dX3_isHeldLater_70 : decode cX3_isHeldLater 70 = .ok (.if_icmp .ne 26, 3) := dk_160 0 26 (dk_at dksX3_isHeldLater_3 0 rfl rfl)
theorem dX3_isHeldLater_73 : decode cX3_isHeldLater 73 = .ok (.aload_n 0, 1) := dk_42 (dk_at dksX3_isHeldLater_3 3 rfl rfl)
theorem dX3_isHeldLater_74 : decode cX3_isHeldLater 74 = .ok (.getfield 3, 3) := dk_180 0 3 (dk_at dksX3_isHeldLater_3 4 rfl rfl)
theorem dX3_isHeldLater_77 : decode cX3_isHeldLater 77 = .ok (.getfield 121, 3) := dk_180 0 121 (dk_at dksX3_isHeldLater_3 7 rfl rfl)
theorem dX3_isHeldLater_80 : decode cX3_isHeldLater 80 = .ok (.iload_n 2, 1) := dk_28 (dk_at dksX3_isHeldLater_3 10 rfl rfl)
theorem dX3_isHeldLater_81 : decode cX3_isHeldLater 81 = .ok (.iaload, 1) := dk_46 (dk_at dksX3_isHeldLater_3 11 rfl rfl)
theorem dX3_isHeldLater_82 : decode cX3_isHeldLater 82 = .ok (.aload_n 0, 1) := dk_42 (dk_at dksX3_isHeldLater_3 12 rfl rfl)
theorem dX3_isHeldLater_83 : decode cX3_isHeldLater 83 = .ok (.getfield 3, 3) := dk_180 0 3 (dk_at dksX3_isHeldLater_3 13 rfl rfl)
theorem dX3_isHeldLater_86 : decode cX3_isHeldLater 86 = .ok (.getfield 121, 3) := dk_180 0 121 (dk_at dksX3_isHeldLater_3 16 rfl rfl)
theorem dX3_isHeldLater_89 : decode cX3_isHeldLater 89 = .ok (.iload_n 1, 1) := dk_27 (dk_at dksX3_isHeldLater_3 19 rfl rfl)
theorem dX3_isHeldLater_90 : decode cX3_isHeldLater 90 = .ok (.iaload, 1) := dk_46 (dk_at dksX3_isHeldLater_3 20 rfl rfl)
theorem dX3_isHeldLater_91 : decode cX3_isHeldLater 91 = .ok (.if_icmp .ne 5, 3) := dk_160 0 5 (dk_at dksX3_isHeldLater_3 21 rfl rfl)
theorem dX3_isHeldLater_94 : decode cX3_isHeldLater 94 = .ok (.iconst 1, 1) := dk_4 (dk_at dksX3_isHeldLater_4 0 rfl rfl)
theorem dX3_isHeldLater_95 : decode cX3_isHeldLater 95 = .ok (.ireturn, 1) := dk_172 (dk_at dksX3_isHeldLater_4 1 rfl rfl)
theorem dX3_isHeldLater_96 : decode cX3_isHeldLater 96 = .ok (.iinc 2 1, 3) := dk_132 2 1 (dk_at dksX3_isHeldLater_4 2 rfl rfl)
theorem dX3_isHeldLater_99 : decode cX3_isHeldLater 99 = .ok (.goto (-95), 3) := dk_167 255 161 (dk_at dksX3_isHeldLater_4 5 rfl rfl)
theorem dX3_isHeldLater_102 : decode cX3_isHeldLater 102 = .ok (.iconst 0, 1) := dk_3 (dk_at dksX3_isHeldLater_4 8 rfl rfl)
theorem dX3_isHeldLater_103 : decode cX3_isHeldLater 103 = .ok (.ireturn, 1) := dk_172 (dk_at dksX3_isHeldLater_4 9 rfl rfl)
def dkwX3_joins_2 : List UInt8 := [132, 6, 1, 167, 255, 231, 177]
abbrev dktX3_joins_2 : List UInt8 := dkwX3_joins_2 ++ []
def dkwX3_joins_1 : List UInt8 := [54, 6, 21, 6, 16, 40, 162, 0, 24, 43, 21, 6, 46, 21, 5, 160, 0, 9, 43, 21, 6, 21, 4, 79]
abbrev dktX3_joins_1 : List UInt8 := dkwX3_joins_1 ++ dktX3_joins_2
def dkwX3_joins_0 : List UInt8 := [43, 28, 46, 43, 29, 46, 184, 0, 137, 54, 4, 43, 28, 46, 43, 29, 46, 184, 0, 143, 54, 5, 3]
abbrev dktX3_joins_0 : List UInt8 := dkwX3_joins_0 ++ dktX3_joins_1
theorem dksX3_joins_0 : cX3_joins.data.toList.drop 0 = dktX3_joins_0 := by decide +kernel
theorem dksX3_joins_1 : cX3_joins.data.toList.drop 23 = dktX3_joins_1 := dk_seg dksX3_joins_0 23 rfl rfl
theorem dksX3_joins_2 : cX3_joins.data.toList.drop 47 = dktX3_joins_2 := dk_seg dksX3_joins_1 24 rfl rfl
theorem dX3_joins_0 : decode cX3_joins 0 = .ok (.aload_n 1, 1) := dk_43 (dk_at dksX3_joins_0 0 rfl rfl)
theorem dX3_joins_1 : decode cX3_joins 1 = .ok (.iload_n 2, 1) := dk_28 (dk_at dksX3_joins_0 1 rfl rfl)
theorem dX3_joins_2 : decode cX3_joins 2 = .ok (.iaload, 1) := dk_46 (dk_at dksX3_joins_0 2 rfl rfl)
theorem dX3_joins_3 : decode cX3_joins 3 = .ok (.aload_n 1, 1) := dk_43 (dk_at dksX3_joins_0 3 rfl rfl)
theorem dX3_joins_4 : decode cX3_joins 4 = .ok (.iload_n 3, 1) := dk_29 (dk_at dksX3_joins_0 4 rfl rfl)
theorem dX3_joins_5 : decode cX3_joins 5 = .ok (.iaload, 1) := dk_46 (dk_at dksX3_joins_0 5 rfl rfl)
theorem dX3_joins_6 : decode cX3_joins 6 = .ok (.invokestatic 137, 3) := dk_184 0 137 (dk_at dksX3_joins_0 6 rfl rfl)
theorem dX3_joins_9 : decode cX3_joins 9 = .ok (.istore 4, 2) := dk_54 4 (dk_at dksX3_joins_0 9 rfl rfl)
theorem dX3_joins_11 : decode cX3_joins 11 = .ok (.aload_n 1, 1) := dk_43 (dk_at dksX3_joins_0 11 rfl rfl)
theorem dX3_joins_12 : decode cX3_joins 12 = .ok (.iload_n 2, 1) := dk_28 (dk_at dksX3_joins_0 12 rfl rfl)
theorem dX3_joins_13 : decode cX3_joins 13 = .ok (.iaload, 1) := dk_46 (dk_at dksX3_joins_0 13 rfl rfl)
theorem dX3_joins_14 : decode cX3_joins 14 = .ok (.aload_n 1, 1) := dk_43 (dk_at dksX3_joins_0 14 rfl rfl)
theorem dX3_joins_15 : decode cX3_joins 15 = .ok (.iload_n 3, 1) := dk_29 (dk_at dksX3_joins_0 15 rfl rfl)
theorem dX3_joins_16 : decode cX3_joins 16 = .ok (.iaload, 1) := dk_46 (dk_at dksX3_joins_0 16 rfl rfl)
theorem dX3_joins_17 : decode cX3_joins 17 = .ok (.invokestatic 143, 3) := dk_184 0 143 (dk_at dksX3_joins_0 17 rfl rfl)
theorem dX3_joins_20 : decode cX3_joins 20 = .ok (.istore 5, 2) := dk_54 5 (dk_at dksX3_joins_0 20 rfl rfl)
theorem dX3_joins_22 : decode cX3_joins 22 = .ok (.iconst 0, 1) := dk_3 (dk_at dksX3_joins_0 22 rfl rfl)
theorem dX3_joins_23 : decode cX3_joins 23 = .ok (.istore 6, 2) := dk_54 6 (dk_at dksX3_joins_1 0 rfl rfl)
theorem dX3_joins_25 : decode cX3_joins 25 = .ok (.iload 6, 2) := dk_21 6 (dk_at dksX3_joins_1 2 rfl rfl)
theorem dX3_joins_27 : decode cX3_joins 27 = .ok (.bipush 40, 2) := dk_16 40 (dk_at dksX3_joins_1 4 rfl rfl)
theorem dX3_joins_29 : decode cX3_joins 29 = .ok (.if_icmp .ge 24, 3) := dk_162 0 24 (dk_at dksX3_joins_1 6 rfl rfl)
theorem dX3_joins_32 : decode cX3_joins 32 = .ok (.aload_n 1, 1) := dk_43 (dk_at dksX3_joins_1 9 rfl rfl)
theorem dX3_joins_33 : decode cX3_joins 33 = .ok (.iload 6, 2) := dk_21 6 (dk_at dksX3_joins_1 10 rfl rfl)
theorem dX3_joins_35 : decode cX3_joins 35 = .ok (.iaload, 1) := dk_46 (dk_at dksX3_joins_1 12 rfl rfl)
theorem dX3_joins_36 : decode cX3_joins 36 = .ok (.iload 5, 2) := dk_21 5 (dk_at dksX3_joins_1 13 rfl rfl)
theorem dX3_joins_38 : decode cX3_joins 38 = .ok (.if_icmp .ne 9, 3) := dk_160 0 9 (dk_at dksX3_joins_1 15 rfl rfl)
theorem dX3_joins_41 : decode cX3_joins 41 = .ok (.aload_n 1, 1) := dk_43 (dk_at dksX3_joins_1 18 rfl rfl)
theorem dX3_joins_42 : decode cX3_joins 42 = .ok (.iload 6, 2) := dk_21 6 (dk_at dksX3_joins_1 19 rfl rfl)
theorem dX3_joins_44 : decode cX3_joins 44 = .ok (.iload 4, 2) := dk_21 4 (dk_at dksX3_joins_1 21 rfl rfl)
theorem dX3_joins_46 : decode cX3_joins 46 = .ok (.iastore, 1) := dk_79 (dk_at dksX3_joins_1 23 rfl rfl)
theorem dX3_joins_47 : decode cX3_joins 47 = .ok (.iinc 6 1, 3) := dk_132 6 1 (dk_at dksX3_joins_2 0 rfl rfl)
theorem dX3_joins_50 : decode cX3_joins 50 = .ok (.goto (-25), 3) := dk_167 255 231 (dk_at dksX3_joins_2 3 rfl rfl)
theorem dX3_joins_53 : decode cX3_joins 53 = .ok (.return_, 1) := dk_177 (dk_at dksX3_joins_2 6 rfl rfl)
def dkwX3_adds_4 : List UInt8 := [181, 0, 90, 177]
abbrev dktX3_adds_4 : List UInt8 := dkwX3_adds_4 ++ []
def dkwX3_adds_3 : List UInt8 := [182, 0, 146, 17, 3, 232, 160, 0, 4, 177, 132, 2, 1, 167, 255, 229, 42, 89, 180, 0, 90, 4, 96]
abbrev dktX3_adds_3 : List UInt8 := dkwX3_adds_3 ++ dktX3_adds_4
def dkwX3_adds_2 : List UInt8 := [180, 0, 90, 43, 190, 79, 3, 61, 28, 42, 180, 0, 90, 162, 0, 25, 42, 28, 42, 180, 0, 90]
abbrev dktX3_adds_2 : List UInt8 := dkwX3_adds_2 ++ dktX3_adds_3
def dkwX3_adds_1 : List UInt8 := [50, 28, 42, 180, 0, 15, 43, 28, 46, 46, 79, 132, 2, 1, 167, 255, 220, 42, 180, 0, 27, 42]
abbrev dktX3_adds_1 : List UInt8 := dkwX3_adds_1 ++ dktX3_adds_2
def dkwX3_adds_0 : List UInt8 := [3, 61, 28, 43, 190, 162, 0, 36, 43, 28, 46, 2, 160, 0, 4, 177, 42, 180, 0, 24, 42, 180, 0, 90]
abbrev dktX3_adds_0 : List UInt8 := dkwX3_adds_0 ++ dktX3_adds_1
theorem dksX3_adds_0 : cX3_adds.data.toList.drop 0 = dktX3_adds_0 := by decide +kernel
theorem dksX3_adds_1 : cX3_adds.data.toList.drop 24 = dktX3_adds_1 := dk_seg dksX3_adds_0 24 rfl rfl
theorem dksX3_adds_2 : cX3_adds.data.toList.drop 46 = dktX3_adds_2 := dk_seg dksX3_adds_1 22 rfl rfl
theorem dksX3_adds_3 : cX3_adds.data.toList.drop 68 = dktX3_adds_3 := dk_seg dksX3_adds_2 22 rfl rfl
theorem dksX3_adds_4 : cX3_adds.data.toList.drop 91 = dktX3_adds_4 := dk_seg dksX3_adds_3 23 rfl rfl
theorem dX3_adds_0 : decode cX3_adds 0 = .ok (.iconst 0, 1) := dk_3 (dk_at dksX3_adds_0 0 rfl rfl)
theorem dX3_adds_1 : decode cX3_adds 1 = .ok (.istore_n 2, 1) := dk_61 (dk_at dksX3_adds_0 1 rfl rfl)
theorem dX3_adds_2 : decode cX3_adds 2 = .ok (.iload_n 2, 1) := dk_28 (dk_at dksX3_adds_0 2 rfl rfl)
theorem dX3_adds_3 : decode cX3_adds 3 = .ok (.aload_n 1, 1) := dk_43 (dk_at dksX3_adds_0 3 rfl rfl)
theorem dX3_adds_4 : decode cX3_adds 4 = .ok (.arraylength, 1) := dk_190 (dk_at dksX3_adds_0 4 rfl rfl)
theorem dX3_adds_5 : decode cX3_adds 5 = .ok (.if_icmp .ge 36, 3) := dk_162 0 36 (dk_at dksX3_adds_0 5 rfl rfl)
theorem dX3_adds_8 : decode cX3_adds 8 = .ok (.aload_n 1, 1) := dk_43 (dk_at dksX3_adds_0 8 rfl rfl)
theorem dX3_adds_9 : decode cX3_adds 9 = .ok (.iload_n 2, 1) := dk_28 (dk_at dksX3_adds_0 9 rfl rfl)
theorem dX3_adds_10 : decode cX3_adds 10 = .ok (.iaload, 1) := dk_46 (dk_at dksX3_adds_0 10 rfl rfl)
theorem dX3_adds_11 : decode cX3_adds 11 = .ok (.iconst (-1), 1) := dk_2 (dk_at dksX3_adds_0 11 rfl rfl)
theorem dX3_adds_12 : decode cX3_adds 12 = .ok (.if_icmp .ne 4, 3) := dk_160 0 4 (dk_at dksX3_adds_0 12 rfl rfl)
theorem dX3_adds_15 : decode cX3_adds 15 = .ok (.return_, 1) := dk_177 (dk_at dksX3_adds_0 15 rfl rfl)
theorem dX3_adds_16 : decode cX3_adds 16 = .ok (.aload_n 0, 1) := dk_42 (dk_at dksX3_adds_0 16 rfl rfl)
theorem dX3_adds_17 : decode cX3_adds 17 = .ok (.getfield 24, 3) := dk_180 0 24 (dk_at dksX3_adds_0 17 rfl rfl)
theorem dX3_adds_20 : decode cX3_adds 20 = .ok (.aload_n 0, 1) := dk_42 (dk_at dksX3_adds_0 20 rfl rfl)
theorem dX3_adds_21 : decode cX3_adds 21 = .ok (.getfield 90, 3) := dk_180 0 90 (dk_at dksX3_adds_0 21 rfl rfl)
theorem dX3_adds_24 : decode cX3_adds 24 = .ok (.aaload, 1) := dk_50 (dk_at dksX3_adds_1 0 rfl rfl)
theorem dX3_adds_25 : decode cX3_adds 25 = .ok (.iload_n 2, 1) := dk_28 (dk_at dksX3_adds_1 1 rfl rfl)
theorem dX3_adds_26 : decode cX3_adds 26 = .ok (.aload_n 0, 1) := dk_42 (dk_at dksX3_adds_1 2 rfl rfl)
theorem dX3_adds_27 : decode cX3_adds 27 = .ok (.getfield 15, 3) := dk_180 0 15 (dk_at dksX3_adds_1 3 rfl rfl)
theorem dX3_adds_30 : decode cX3_adds 30 = .ok (.aload_n 1, 1) := dk_43 (dk_at dksX3_adds_1 6 rfl rfl)
theorem dX3_adds_31 : decode cX3_adds 31 = .ok (.iload_n 2, 1) := dk_28 (dk_at dksX3_adds_1 7 rfl rfl)
theorem dX3_adds_32 : decode cX3_adds 32 = .ok (.iaload, 1) := dk_46 (dk_at dksX3_adds_1 8 rfl rfl)
theorem dX3_adds_33 : decode cX3_adds 33 = .ok (.iaload, 1) := dk_46 (dk_at dksX3_adds_1 9 rfl rfl)
theorem dX3_adds_34 : decode cX3_adds 34 = .ok (.iastore, 1) := dk_79 (dk_at dksX3_adds_1 10 rfl rfl)
theorem dX3_adds_35 : decode cX3_adds 35 = .ok (.iinc 2 1, 3) := dk_132 2 1 (dk_at dksX3_adds_1 11 rfl rfl)
theorem dX3_adds_38 : decode cX3_adds 38 = .ok (.goto (-36), 3) := dk_167 255 220 (dk_at dksX3_adds_1 14 rfl rfl)
theorem dX3_adds_41 : decode cX3_adds 41 = .ok (.aload_n 0, 1) := dk_42 (dk_at dksX3_adds_1 17 rfl rfl)
theorem dX3_adds_42 : decode cX3_adds 42 = .ok (.getfield 27, 3) := dk_180 0 27 (dk_at dksX3_adds_1 18 rfl rfl)
theorem dX3_adds_45 : decode cX3_adds 45 = .ok (.aload_n 0, 1) := dk_42 (dk_at dksX3_adds_1 21 rfl rfl)
theorem dX3_adds_46 : decode cX3_adds 46 = .ok (.getfield 90, 3) := dk_180 0 90 (dk_at dksX3_adds_2 0 rfl rfl)
theorem dX3_adds_49 : decode cX3_adds 49 = .ok (.aload_n 1, 1) := dk_43 (dk_at dksX3_adds_2 3 rfl rfl)
theorem dX3_adds_50 : decode cX3_adds 50 = .ok (.arraylength, 1) := dk_190 (dk_at dksX3_adds_2 4 rfl rfl)
theorem dX3_adds_51 : decode cX3_adds 51 = .ok (.iastore, 1) := dk_79 (dk_at dksX3_adds_2 5 rfl rfl)
theorem dX3_adds_52 : decode cX3_adds 52 = .ok (.iconst 0, 1) := dk_3 (dk_at dksX3_adds_2 6 rfl rfl)
theorem dX3_adds_53 : decode cX3_adds 53 = .ok (.istore_n 2, 1) := dk_61 (dk_at dksX3_adds_2 7 rfl rfl)
theorem dX3_adds_54 : decode cX3_adds 54 = .ok (.iload_n 2, 1) := dk_28 (dk_at dksX3_adds_2 8 rfl rfl)
theorem dX3_adds_55 : decode cX3_adds 55 = .ok (.aload_n 0, 1) := dk_42 (dk_at dksX3_adds_2 9 rfl rfl)
theorem dX3_adds_56 : decode cX3_adds 56 = .ok (.getfield 90, 3) := dk_180 0 90 (dk_at dksX3_adds_2 10 rfl rfl)
theorem dX3_adds_59 : decode cX3_adds 59 = .ok (.if_icmp .ge 25, 3) := dk_162 0 25 (dk_at dksX3_adds_2 13 rfl rfl)
theorem dX3_adds_62 : decode cX3_adds 62 = .ok (.aload_n 0, 1) := dk_42 (dk_at dksX3_adds_2 16 rfl rfl)
theorem dX3_adds_63 : decode cX3_adds 63 = .ok (.iload_n 2, 1) := dk_28 (dk_at dksX3_adds_2 17 rfl rfl)
theorem dX3_adds_64 : decode cX3_adds 64 = .ok (.aload_n 0, 1) := dk_42 (dk_at dksX3_adds_2 18 rfl rfl)
theorem dX3_adds_65 : decode cX3_adds 65 = .ok (.getfield 90, 3) := dk_180 0 90 (dk_at dksX3_adds_2 19 rfl rfl)
theorem dX3_adds_68 : decode cX3_adds 68 = .ok (.invokevirtual 146, 3) := dk_182 0 146 (dk_at dksX3_adds_3 0 rfl rfl)
theorem dX3_adds_71 : decode cX3_adds 71 = .ok (.sipush 1000, 3) := dk_17 3 232 (dk_at dksX3_adds_3 3 rfl rfl)
theorem dX3_adds_74 : decode cX3_adds 74 = .ok (.if_icmp .ne 4, 3) := dk_160 0 4 (dk_at dksX3_adds_3 6 rfl rfl)
theorem dX3_adds_77 : decode cX3_adds 77 = .ok (.return_, 1) := dk_177 (dk_at dksX3_adds_3 9 rfl rfl)
theorem dX3_adds_78 : decode cX3_adds 78 = .ok (.iinc 2 1, 3) := dk_132 2 1 (dk_at dksX3_adds_3 10 rfl rfl)
theorem dX3_adds_81 : decode cX3_adds 81 = .ok (.goto (-27), 3) := dk_167 255 229 (dk_at dksX3_adds_3 13 rfl rfl)
theorem dX3_adds_84 : decode cX3_adds 84 = .ok (.aload_n 0, 1) := dk_42 (dk_at dksX3_adds_3 16 rfl rfl)
theorem dX3_adds_85 : decode cX3_adds 85 = .ok (.dup, 1) := dk_89 (dk_at dksX3_adds_3 17 rfl rfl)
theorem dX3_adds_86 : decode cX3_adds 86 = .ok (.getfield 90, 3) := dk_180 0 90 (dk_at dksX3_adds_3 18 rfl rfl)
theorem dX3_adds_89 : decode cX3_adds 89 = .ok (.iconst 1, 1) := dk_4 (dk_at dksX3_adds_3 21 rfl rfl)
theorem dX3_adds_90 : decode cX3_adds 90 = .ok (.iadd, 1) := dk_96 (dk_at dksX3_adds_3 22 rfl rfl)
theorem dX3_adds_91 : decode cX3_adds 91 = .ok (.putfield 90, 3) := dk_181 0 90 (dk_at dksX3_adds_4 0 rfl rfl)
theorem dX3_adds_94 : decode cX3_adds 94 = .ok (.return_, 1) := dk_177 (dk_at dksX3_adds_4 3 rfl rfl)
def dkwX3_unlikeAt_3 : List UInt8 := [132, 4, 1, 167, 255, 206, 29, 172]
abbrev dktX3_unlikeAt_3 : List UInt8 := dkwX3_unlikeAt_3 ++ []
def dkwX3_unlikeAt_2 : List UInt8 := [28, 50, 21, 4, 46, 160, 0, 6, 167, 0, 15, 29, 17, 3, 232, 159, 0, 5, 2, 172, 21, 4, 62]
abbrev dktX3_unlikeAt_2 : List UInt8 := dkwX3_unlikeAt_2 ++ dktX3_unlikeAt_3
def dkwX3_unlikeAt_1 : List UInt8 := [21, 4, 42, 180, 0, 27, 27, 46, 162, 0, 45, 42, 180, 0, 24, 27, 50, 21, 4, 46, 42, 180, 0, 24]
abbrev dktX3_unlikeAt_1 : List UInt8 := dkwX3_unlikeAt_1 ++ dktX3_unlikeAt_2
def dkwX3_unlikeAt_0 : List UInt8 := [42, 180, 0, 27, 27, 46, 42, 180, 0, 27, 28, 46, 159, 0, 5, 2, 172, 17, 3, 232, 62, 3, 54, 4]
abbrev dktX3_unlikeAt_0 : List UInt8 := dkwX3_unlikeAt_0 ++ dktX3_unlikeAt_1
theorem dksX3_unlikeAt_0 : cX3_unlikeAt.data.toList.drop 0 = dktX3_unlikeAt_0 := by decide +kernel
theorem dksX3_unlikeAt_1 : cX3_unlikeAt.data.toList.drop 24 = dktX3_unlikeAt_1 := dk_seg dksX3_unlikeAt_0 24 rfl rfl
theorem dksX3_unlikeAt_2 : cX3_unlikeAt.data.toList.drop 48 = dktX3_unlikeAt_2 := dk_seg dksX3_unlikeAt_1 24 rfl rfl
theorem dksX3_unlikeAt_3 : cX3_unlikeAt.data.toList.drop 71 = dktX3_unlikeAt_3 := dk_seg dksX3_unlikeAt_2 23 rfl rfl
theorem dX3_unlikeAt_0 : decode cX3_unlikeAt 0 = .ok (.aload_n 0, 1) := dk_42 (dk_at dksX3_unlikeAt_0 0 rfl rfl)
theorem dX3_unlikeAt_1 : decode cX3_unlikeAt 1 = .ok (.getfield 27, 3) := dk_180 0 27 (dk_at dksX3_unlikeAt_0 1 rfl rfl)
theorem dX3_unlikeAt_4 : decode cX3_unlikeAt 4 = .ok (.iload_n 1, 1) := dk_27 (dk_at dksX3_unlikeAt_0 4 rfl rfl)
theorem dX3_unlikeAt_5 : decode cX3_unlikeAt 5 = .ok (.iaload, 1) := dk_46 (dk_at dksX3_unlikeAt_0 5 rfl rfl)
theorem dX3_unlikeAt_6 : decode cX3_unlikeAt 6 = .ok (.aload_n 0, 1) := dk_42 (dk_at dksX3_unlikeAt_0 6 rfl rfl)
theorem dX3_unlikeAt_7 : decode cX3_unlikeAt 7 = .ok (.getfield 27, 3) := dk_180 0 27 (dk_at dksX3_unlikeAt_0 7 rfl rfl)
theorem dX3_unlikeAt_10 : decode cX3_unlikeAt 10 = .ok (.iload_n 2, 1) := dk_28 (dk_at dksX3_unlikeAt_0 10 rfl rfl)
theorem dX3_unlikeAt_11 : decode cX3_unlikeAt 11 = .ok (.iaload, 1) := dk_46 (dk_at dksX3_unlikeAt_0 11 rfl rfl)
theorem dX3_unlikeAt_12 : decode cX3_unlikeAt 12 = .ok (.if_icmp .eq 5, 3) := dk_159 0 5 (dk_at dksX3_unlikeAt_0 12 rfl rfl)
theorem dX3_unlikeAt_15 : decode cX3_unlikeAt 15 = .ok (.iconst (-1), 1) := dk_2 (dk_at dksX3_unlikeAt_0 15 rfl rfl)
theorem dX3_unlikeAt_16 : decode cX3_unlikeAt 16 = .ok (.ireturn, 1) := dk_172 (dk_at dksX3_unlikeAt_0 16 rfl rfl)
theorem dX3_unlikeAt_17 : decode cX3_unlikeAt 17 = .ok (.sipush 1000, 3) := dk_17 3 232 (dk_at dksX3_unlikeAt_0 17 rfl rfl)
theorem dX3_unlikeAt_20 : decode cX3_unlikeAt 20 = .ok (.istore_n 3, 1) := dk_62 (dk_at dksX3_unlikeAt_0 20 rfl rfl)
theorem dX3_unlikeAt_21 : decode cX3_unlikeAt 21 = .ok (.iconst 0, 1) := dk_3 (dk_at dksX3_unlikeAt_0 21 rfl rfl)
theorem dX3_unlikeAt_22 : decode cX3_unlikeAt 22 = .ok (.istore 4, 2) := dk_54 4 (dk_at dksX3_unlikeAt_0 22 rfl rfl)
theorem dX3_unlikeAt_24 : decode cX3_unlikeAt 24 = .ok (.iload 4, 2) := dk_21 4 (dk_at dksX3_unlikeAt_1 0 rfl rfl)
theorem dX3_unlikeAt_26 : decode cX3_unlikeAt 26 = .ok (.aload_n 0, 1) := dk_42 (dk_at dksX3_unlikeAt_1 2 rfl rfl)
theorem dX3_unlikeAt_27 : decode cX3_unlikeAt 27 = .ok (.getfield 27, 3) := dk_180 0 27 (dk_at dksX3_unlikeAt_1 3 rfl rfl)
theorem dX3_unlikeAt_30 : decode cX3_unlikeAt 30 = .ok (.iload_n 1, 1) := dk_27 (dk_at dksX3_unlikeAt_1 6 rfl rfl)
theorem dX3_unlikeAt_31 : decode cX3_unlikeAt 31 = .ok (.iaload, 1) := dk_46 (dk_at dksX3_unlikeAt_1 7 rfl rfl)
theorem dX3_unlikeAt_32 : decode cX3_unlikeAt 32 = .ok (.if_icmp .ge 45, 3) := dk_162 0 45 (dk_at dksX3_unlikeAt_1 8 rfl rfl)
theorem dX3_unlikeAt_35 : decode cX3_unlikeAt 35 = .ok (.aload_n 0, 1) := dk_42 (dk_at dksX3_unlikeAt_1 11 rfl rfl)
theorem dX3_unlikeAt_36 : decode cX3_unlikeAt 36 = .ok (.getfield 24, 3) := dk_180 0 24 (dk_at dksX3_unlikeAt_1 12 rfl rfl)
theorem dX3_unlikeAt_39 : decode cX3_unlikeAt 39 = .ok (.iload_n 1, 1) := dk_27 (dk_at dksX3_unlikeAt_1 15 rfl rfl)
theorem dX3_unlikeAt_40 : decode cX3_unlikeAt 40 = .ok (.aaload, 1) := dk_50 (dk_at dksX3_unlikeAt_1 16 rfl rfl)
theorem dX3_unlikeAt_41 : decode cX3_unlikeAt 41 = .ok (.iload 4, 2) := dk_21 4 (dk_at dksX3_unlikeAt_1 17 rfl rfl)
theorem dX3_unlikeAt_43 : decode cX3_unlikeAt 43 = .ok (.iaload, 1) := dk_46 (dk_at dksX3_unlikeAt_1 19 rfl rfl)
theorem dX3_unlikeAt_44 : decode cX3_unlikeAt 44 = .ok (.aload_n 0, 1) := dk_42 (dk_at dksX3_unlikeAt_1 20 rfl rfl)
theorem dX3_unlikeAt_45 : decode cX3_unlikeAt 45 = .ok (.getfield 24, 3) := dk_180 0 24 (dk_at dksX3_unlikeAt_1 21 rfl rfl)
theorem dX3_unlikeAt_48 : decode cX3_unlikeAt 48 = .ok (.iload_n 2, 1) := dk_28 (dk_at dksX3_unlikeAt_2 0 rfl rfl)
theorem dX3_unlikeAt_49 : decode cX3_unlikeAt 49 = .ok (.aaload, 1) := dk_50 (dk_at dksX3_unlikeAt_2 1 rfl rfl)
theorem dX3_unlikeAt_50 : decode cX3_unlikeAt 50 = .ok (.iload 4, 2) := dk_21 4 (dk_at dksX3_unlikeAt_2 2 rfl rfl)
theorem dX3_unlikeAt_52 : decode cX3_unlikeAt 52 = .ok (.iaload, 1) := dk_46 (dk_at dksX3_unlikeAt_2 4 rfl rfl)
theorem dX3_unlikeAt_53 : decode cX3_unlikeAt 53 = .ok (.if_icmp .ne 6, 3) := dk_160 0 6 (dk_at dksX3_unlikeAt_2 5 rfl rfl)
theorem dX3_unlikeAt_56 : decode cX3_unlikeAt 56 = .ok (.goto 15, 3) := dk_167 0 15 (dk_at dksX3_unlikeAt_2 8 rfl rfl)
theorem dX3_unlikeAt_59 : decode cX3_unlikeAt 59 = .ok (.iload_n 3, 1) := dk_29 (dk_at dksX3_unlikeAt_2 11 rfl rfl)
theorem dX3_unlikeAt_60 : decode cX3_unlikeAt 60 = .ok (.sipush 1000, 3) := dk_17 3 232 (dk_at dksX3_unlikeAt_2 12 rfl rfl)
theorem dX3_unlikeAt_63 : decode cX3_unlikeAt 63 = .ok (.if_icmp .eq 5, 3) := dk_159 0 5 (dk_at dksX3_unlikeAt_2 15 rfl rfl)
theorem dX3_unlikeAt_66 : decode cX3_unlikeAt 66 = .ok (.iconst (-1), 1) := dk_2 (dk_at dksX3_unlikeAt_2 18 rfl rfl)
theorem dX3_unlikeAt_67 : decode cX3_unlikeAt 67 = .ok (.ireturn, 1) := dk_172 (dk_at dksX3_unlikeAt_2 19 rfl rfl)
theorem dX3_unlikeAt_68 : decode cX3_unlikeAt 68 = .ok (.iload 4, 2) := dk_21 4 (dk_at dksX3_unlikeAt_2 20 rfl rfl)
theorem dX3_unlikeAt_70 : decode cX3_unlikeAt 70 = .ok (.istore_n 3, 1) := dk_62 (dk_at dksX3_unlikeAt_2 22 rfl rfl)
theorem dX3_unlikeAt_71 : decode cX3_unlikeAt 71 = .ok (.iinc 4 1, 3) := dk_132 4 1 (dk_at dksX3_unlikeAt_3 0 rfl rfl)
theorem dX3_unlikeAt_74 : decode cX3_unlikeAt 74 = .ok (.goto (-50), 3) := dk_167 255 206 (dk_at dksX3_unlikeAt_3 3 rfl rfl)
theorem dX3_unlikeAt_77 : decode cX3_unlikeAt 77 = .ok (.iload_n 3, 1) := dk_29 (dk_at dksX3_unlikeAt_3 6 rfl rfl)
theorem dX3_unlikeAt_78 : decode cX3_unlikeAt 78 = .ok (.ireturn, 1) := dk_172 (dk_at dksX3_unlikeAt_3 7 rfl rfl)
def dkwX3_pairs_6 : List UInt8 := [21, 4, 172]
abbrev dktX3_pairs_6 : List UInt8 := dkwX3_pairs_6 ++ []
def dkwX3_pairs_5 : List UInt8 := [160, 0, 7, 4, 167, 0, 4, 3, 96, 54, 4, 132, 6, 1, 167, 255, 147, 132, 5, 1, 167, 255, 126]
abbrev dktX3_pairs_5 : List UInt8 := dkwX3_pairs_5 ++ dktX3_pairs_6
def dkwX3_pairs_4 : List UInt8 := [21, 4, 21, 8, 28, 160, 0, 9, 21, 9, 29, 159, 0, 15, 21, 8, 29, 160, 0, 13, 21, 9, 28]
abbrev dktX3_pairs_4 : List UInt8 := dkwX3_pairs_4 ++ dktX3_pairs_5
def dkwX3_pairs_3 : List UInt8 := [180, 0, 24, 21, 5, 50, 21, 7, 46, 54, 8, 42, 180, 0, 24, 21, 6, 50, 21, 7, 46, 54, 9]
abbrev dktX3_pairs_3 : List UInt8 := dkwX3_pairs_3 ++ dktX3_pairs_4
def dkwX3_pairs_2 : List UInt8 := [153, 0, 80, 21, 7, 43, 42, 180, 0, 27, 21, 5, 46, 182, 0, 153, 159, 0, 6, 167, 0, 61, 42]
abbrev dktX3_pairs_2 : List UInt8 := dkwX3_pairs_2 ++ dktX3_pairs_3
def dkwX3_pairs_1 : List UInt8 := [180, 0, 90, 162, 0, 106, 42, 21, 5, 21, 6, 182, 0, 146, 54, 7, 21, 7, 3, 8, 184, 0, 149]
abbrev dktX3_pairs_1 : List UInt8 := dkwX3_pairs_1 ++ dktX3_pairs_2
def dkwX3_pairs_0 : List UInt8 := [3, 54, 4, 3, 54, 5, 21, 5, 42, 180, 0, 90, 162, 0, 127, 21, 5, 4, 96, 54, 6, 21, 6, 42]
abbrev dktX3_pairs_0 : List UInt8 := dkwX3_pairs_0 ++ dktX3_pairs_1
theorem dksX3_pairs_0 : cX3_pairs.data.toList.drop 0 = dktX3_pairs_0 := by decide +kernel
theorem dksX3_pairs_1 : cX3_pairs.data.toList.drop 24 = dktX3_pairs_1 := dk_seg dksX3_pairs_0 24 rfl rfl
theorem dksX3_pairs_2 : cX3_pairs.data.toList.drop 47 = dktX3_pairs_2 := dk_seg dksX3_pairs_1 23 rfl rfl
theorem dksX3_pairs_3 : cX3_pairs.data.toList.drop 70 = dktX3_pairs_3 := dk_seg dksX3_pairs_2 23 rfl rfl
theorem dksX3_pairs_4 : cX3_pairs.data.toList.drop 93 = dktX3_pairs_4 := dk_seg dksX3_pairs_3 23 rfl rfl
theorem dksX3_pairs_5 : cX3_pairs.data.toList.drop 116 = dktX3_pairs_5 := dk_seg dksX3_pairs_4 23 rfl rfl
theorem dksX3_pairs_6 : cX3_pairs.data.toList.drop 139 = dktX3_pairs_6 := dk_seg dksX3_pairs_5 23 rfl rfl
theorem dX3_pairs_0 : decode cX3_pairs 0 = .ok (.iconst 0, 1) := dk_3 (dk_at dksX3_pairs_0 0 rfl rfl)
theorem dX3_pairs_1 : decode cX3_pairs 1 = .ok (.istore 4, 2) := dk_54 4 (dk_at dksX3_pairs_0 1 rfl rfl)
theorem dX3_pairs_3 : decode cX3_pairs 3 = .ok (.iconst 0, 1) := dk_3 (dk_at dksX3_pairs_0 3 rfl rfl)
theorem dX3_pairs_4 : decode cX3_pairs 4 = .ok (.istore 5, 2) := dk_54 5 (dk_at dksX3_pairs_0 4 rfl rfl)
theorem dX3_pairs_6 : decode cX3_pairs 6 = .ok (.iload 5, 2) := dk_21 5 (dk_at dksX3_pairs_0 6 rfl rfl)
theorem dX3_pairs_8 : decode cX3_pairs 8 = .ok (.aload_n 0, 1) := dk_42 (dk_at dksX3_pairs_0 8 rfl rfl)
theorem dX3_pairs_9 : decode cX3_pairs 9 = .ok (.getfield 90, 3) := dk_180 0 90 (dk_at dksX3_pairs_0 9 rfl rfl)
theorem dX3_pairs_12 : decode cX3_pairs 12 = .ok (.if_icmp .ge 127, 3) := dk_162 0 127 (dk_at dksX3_pairs_0 12 rfl rfl)
theorem dX3_pairs_15 : decode cX3_pairs 15 = .ok (.iload 5, 2) := dk_21 5 (dk_at dksX3_pairs_0 15 rfl rfl)
theorem dX3_pairs_17 : decode cX3_pairs 17 = .ok (.iconst 1, 1) := dk_4 (dk_at dksX3_pairs_0 17 rfl rfl)
theorem dX3_pairs_18 : decode cX3_pairs 18 = .ok (.iadd, 1) := dk_96 (dk_at dksX3_pairs_0 18 rfl rfl)
theorem dX3_pairs_19 : decode cX3_pairs 19 = .ok (.istore 6, 2) := dk_54 6 (dk_at dksX3_pairs_0 19 rfl rfl)
theorem dX3_pairs_21 : decode cX3_pairs 21 = .ok (.iload 6, 2) := dk_21 6 (dk_at dksX3_pairs_0 21 rfl rfl)
theorem dX3_pairs_23 : decode cX3_pairs 23 = .ok (.aload_n 0, 1) := dk_42 (dk_at dksX3_pairs_0 23 rfl rfl)
theorem dX3_pairs_24 : decode cX3_pairs 24 = .ok (.getfield 90, 3) := dk_180 0 90 (dk_at dksX3_pairs_1 0 rfl rfl)
theorem dX3_pairs_27 : decode cX3_pairs 27 = .ok (.if_icmp .ge 106, 3) := dk_162 0 106 (dk_at dksX3_pairs_1 3 rfl rfl)
theorem dX3_pairs_30 : decode cX3_pairs 30 = .ok (.aload_n 0, 1) := dk_42 (dk_at dksX3_pairs_1 6 rfl rfl)
theorem dX3_pairs_31 : decode cX3_pairs 31 = .ok (.iload 5, 2) := dk_21 5 (dk_at dksX3_pairs_1 7 rfl rfl)
theorem dX3_pairs_33 : decode cX3_pairs 33 = .ok (.iload 6, 2) := dk_21 6 (dk_at dksX3_pairs_1 9 rfl rfl)
theorem dX3_pairs_35 : decode cX3_pairs 35 = .ok (.invokevirtual 146, 3) := dk_182 0 146 (dk_at dksX3_pairs_1 11 rfl rfl)
theorem dX3_pairs_38 : decode cX3_pairs 38 = .ok (.istore 7, 2) := dk_54 7 (dk_at dksX3_pairs_1 14 rfl rfl)
theorem dX3_pairs_40 : decode cX3_pairs 40 = .ok (.iload 7, 2) := dk_21 7 (dk_at dksX3_pairs_1 16 rfl rfl)
theorem dX3_pairs_42 : decode cX3_pairs 42 = .ok (.iconst 0, 1) := dk_3 (dk_at dksX3_pairs_1 18 rfl rfl)
theorem dX3_pairs_43 : decode cX3_pairs 43 = .ok (.iconst 5, 1) := dk_8 (dk_at dksX3_pairs_1 19 rfl rfl)
theorem dX3_pairs_44 : decode cX3_pairs 44 = .ok (.invokestatic 149, 3) := dk_184 0 149 (dk_at dksX3_pairs_1 20 rfl rfl)
theorem dX3_pairs_47 : decode cX3_pairs 47 = .ok (.ifCond .eq 80, 3) := dk_153 0 80 (dk_at dksX3_pairs_2 0 rfl rfl)
theorem dX3_pairs_50 : decode cX3_pairs 50 = .ok (.iload 7, 2) := dk_21 7 (dk_at dksX3_pairs_2 3 rfl rfl)
theorem dX3_pairs_52 : decode cX3_pairs 52 = .ok (.aload_n 1, 1) := dk_43 (dk_at dksX3_pairs_2 5 rfl rfl)
theorem dX3_pairs_53 : decode cX3_pairs 53 = .ok (.aload_n 0, 1) := dk_42 (dk_at dksX3_pairs_2 6 rfl rfl)
theorem dX3_pairs_54 : decode cX3_pairs 54 = .ok (.getfield 27, 3) := dk_180 0 27 (dk_at dksX3_pairs_2 7 rfl rfl)
theorem dX3_pairs_57 : decode cX3_pairs 57 = .ok (.iload 5, 2) := dk_21 5 (dk_at dksX3_pairs_2 10 rfl rfl)
theorem dX3_pairs_59 : decode cX3_pairs 59 = .ok (.iaload, 1) := dk_46 (dk_at dksX3_pairs_2 12 rfl rfl)
theorem dX3_pairs_60 : decode cX3_pairs 60 = .ok (.invokevirtual 153, 3) := dk_182 0 153 (dk_at dksX3_pairs_2 13 rfl rfl)
theorem dX3_pairs_63 : decode cX3_pairs 63 = .ok (.if_icmp .eq 6, 3) := dk_159 0 6 (dk_at dksX3_pairs_2 16 rfl rfl)
theorem dX3_pairs_66 : decode cX3_pairs 66 = .ok (.goto 61, 3) := dk_167 0 61 (dk_at dksX3_pairs_2 19 rfl rfl)
theorem dX3_pairs_69 : decode cX3_pairs 69 = .ok (.aload_n 0, 1) := dk_42 (dk_at dksX3_pairs_2 22 rfl rfl)
theorem dX3_pairs_70 : decode cX3_pairs 70 = .ok (.getfield 24, 3) := dk_180 0 24 (dk_at dksX3_pairs_3 0 rfl rfl)
theorem dX3_pairs_73 : decode cX3_pairs 73 = .ok (.iload 5, 2) := dk_21 5 (dk_at dksX3_pairs_3 3 rfl rfl)
theorem dX3_pairs_75 : decode cX3_pairs 75 = .ok (.aaload, 1) := dk_50 (dk_at dksX3_pairs_3 5 rfl rfl)
theorem dX3_pairs_76 : decode cX3_pairs 76 = .ok (.iload 7, 2) := dk_21 7 (dk_at dksX3_pairs_3 6 rfl rfl)
theorem dX3_pairs_78 : decode cX3_pairs 78 = .ok (.iaload, 1) := dk_46 (dk_at dksX3_pairs_3 8 rfl rfl)
theorem dX3_pairs_79 : decode cX3_pairs 79 = .ok (.istore 8, 2) := dk_54 8 (dk_at dksX3_pairs_3 9 rfl rfl)
theorem dX3_pairs_81 : decode cX3_pairs 81 = .ok (.aload_n 0, 1) := dk_42 (dk_at dksX3_pairs_3 11 rfl rfl)
theorem dX3_pairs_82 : decode cX3_pairs 82 = .ok (.getfield 24, 3) := dk_180 0 24 (dk_at dksX3_pairs_3 12 rfl rfl)
theorem dX3_pairs_85 : decode cX3_pairs 85 = .ok (.iload 6, 2) := dk_21 6 (dk_at dksX3_pairs_3 15 rfl rfl)
theorem dX3_pairs_87 : decode cX3_pairs 87 = .ok (.aaload, 1) := dk_50 (dk_at dksX3_pairs_3 17 rfl rfl)
theorem dX3_pairs_88 : decode cX3_pairs 88 = .ok (.iload 7, 2) := dk_21 7 (dk_at dksX3_pairs_3 18 rfl rfl)
theorem dX3_pairs_90 : decode cX3_pairs 90 = .ok (.iaload, 1) := dk_46 (dk_at dksX3_pairs_3 20 rfl rfl)
theorem dX3_pairs_91 : decode cX3_pairs 91 = .ok (.istore 9, 2) := dk_54 9 (dk_at dksX3_pairs_3 21 rfl rfl)
theorem dX3_pairs_93 : decode cX3_pairs 93 = .ok (.iload 4, 2) := dk_21 4 (dk_at dksX3_pairs_4 0 rfl rfl)
theorem dX3_pairs_95 : decode cX3_pairs 95 = .ok (.iload 8, 2) := dk_21 8 (dk_at dksX3_pairs_4 2 rfl rfl)
theorem dX3_pairs_97 : decode cX3_pairs 97 = .ok (.iload_n 2, 1) := dk_28 (dk_at dksX3_pairs_4 4 rfl rfl)
theorem dX3_pairs_98 : decode cX3_pairs 98 = .ok (.if_icmp .ne 9, 3) := dk_160 0 9 (dk_at dksX3_pairs_4 5 rfl rfl)
theorem dX3_pairs_101 : decode cX3_pairs 101 = .ok (.iload 9, 2) := dk_21 9 (dk_at dksX3_pairs_4 8 rfl rfl)
theorem dX3_pairs_103 : decode cX3_pairs 103 = .ok (.iload_n 3, 1) := dk_29 (dk_at dksX3_pairs_4 10 rfl rfl)
theorem dX3_pairs_104 : decode cX3_pairs 104 = .ok (.if_icmp .eq 15, 3) := dk_159 0 15 (dk_at dksX3_pairs_4 11 rfl rfl)
theorem dX3_pairs_107 : decode cX3_pairs 107 = .ok (.iload 8, 2) := dk_21 8 (dk_at dksX3_pairs_4 14 rfl rfl)
theorem dX3_pairs_109 : decode cX3_pairs 109 = .ok (.iload_n 3, 1) := dk_29 (dk_at dksX3_pairs_4 16 rfl rfl)
theorem dX3_pairs_110 : decode cX3_pairs 110 = .ok (.if_icmp .ne 13, 3) := dk_160 0 13 (dk_at dksX3_pairs_4 17 rfl rfl)
theorem dX3_pairs_113 : decode cX3_pairs 113 = .ok (.iload 9, 2) := dk_21 9 (dk_at dksX3_pairs_4 20 rfl rfl)
theorem dX3_pairs_115 : decode cX3_pairs 115 = .ok (.iload_n 2, 1) := dk_28 (dk_at dksX3_pairs_4 22 rfl rfl)
theorem dX3_pairs_116 : decode cX3_pairs 116 = .ok (.if_icmp .ne 7, 3) := dk_160 0 7 (dk_at dksX3_pairs_5 0 rfl rfl)
theorem dX3_pairs_119 : decode cX3_pairs 119 = .ok (.iconst 1, 1) := dk_4 (dk_at dksX3_pairs_5 3 rfl rfl)
theorem dX3_pairs_120 : decode cX3_pairs 120 = .ok (.goto 4, 3) := dk_167 0 4 (dk_at dksX3_pairs_5 4 rfl rfl)
theorem dX3_pairs_123 : decode cX3_pairs 123 = .ok (.iconst 0, 1) := dk_3 (dk_at dksX3_pairs_5 7 rfl rfl)
theorem dX3_pairs_124 : decode cX3_pairs 124 = .ok (.iadd, 1) := dk_96 (dk_at dksX3_pairs_5 8 rfl rfl)
theorem dX3_pairs_125 : decode cX3_pairs 125 = .ok (.istore 4, 2) := dk_54 4 (dk_at dksX3_pairs_5 9 rfl rfl)
theorem dX3_pairs_127 : decode cX3_pairs 127 = .ok (.iinc 6 1, 3) := dk_132 6 1 (dk_at dksX3_pairs_5 11 rfl rfl)
theorem dX3_pairs_130 : decode cX3_pairs 130 = .ok (.goto (-109), 3) := dk_167 255 147 (dk_at dksX3_pairs_5 14 rfl rfl)
theorem dX3_pairs_133 : decode cX3_pairs 133 = .ok (.iinc 5 1, 3) := dk_132 5 1 (dk_at dksX3_pairs_5 17 rfl rfl)
theorem dX3_pairs_136 : decode cX3_pairs 136 = .ok (.goto (-130), 3) := dk_167 255 126 (dk_at dksX3_pairs_5 20 rfl rfl)
theorem dX3_pairs_139 : decode cX3_pairs 139 = .ok (.iload 4, 2) := dk_21 4 (dk_at dksX3_pairs_6 0 rfl rfl)
theorem dX3_pairs_141 : decode cX3_pairs 141 = .ok (.ireturn, 1) := dk_172 (dk_at dksX3_pairs_6 2 rfl rfl)
def dkwX3_whole_9 : List UInt8 := [182, 0, 201, 132, 2, 1, 167, 255, 243, 42, 176]
abbrev dktX3_whole_9 : List UInt8 := dkwX3_whole_9 ++ []
def dkwX3_whole_8 : List UInt8 := [45, 180, 0, 193, 46, 182, 0, 169, 132, 2, 1, 167, 255, 151, 3, 61, 28, 5, 162, 0, 14, 42, 28]
abbrev dktX3_whole_8 : List UInt8 := dkwX3_whole_8 ++ dktX3_whole_9
def dkwX3_whole_7 : List UInt8 := [167, 0, 7, 42, 180, 0, 34, 45, 180, 0, 200, 42, 180, 0, 15, 45, 180, 0, 190, 46, 42, 180, 0, 15]
abbrev dktX3_whole_7 : List UInt8 := dkwX3_whole_7 ++ dktX3_whole_8
def dkwX3_whole_6 : List UInt8 := [42, 180, 0, 15, 45, 180, 0, 193, 46, 159, 0, 47, 42, 45, 180, 0, 196, 153, 0, 10, 42, 180, 0, 30]
abbrev dktX3_whole_6 : List UInt8 := dkwX3_whole_6 ++ dktX3_whole_7
def dkwX3_whole_5 : List UInt8 := [182, 0, 78, 192, 0, 187, 78, 45, 27, 182, 0, 189, 153, 0, 68, 42, 180, 0, 15, 45, 180, 0, 190, 46]
abbrev dktX3_whole_5 : List UInt8 := dkwX3_whole_5 ++ dktX3_whole_6
def dkwX3_whole_4 : List UInt8 := [61, 28, 42, 180, 0, 3, 180, 0, 184, 182, 0, 73, 162, 0, 97, 42, 180, 0, 3, 180, 0, 184, 28]
abbrev dktX3_whole_4 : List UInt8 := dkwX3_whole_4 ++ dktX3_whole_5
def dkwX3_whole_3 : List UInt8 := [42, 180, 0, 66, 180, 0, 177, 28, 182, 0, 78, 192, 0, 154, 182, 0, 180, 132, 2, 1, 167, 255, 204, 3]
abbrev dktX3_whole_3 : List UInt8 := dkwX3_whole_3 ++ dktX3_whole_4
def dkwX3_whole_2 : List UInt8 := [182, 0, 73, 162, 0, 44, 42, 180, 0, 66, 180, 0, 177, 28, 182, 0, 78, 193, 0, 154, 153, 0, 21, 42]
abbrev dktX3_whole_2 : List UInt8 := dkwX3_whole_2 ++ dktX3_whole_3
def dkwX3_whole_1 : List UInt8 := [42, 180, 0, 34, 28, 3, 84, 132, 2, 1, 167, 255, 230, 3, 61, 28, 42, 180, 0, 66, 180, 0, 177]
abbrev dktX3_whole_1 : List UInt8 := dkwX3_whole_1 ++ dktX3_whole_2
def dkwX3_whole_0 : List UInt8 := [42, 27, 182, 0, 173, 87, 3, 61, 28, 42, 180, 0, 30, 190, 162, 0, 23, 42, 180, 0, 30, 28, 3, 84]
abbrev dktX3_whole_0 : List UInt8 := dkwX3_whole_0 ++ dktX3_whole_1
theorem dksX3_whole_0 : cX3_whole.data.toList.drop 0 = dktX3_whole_0 := by decide +kernel
theorem dksX3_whole_1 : cX3_whole.data.toList.drop 24 = dktX3_whole_1 := dk_seg dksX3_whole_0 24 rfl rfl
theorem dksX3_whole_2 : cX3_whole.data.toList.drop 47 = dktX3_whole_2 := dk_seg dksX3_whole_1 23 rfl rfl
theorem dksX3_whole_3 : cX3_whole.data.toList.drop 71 = dktX3_whole_3 := dk_seg dksX3_whole_2 24 rfl rfl
theorem dksX3_whole_4 : cX3_whole.data.toList.drop 95 = dktX3_whole_4 := dk_seg dksX3_whole_3 24 rfl rfl
theorem dksX3_whole_5 : cX3_whole.data.toList.drop 118 = dktX3_whole_5 := dk_seg dksX3_whole_4 23 rfl rfl
theorem dksX3_whole_6 : cX3_whole.data.toList.drop 142 = dktX3_whole_6 := dk_seg dksX3_whole_5 24 rfl rfl
theorem dksX3_whole_7 : cX3_whole.data.toList.drop 166 = dktX3_whole_7 := dk_seg dksX3_whole_6 24 rfl rfl
theorem dksX3_whole_8 : cX3_whole.data.toList.drop 190 = dktX3_whole_8 := dk_seg dksX3_whole_7 24 rfl rfl
theorem dksX3_whole_9 : cX3_whole.data.toList.drop 213 = dktX3_whole_9 := dk_seg dksX3_whole_8 23 rfl rfl
theorem dX3_whole_0 : decode cX3_whole 0 = .ok (.aload_n 0, 1) := dk_42 (dk_at dksX3_whole_0 0 rfl rfl)
theorem dX3_whole_1 : decode cX3_whole 1 = .ok (.iload_n 1, 1) := dk_27 (dk_at dksX3_whole_0 1 rfl rfl)
theorem dX3_whole_2 : decode cX3_whole 2 = .ok (.invokevirtual 173, 3) := dk_182 0 173 (dk_at dksX3_whole_0 2 rfl rfl)
theorem dX3_whole_5 : decode cX3_whole 5 = .ok (.pop, 1) := dk_87 (dk_at dksX3_whole_0 5 rfl rfl)
theorem dX3_whole_6 : decode cX3_whole 6 = .ok (.iconst 0, 1) := dk_3 (dk_at dksX3_whole_0 6 rfl rfl)
theorem dX3_whole_7 : decode cX3_whole 7 = .ok (.istore_n 2, 1) := dk_61 (dk_at dksX3_whole_0 7 rfl rfl)
theorem dX3_whole_8 : decode cX3_whole 8 = .ok (.iload_n 2, 1) := dk_28 (dk_at dksX3_whole_0 8 rfl rfl)
theorem dX3_whole_9 : decode cX3_whole 9 = .ok (.aload_n 0, 1) := dk_42 (dk_at dksX3_whole_0 9 rfl rfl)
theorem dX3_whole_10 : decode cX3_whole 10 = .ok (.getfield 30, 3) := dk_180 0 30 (dk_at dksX3_whole_0 10 rfl rfl)
theorem dX3_whole_13 : decode cX3_whole 13 = .ok (.arraylength, 1) := dk_190 (dk_at dksX3_whole_0 13 rfl rfl)
theorem dX3_whole_14 : decode cX3_whole 14 = .ok (.if_icmp .ge 23, 3) := dk_162 0 23 (dk_at dksX3_whole_0 14 rfl rfl)
theorem dX3_whole_17 : decode cX3_whole 17 = .ok (.aload_n 0, 1) := dk_42 (dk_at dksX3_whole_0 17 rfl rfl)
theorem dX3_whole_18 : decode cX3_whole 18 = .ok (.getfield 30, 3) := dk_180 0 30 (dk_at dksX3_whole_0 18 rfl rfl)
theorem dX3_whole_21 : decode cX3_whole 21 = .ok (.iload_n 2, 1) := dk_28 (dk_at dksX3_whole_0 21 rfl rfl)
theorem dX3_whole_22 : decode cX3_whole 22 = .ok (.iconst 0, 1) := dk_3 (dk_at dksX3_whole_0 22 rfl rfl)
theorem dX3_whole_23 : decode cX3_whole 23 = .ok (.bastore, 1) := dk_84 (dk_at dksX3_whole_0 23 rfl rfl)
theorem dX3_whole_24 : decode cX3_whole 24 = .ok (.aload_n 0, 1) := dk_42 (dk_at dksX3_whole_1 0 rfl rfl)
theorem dX3_whole_25 : decode cX3_whole 25 = .ok (.getfield 34, 3) := dk_180 0 34 (dk_at dksX3_whole_1 1 rfl rfl)
theorem dX3_whole_28 : decode cX3_whole 28 = .ok (.iload_n 2, 1) := dk_28 (dk_at dksX3_whole_1 4 rfl rfl)
theorem dX3_whole_29 : decode cX3_whole 29 = .ok (.iconst 0, 1) := dk_3 (dk_at dksX3_whole_1 5 rfl rfl)
theorem dX3_whole_30 : decode cX3_whole 30 = .ok (.bastore, 1) := dk_84 (dk_at dksX3_whole_1 6 rfl rfl)
theorem dX3_whole_31 : decode cX3_whole 31 = .ok (.iinc 2 1, 3) := dk_132 2 1 (dk_at dksX3_whole_1 7 rfl rfl)
theorem dX3_whole_34 : decode cX3_whole 34 = .ok (.goto (-26), 3) := dk_167 255 230 (dk_at dksX3_whole_1 10 rfl rfl)
theorem dX3_whole_37 : decode cX3_whole 37 = .ok (.iconst 0, 1) := dk_3 (dk_at dksX3_whole_1 13 rfl rfl)
theorem dX3_whole_38 : decode cX3_whole 38 = .ok (.istore_n 2, 1) := dk_61 (dk_at dksX3_whole_1 14 rfl rfl)
theorem dX3_whole_39 : decode cX3_whole 39 = .ok (.iload_n 2, 1) := dk_28 (dk_at dksX3_whole_1 15 rfl rfl)
theorem dX3_whole_40 : decode cX3_whole 40 = .ok (.aload_n 0, 1) := dk_42 (dk_at dksX3_whole_1 16 rfl rfl)
theorem dX3_whole_41 : decode cX3_whole 41 = .ok (.getfield 66, 3) := dk_180 0 66 (dk_at dksX3_whole_1 17 rfl rfl)
theorem dX3_whole_44 : decode cX3_whole 44 = .ok (.getfield 177, 3) := dk_180 0 177 (dk_at dksX3_whole_1 20 rfl rfl)
theorem dX3_whole_47 : decode cX3_whole 47 = .ok (.invokevirtual 73, 3) := dk_182 0 73 (dk_at dksX3_whole_2 0 rfl rfl)
theorem dX3_whole_50 : decode cX3_whole 50 = .ok (.if_icmp .ge 44, 3) := dk_162 0 44 (dk_at dksX3_whole_2 3 rfl rfl)
theorem dX3_whole_53 : decode cX3_whole 53 = .ok (.aload_n 0, 1) := dk_42 (dk_at dksX3_whole_2 6 rfl rfl)
theorem dX3_whole_54 : decode cX3_whole 54 = .ok (.getfield 66, 3) := dk_180 0 66 (dk_at dksX3_whole_2 7 rfl rfl)
theorem dX3_whole_57 : decode cX3_whole 57 = .ok (.getfield 177, 3) := dk_180 0 177 (dk_at dksX3_whole_2 10 rfl rfl)
theorem dX3_whole_60 : decode cX3_whole 60 = .ok (.iload_n 2, 1) := dk_28 (dk_at dksX3_whole_2 13 rfl rfl)
theorem dX3_whole_61 : decode cX3_whole 61 = .ok (.invokevirtual 78, 3) := dk_182 0 78 (dk_at dksX3_whole_2 14 rfl rfl)
theorem dX3_whole_64 : decode cX3_whole 64 = .ok (.instanceof 154, 3) := dk_193 0 154 (dk_at dksX3_whole_2 17 rfl rfl)
theorem dX3_whole_67 : decode cX3_whole 67 = .ok (.ifCond .eq 21, 3) := dk_153 0 21 (dk_at dksX3_whole_2 20 rfl rfl)
theorem dX3_whole_70 : decode cX3_whole 70 = .ok (.aload_n 0, 1) := dk_42 (dk_at dksX3_whole_2 23 rfl rfl)
theorem dX3_whole_71 : decode cX3_whole 71 = .ok (.aload_n 0, 1) := dk_42 (dk_at dksX3_whole_3 0 rfl rfl)
theorem dX3_whole_72 : decode cX3_whole 72 = .ok (.getfield 66, 3) := dk_180 0 66 (dk_at dksX3_whole_3 1 rfl rfl)
theorem dX3_whole_75 : decode cX3_whole 75 = .ok (.getfield 177, 3) := dk_180 0 177 (dk_at dksX3_whole_3 4 rfl rfl)
theorem dX3_whole_78 : decode cX3_whole 78 = .ok (.iload_n 2, 1) := dk_28 (dk_at dksX3_whole_3 7 rfl rfl)
theorem dX3_whole_79 : decode cX3_whole 79 = .ok (.invokevirtual 78, 3) := dk_182 0 78 (dk_at dksX3_whole_3 8 rfl rfl)
theorem dX3_whole_82 : decode cX3_whole 82 = .ok (.checkcast 154, 3) := dk_192 0 154 (dk_at dksX3_whole_3 11 rfl rfl)
theorem dX3_whole_85 : decode cX3_whole 85 = .ok (.invokevirtual 180, 3) := dk_182 0 180 (dk_at dksX3_whole_3 14 rfl rfl)
theorem dX3_whole_88 : decode cX3_whole 88 = .ok (.iinc 2 1, 3) := dk_132 2 1 (dk_at dksX3_whole_3 17 rfl rfl)
theorem dX3_whole_91 : decode cX3_whole 91 = .ok (.goto (-52), 3) := dk_167 255 204 (dk_at dksX3_whole_3 20 rfl rfl)
theorem dX3_whole_94 : decode cX3_whole 94 = .ok (.iconst 0, 1) := dk_3 (dk_at dksX3_whole_3 23 rfl rfl)
theorem dX3_whole_95 : decode cX3_whole 95 = .ok (.istore_n 2, 1) := dk_61 (dk_at dksX3_whole_4 0 rfl rfl)
theorem dX3_whole_96 : decode cX3_whole 96 = .ok (.iload_n 2, 1) := dk_28 (dk_at dksX3_whole_4 1 rfl rfl)
theorem dX3_whole_97 : decode cX3_whole 97 = .ok (.aload_n 0, 1) := dk_42 (dk_at dksX3_whole_4 2 rfl rfl)
theorem dX3_whole_98 : decode cX3_whole 98 = .ok (.getfield 3, 3) := dk_180 0 3 (dk_at dksX3_whole_4 3 rfl rfl)
theorem dX3_whole_101 : decode cX3_whole 101 = .ok (.getfield 184, 3) := dk_180 0 184 (dk_at dksX3_whole_4 6 rfl rfl)
theorem dX3_whole_104 : decode cX3_whole 104 = .ok (.invokevirtual 73, 3) := dk_182 0 73 (dk_at dksX3_whole_4 9 rfl rfl)
theorem dX3_whole_107 : decode cX3_whole 107 = .ok (.if_icmp .ge 97, 3) := dk_162 0 97 (dk_at dksX3_whole_4 12 rfl rfl)
theorem dX3_whole_110 : decode cX3_whole 110 = .ok (.aload_n 0, 1) := dk_42 (dk_at dksX3_whole_4 15 rfl rfl)
theorem dX3_whole_111 : decode cX3_whole 111 = .ok (.getfield 3, 3) := dk_180 0 3 (dk_at dksX3_whole_4 16 rfl rfl)
theorem dX3_whole_114 : decode cX3_whole 114 = .ok (.getfield 184, 3) := dk_180 0 184 (dk_at dksX3_whole_4 19 rfl rfl)
theorem dX3_whole_117 : decode cX3_whole 117 = .ok (.iload_n 2, 1) := dk_28 (dk_at dksX3_whole_4 22 rfl rfl)
theorem dX3_whole_118 : decode cX3_whole 118 = .ok (.invokevirtual 78, 3) := dk_182 0 78 (dk_at dksX3_whole_5 0 rfl rfl)
theorem dX3_whole_121 : decode cX3_whole 121 = .ok (.checkcast 187, 3) := dk_192 0 187 (dk_at dksX3_whole_5 3 rfl rfl)
theorem dX3_whole_124 : decode cX3_whole 124 = .ok (.astore_n 3, 1) := dk_78 (dk_at dksX3_whole_5 6 rfl rfl)
theorem dX3_whole_125 : decode cX3_whole 125 = .ok (.aload_n 3, 1) := dk_45 (dk_at dksX3_whole_5 7 rfl rfl)
theorem dX3_whole_126 : decode cX3_whole 126 = .ok (.iload_n 1, 1) := dk_27 (dk_at dksX3_whole_5 8 rfl rfl)
theorem dX3_whole_127 : decode cX3_whole 127 = .ok (.invokevirtual 189, 3) := dk_182 0 189 (dk_at dksX3_whole_5 9 rfl rfl)
theorem dX3_whole_130 : decode cX3_whole 130 = .ok (.ifCond .eq 68, 3) := dk_153 0 68 (dk_at dksX3_whole_5 12 rfl rfl)
theorem dX3_whole_133 : decode cX3_whole 133 = .ok (.aload_n 0, 1) := dk_42 (dk_at dksX3_whole_5 15 rfl rfl)
theorem dX3_whole_134 : decode cX3_whole 134 = .ok (.getfield 15, 3) := dk_180 0 15 (dk_at dksX3_whole_5 16 rfl rfl)
theorem dX3_whole_137 : decode cX3_whole 137 = .ok (.aload_n 3, 1) := dk_45 (dk_at dksX3_whole_5 19 rfl rfl)
theorem dX3_whole_138 : decode cX3_whole 138 = .ok (.getfield 190, 3) := dk_180 0 190 (dk_at dksX3_whole_5 20 rfl rfl)
theorem dX3_whole_141 : decode cX3_whole 141 = .ok (.iaload, 1) := dk_46 (dk_at dksX3_whole_5 23 rfl rfl)
theorem dX3_whole_142 : decode cX3_whole 142 = .ok (.aload_n 0, 1) := dk_42 (dk_at dksX3_whole_6 0 rfl rfl)
theorem dX3_whole_143 : decode cX3_whole 143 = .ok (.getfield 15, 3) := dk_180 0 15 (dk_at dksX3_whole_6 1 rfl rfl)
theorem dX3_whole_146 : decode cX3_whole 146 = .ok (.aload_n 3, 1) := dk_45 (dk_at dksX3_whole_6 4 rfl rfl)
theorem dX3_whole_147 : decode cX3_whole 147 = .ok (.getfield 193, 3) := dk_180 0 193 (dk_at dksX3_whole_6 5 rfl rfl)
theorem dX3_whole_150 : decode cX3_whole 150 = .ok (.iaload, 1) := dk_46 (dk_at dksX3_whole_6 8 rfl rfl)
theorem dX3_whole_151 : decode cX3_whole 151 = .ok (.if_icmp .eq 47, 3) := dk_159 0 47 (dk_at dksX3_whole_6 9 rfl rfl)
theorem dX3_whole_154 : decode cX3_whole 154 = .ok (.aload_n 0, 1) := dk_42 (dk_at dksX3_whole_6 12 rfl rfl)
theorem dX3_whole_155 : decode cX3_whole 155 = .ok (.aload_n 3, 1) := dk_45 (dk_at dksX3_whole_6 13 rfl rfl)
theorem dX3_whole_156 : decode cX3_whole 156 = .ok (.getfield 196, 3) := dk_180 0 196 (dk_at dksX3_whole_6 14 rfl rfl)
theorem dX3_whole_159 : decode cX3_whole 159 = .ok (.ifCond .eq 10, 3) := dk_153 0 10 (dk_at dksX3_whole_6 17 rfl rfl)
theorem dX3_whole_162 : decode cX3_whole 162 = .ok (.aload_n 0, 1) := dk_42 (dk_at dksX3_whole_6 20 rfl rfl)
theorem dX3_whole_163 : decode cX3_whole 163 = .ok (.getfield 30, 3) := dk_180 0 30 (dk_at dksX3_whole_6 21 rfl rfl)
theorem dX3_whole_166 : decode cX3_whole 166 = .ok (.goto 7, 3) := dk_167 0 7 (dk_at dksX3_whole_7 0 rfl rfl)
theorem dX3_whole_169 : decode cX3_whole 169 = .ok (.aload_n 0, 1) := dk_42 (dk_at dksX3_whole_7 3 rfl rfl)
theorem dX3_whole_170 : decode cX3_whole 170 = .ok (.getfield 34, 3) := dk_180 0 34 (dk_at dksX3_whole_7 4 rfl rfl)
theorem dX3_whole_173 : decode cX3_whole 173 = .ok (.aload_n 3, 1) := dk_45 (dk_at dksX3_whole_7 7 rfl rfl)
theorem dX3_whole_174 : decode cX3_whole 174 = .ok (.getfield 200, 3) := dk_180 0 200 (dk_at dksX3_whole_7 8 rfl rfl)
theorem dX3_whole_177 : decode cX3_whole 177 = .ok (.aload_n 0, 1) := dk_42 (dk_at dksX3_whole_7 11 rfl rfl)
theorem dX3_whole_178 : decode cX3_whole 178 = .ok (.getfield 15, 3) := dk_180 0 15 (dk_at dksX3_whole_7 12 rfl rfl)
theorem dX3_whole_181 : decode cX3_whole 181 = .ok (.aload_n 3, 1) := dk_45 (dk_at dksX3_whole_7 15 rfl rfl)
theorem dX3_whole_182 : decode cX3_whole 182 = .ok (.getfield 190, 3) := dk_180 0 190 (dk_at dksX3_whole_7 16 rfl rfl)
theorem dX3_whole_185 : decode cX3_whole 185 = .ok (.iaload, 1) := dk_46 (dk_at dksX3_whole_7 19 rfl rfl)
theorem dX3_whole_186 : decode cX3_whole 186 = .ok (.aload_n 0, 1) := dk_42 (dk_at dksX3_whole_7 20 rfl rfl)
theorem dX3_whole_187 : decode cX3_whole 187 = .ok (.getfield 15, 3) := dk_180 0 15 (dk_at dksX3_whole_7 21 rfl rfl)
theorem dX3_whole_190 : decode cX3_whole 190 = .ok (.aload_n 3, 1) := dk_45 (dk_at dksX3_whole_8 0 rfl rfl)
theorem dX3_whole_191 : decode cX3_whole 191 = .ok (.getfield 193, 3) := dk_180 0 193 (dk_at dksX3_whole_8 1 rfl rfl)
theorem dX3_whole_194 : decode cX3_whole 194 = .ok (.iaload, 1) := dk_46 (dk_at dksX3_whole_8 4 rfl rfl)
theorem dX3_whole_195 : decode cX3_whole 195 = .ok (.invokevirtual 169, 3) := dk_182 0 169 (dk_at dksX3_whole_8 5 rfl rfl)
theorem dX3_whole_198 : decode cX3_whole 198 = .ok (.iinc 2 1, 3) := dk_132 2 1 (dk_at dksX3_whole_8 8 rfl rfl)
theorem dX3_whole_201 : decode cX3_whole 201 = .ok (.goto (-105), 3) := dk_167 255 151 (dk_at dksX3_whole_8 11 rfl rfl)
theorem dX3_whole_204 : decode cX3_whole 204 = .ok (.iconst 0, 1) := dk_3 (dk_at dksX3_whole_8 14 rfl rfl)
theorem dX3_whole_205 : decode cX3_whole 205 = .ok (.istore_n 2, 1) := dk_61 (dk_at dksX3_whole_8 15 rfl rfl)
theorem dX3_whole_206 : decode cX3_whole 206 = .ok (.iload_n 2, 1) := dk_28 (dk_at dksX3_whole_8 16 rfl rfl)
theorem dX3_whole_207 : decode cX3_whole 207 = .ok (.iconst 2, 1) := dk_5 (dk_at dksX3_whole_8 17 rfl rfl)
theorem dX3_whole_208 : decode cX3_whole 208 = .ok (.if_icmp .ge 14, 3) := dk_162 0 14 (dk_at dksX3_whole_8 18 rfl rfl)
theorem dX3_whole_211 : decode cX3_whole 211 = .ok (.aload_n 0, 1) := dk_42 (dk_at dksX3_whole_8 21 rfl rfl)
theorem dX3_whole_212 : decode cX3_whole 212 = .ok (.iload_n 2, 1) := dk_28 (dk_at dksX3_whole_8 22 rfl rfl)
theorem dX3_whole_213 : decode cX3_whole 213 = .ok (.invokevirtual 201, 3) := dk_182 0 201 (dk_at dksX3_whole_9 0 rfl rfl)
theorem dX3_whole_216 : decode cX3_whole 216 = .ok (.iinc 2 1, 3) := dk_132 2 1 (dk_at dksX3_whole_9 3 rfl rfl)
theorem dX3_whole_219 : decode cX3_whole 219 = .ok (.goto (-13), 3) := dk_167 255 243 (dk_at dksX3_whole_9 6 rfl rfl)
theorem dX3_whole_222 : decode cX3_whole 222 = .ok (.aload_n 0, 1) := dk_42 (dk_at dksX3_whole_9 9 rfl rfl)
theorem dX3_whole_223 : decode cX3_whole 223 = .ok (.areturn, 1) := dk_176 (dk_at dksX3_whole_9 10 rfl rfl)
def dkwX3_links_8 : List UInt8 := [180, 0, 166, 28, 29, 182, 0, 169, 132, 3, 1, 167, 255, 215, 132, 2, 1, 167, 255, 199, 177]
abbrev dktX3_links_8 : List UInt8 := dkwX3_links_8 ++ []
def dkwX3_links_7 : List UInt8 := [42, 180, 0, 43, 16, 40, 28, 104, 29, 96, 46, 43, 180, 0, 163, 161, 0, 17, 42, 42, 180, 0, 30, 43]
abbrev dktX3_links_7 : List UInt8 := dkwX3_links_7 ++ dktX3_links_8
def dkwX3_links_6 : List UInt8 := [132, 2, 1, 167, 255, 136, 3, 61, 28, 16, 40, 162, 0, 57, 28, 4, 96, 62, 29, 16, 40, 162, 0, 41]
abbrev dktX3_links_6 : List UInt8 := dkwX3_links_6 ++ dktX3_links_7
def dkwX3_links_5 : List UInt8 := [180, 0, 24, 29, 50, 21, 4, 46, 184, 0, 143, 96, 92, 46, 4, 96, 79, 132, 3, 1, 167, 255, 154]
abbrev dktX3_links_5 : List UInt8 := dkwX3_links_5 ++ dktX3_links_6
def dkwX3_links_4 : List UInt8 := [42, 180, 0, 24, 29, 50, 21, 4, 46, 184, 0, 137, 104, 42, 180, 0, 24, 28, 50, 21, 4, 46, 42]
abbrev dktX3_links_4 : List UInt8 := dkwX3_links_4 ++ dktX3_links_5
def dkwX3_links_3 : List UInt8 := [182, 0, 153, 159, 0, 6, 167, 0, 58, 42, 180, 0, 43, 16, 40, 42, 180, 0, 24, 28, 50, 21, 4, 46]
abbrev dktX3_links_3 : List UInt8 := dkwX3_links_3 ++ dktX3_links_4
def dkwX3_links_2 : List UInt8 := [182, 0, 146, 54, 4, 21, 4, 3, 8, 184, 0, 149, 153, 0, 76, 21, 4, 43, 42, 180, 0, 27, 28, 46]
abbrev dktX3_links_2 : List UInt8 := dkwX3_links_2 ++ dktX3_links_3
def dkwX3_links_1 : List UInt8 := [28, 42, 180, 0, 90, 162, 0, 118, 28, 4, 96, 62, 29, 42, 180, 0, 90, 162, 0, 100, 42, 28, 29]
abbrev dktX3_links_1 : List UInt8 := dkwX3_links_1 ++ dktX3_links_2
def dkwX3_links_0 : List UInt8 := [3, 61, 28, 17, 6, 64, 162, 0, 16, 42, 180, 0, 43, 28, 3, 79, 132, 2, 1, 167, 255, 239, 3, 61]
abbrev dktX3_links_0 : List UInt8 := dkwX3_links_0 ++ dktX3_links_1
theorem dksX3_links_0 : cX3_links.data.toList.drop 0 = dktX3_links_0 := by decide +kernel
theorem dksX3_links_1 : cX3_links.data.toList.drop 24 = dktX3_links_1 := dk_seg dksX3_links_0 24 rfl rfl
theorem dksX3_links_2 : cX3_links.data.toList.drop 47 = dktX3_links_2 := dk_seg dksX3_links_1 23 rfl rfl
theorem dksX3_links_3 : cX3_links.data.toList.drop 71 = dktX3_links_3 := dk_seg dksX3_links_2 24 rfl rfl
theorem dksX3_links_4 : cX3_links.data.toList.drop 95 = dktX3_links_4 := dk_seg dksX3_links_3 24 rfl rfl
theorem dksX3_links_5 : cX3_links.data.toList.drop 118 = dktX3_links_5 := dk_seg dksX3_links_4 23 rfl rfl
theorem dksX3_links_6 : cX3_links.data.toList.drop 141 = dktX3_links_6 := dk_seg dksX3_links_5 23 rfl rfl
theorem dksX3_links_7 : cX3_links.data.toList.drop 165 = dktX3_links_7 := dk_seg dksX3_links_6 24 rfl rfl
theorem dksX3_links_8 : cX3_links.data.toList.drop 189 = dktX3_links_8 := dk_seg dksX3_links_7 24 rfl rfl
theorem dX3_links_0 : decode cX3_links 0 = .ok (.iconst 0, 1) := dk_3 (dk_at dksX3_links_0 0 rfl rfl)
theorem dX3_links_1 : decode cX3_links 1 = .ok (.istore_n 2, 1) := dk_61 (dk_at dksX3_links_0 1 rfl rfl)
theorem dX3_links_2 : decode cX3_links 2 = .ok (.iload_n 2, 1) := dk_28 (dk_at dksX3_links_0 2 rfl rfl)
theorem dX3_links_3 : decode cX3_links 3 = .ok (.sipush 1600, 3) := dk_17 6 64 (dk_at dksX3_links_0 3 rfl rfl)
theorem dX3_links_6 : decode cX3_links 6 = .ok (.if_icmp .ge 16, 3) := dk_162 0 16 (dk_at dksX3_links_0 6 rfl rfl)
theorem dX3_links_9 : decode cX3_links 9 = .ok (.aload_n 0, 1) := dk_42 (dk_at dksX3_links_0 9 rfl rfl)
theorem dX3_links_10 : decode cX3_links 10 = .ok (.getfield 43, 3) := dk_180 0 43 (dk_at dksX3_links_0 10 rfl rfl)
theorem dX3_links_13 : decode cX3_links 13 = .ok (.iload_n 2, 1) := dk_28 (dk_at dksX3_links_0 13 rfl rfl)
theorem dX3_links_14 : decode cX3_links 14 = .ok (.iconst 0, 1) := dk_3 (dk_at dksX3_links_0 14 rfl rfl)
theorem dX3_links_15 : decode cX3_links 15 = .ok (.iastore, 1) := dk_79 (dk_at dksX3_links_0 15 rfl rfl)
theorem dX3_links_16 : decode cX3_links 16 = .ok (.iinc 2 1, 3) := dk_132 2 1 (dk_at dksX3_links_0 16 rfl rfl)
theorem dX3_links_19 : decode cX3_links 19 = .ok (.goto (-17), 3) := dk_167 255 239 (dk_at dksX3_links_0 19 rfl rfl)
theorem dX3_links_22 : decode cX3_links 22 = .ok (.iconst 0, 1) := dk_3 (dk_at dksX3_links_0 22 rfl rfl)
theorem dX3_links_23 : decode cX3_links 23 = .ok (.istore_n 2, 1) := dk_61 (dk_at dksX3_links_0 23 rfl rfl)
theorem dX3_links_24 : decode cX3_links 24 = .ok (.iload_n 2, 1) := dk_28 (dk_at dksX3_links_1 0 rfl rfl)
theorem dX3_links_25 : decode cX3_links 25 = .ok (.aload_n 0, 1) := dk_42 (dk_at dksX3_links_1 1 rfl rfl)
theorem dX3_links_26 : decode cX3_links 26 = .ok (.getfield 90, 3) := dk_180 0 90 (dk_at dksX3_links_1 2 rfl rfl)
theorem dX3_links_29 : decode cX3_links 29 = .ok (.if_icmp .ge 118, 3) := dk_162 0 118 (dk_at dksX3_links_1 5 rfl rfl)
theorem dX3_links_32 : decode cX3_links 32 = .ok (.iload_n 2, 1) := dk_28 (dk_at dksX3_links_1 8 rfl rfl)
theorem dX3_links_33 : decode cX3_links 33 = .ok (.iconst 1, 1) := dk_4 (dk_at dksX3_links_1 9 rfl rfl)
theorem dX3_links_34 : decode cX3_links 34 = .ok (.iadd, 1) := dk_96 (dk_at dksX3_links_1 10 rfl rfl)
theorem dX3_links_35 : decode cX3_links 35 = .ok (.istore_n 3, 1) := dk_62 (dk_at dksX3_links_1 11 rfl rfl)
theorem dX3_links_36 : decode cX3_links 36 = .ok (.iload_n 3, 1) := dk_29 (dk_at dksX3_links_1 12 rfl rfl)
theorem dX3_links_37 : decode cX3_links 37 = .ok (.aload_n 0, 1) := dk_42 (dk_at dksX3_links_1 13 rfl rfl)
theorem dX3_links_38 : decode cX3_links 38 = .ok (.getfield 90, 3) := dk_180 0 90 (dk_at dksX3_links_1 14 rfl rfl)
theorem dX3_links_41 : decode cX3_links 41 = .ok (.if_icmp .ge 100, 3) := dk_162 0 100 (dk_at dksX3_links_1 17 rfl rfl)
theorem dX3_links_44 : decode cX3_links 44 = .ok (.aload_n 0, 1) := dk_42 (dk_at dksX3_links_1 20 rfl rfl)
theorem dX3_links_45 : decode cX3_links 45 = .ok (.iload_n 2, 1) := dk_28 (dk_at dksX3_links_1 21 rfl rfl)
theorem dX3_links_46 : decode cX3_links 46 = .ok (.iload_n 3, 1) := dk_29 (dk_at dksX3_links_1 22 rfl rfl)
theorem dX3_links_47 : decode cX3_links 47 = .ok (.invokevirtual 146, 3) := dk_182 0 146 (dk_at dksX3_links_2 0 rfl rfl)
theorem dX3_links_50 : decode cX3_links 50 = .ok (.istore 4, 2) := dk_54 4 (dk_at dksX3_links_2 3 rfl rfl)
theorem dX3_links_52 : decode cX3_links 52 = .ok (.iload 4, 2) := dk_21 4 (dk_at dksX3_links_2 5 rfl rfl)
theorem dX3_links_54 : decode cX3_links 54 = .ok (.iconst 0, 1) := dk_3 (dk_at dksX3_links_2 7 rfl rfl)
theorem dX3_links_55 : decode cX3_links 55 = .ok (.iconst 5, 1) := dk_8 (dk_at dksX3_links_2 8 rfl rfl)
theorem dX3_links_56 : decode cX3_links 56 = .ok (.invokestatic 149, 3) := dk_184 0 149 (dk_at dksX3_links_2 9 rfl rfl)
theorem dX3_links_59 : decode cX3_links 59 = .ok (.ifCond .eq 76, 3) := dk_153 0 76 (dk_at dksX3_links_2 12 rfl rfl)
theorem dX3_links_62 : decode cX3_links 62 = .ok (.iload 4, 2) := dk_21 4 (dk_at dksX3_links_2 15 rfl rfl)
theorem dX3_links_64 : decode cX3_links 64 = .ok (.aload_n 1, 1) := dk_43 (dk_at dksX3_links_2 17 rfl rfl)
theorem dX3_links_65 : decode cX3_links 65 = .ok (.aload_n 0, 1) := dk_42 (dk_at dksX3_links_2 18 rfl rfl)
theorem dX3_links_66 : decode cX3_links 66 = .ok (.getfield 27, 3) := dk_180 0 27 (dk_at dksX3_links_2 19 rfl rfl)
theorem dX3_links_69 : decode cX3_links 69 = .ok (.iload_n 2, 1) := dk_28 (dk_at dksX3_links_2 22 rfl rfl)
theorem dX3_links_70 : decode cX3_links 70 = .ok (.iaload, 1) := dk_46 (dk_at dksX3_links_2 23 rfl rfl)
theorem dX3_links_71 : decode cX3_links 71 = .ok (.invokevirtual 153, 3) := dk_182 0 153 (dk_at dksX3_links_3 0 rfl rfl)
theorem dX3_links_74 : decode cX3_links 74 = .ok (.if_icmp .eq 6, 3) := dk_159 0 6 (dk_at dksX3_links_3 3 rfl rfl)
theorem dX3_links_77 : decode cX3_links 77 = .ok (.goto 58, 3) := dk_167 0 58 (dk_at dksX3_links_3 6 rfl rfl)
theorem dX3_links_80 : decode cX3_links 80 = .ok (.aload_n 0, 1) := dk_42 (dk_at dksX3_links_3 9 rfl rfl)
theorem dX3_links_81 : decode cX3_links 81 = .ok (.getfield 43, 3) := dk_180 0 43 (dk_at dksX3_links_3 10 rfl rfl)
theorem dX3_links_84 : decode cX3_links 84 = .ok (.bipush 40, 2) := dk_16 40 (dk_at dksX3_links_3 13 rfl rfl)
theorem dX3_links_86 : decode cX3_links 86 = .ok (.aload_n 0, 1) := dk_42 (dk_at dksX3_links_3 15 rfl rfl)
theorem dX3_links_87 : decode cX3_links 87 = .ok (.getfield 24, 3) := dk_180 0 24 (dk_at dksX3_links_3 16 rfl rfl)
theorem dX3_links_90 : decode cX3_links 90 = .ok (.iload_n 2, 1) := dk_28 (dk_at dksX3_links_3 19 rfl rfl)
theorem dX3_links_91 : decode cX3_links 91 = .ok (.aaload, 1) := dk_50 (dk_at dksX3_links_3 20 rfl rfl)
theorem dX3_links_92 : decode cX3_links 92 = .ok (.iload 4, 2) := dk_21 4 (dk_at dksX3_links_3 21 rfl rfl)
theorem dX3_links_94 : decode cX3_links 94 = .ok (.iaload, 1) := dk_46 (dk_at dksX3_links_3 23 rfl rfl)
theorem dX3_links_95 : decode cX3_links 95 = .ok (.aload_n 0, 1) := dk_42 (dk_at dksX3_links_4 0 rfl rfl)
theorem dX3_links_96 : decode cX3_links 96 = .ok (.getfield 24, 3) := dk_180 0 24 (dk_at dksX3_links_4 1 rfl rfl)
theorem dX3_links_99 : decode cX3_links 99 = .ok (.iload_n 3, 1) := dk_29 (dk_at dksX3_links_4 4 rfl rfl)
theorem dX3_links_100 : decode cX3_links 100 = .ok (.aaload, 1) := dk_50 (dk_at dksX3_links_4 5 rfl rfl)
theorem dX3_links_101 : decode cX3_links 101 = .ok (.iload 4, 2) := dk_21 4 (dk_at dksX3_links_4 6 rfl rfl)
theorem dX3_links_103 : decode cX3_links 103 = .ok (.iaload, 1) := dk_46 (dk_at dksX3_links_4 8 rfl rfl)
theorem dX3_links_104 : decode cX3_links 104 = .ok (.invokestatic 137, 3) := dk_184 0 137 (dk_at dksX3_links_4 9 rfl rfl)
theorem dX3_links_107 : decode cX3_links 107 = .ok (.imul, 1) := dk_104 (dk_at dksX3_links_4 12 rfl rfl)
theorem dX3_links_108 : decode cX3_links 108 = .ok (.aload_n 0, 1) := dk_42 (dk_at dksX3_links_4 13 rfl rfl)
theorem dX3_links_109 : decode cX3_links 109 = .ok (.getfield 24, 3) := dk_180 0 24 (dk_at dksX3_links_4 14 rfl rfl)
theorem dX3_links_112 : decode cX3_links 112 = .ok (.iload_n 2, 1) := dk_28 (dk_at dksX3_links_4 17 rfl rfl)
theorem dX3_links_113 : decode cX3_links 113 = .ok (.aaload, 1) := dk_50 (dk_at dksX3_links_4 18 rfl rfl)
theorem dX3_links_114 : decode cX3_links 114 = .ok (.iload 4, 2) := dk_21 4 (dk_at dksX3_links_4 19 rfl rfl)
theorem dX3_links_116 : decode cX3_links 116 = .ok (.iaload, 1) := dk_46 (dk_at dksX3_links_4 21 rfl rfl)
theorem dX3_links_117 : decode cX3_links 117 = .ok (.aload_n 0, 1) := dk_42 (dk_at dksX3_links_4 22 rfl rfl)
theorem dX3_links_118 : decode cX3_links 118 = .ok (.getfield 24, 3) := dk_180 0 24 (dk_at dksX3_links_5 0 rfl rfl)
theorem dX3_links_121 : decode cX3_links 121 = .ok (.iload_n 3, 1) := dk_29 (dk_at dksX3_links_5 3 rfl rfl)
theorem dX3_links_122 : decode cX3_links 122 = .ok (.aaload, 1) := dk_50 (dk_at dksX3_links_5 4 rfl rfl)
theorem dX3_links_123 : decode cX3_links 123 = .ok (.iload 4, 2) := dk_21 4 (dk_at dksX3_links_5 5 rfl rfl)
theorem dX3_links_125 : decode cX3_links 125 = .ok (.iaload, 1) := dk_46 (dk_at dksX3_links_5 7 rfl rfl)
theorem dX3_links_126 : decode cX3_links 126 = .ok (.invokestatic 143, 3) := dk_184 0 143 (dk_at dksX3_links_5 8 rfl rfl)
theorem dX3_links_129 : decode cX3_links 129 = .ok (.iadd, 1) := dk_96 (dk_at dksX3_links_5 11 rfl rfl)
theorem dX3_links_130 : decode cX3_links 130 = .ok (.dup2, 1) := dk_92 (dk_at dksX3_links_5 12 rfl rfl)
theorem dX3_links_131 : decode cX3_links 131 = .ok (.iaload, 1) := dk_46 (dk_at dksX3_links_5 13 rfl rfl)
theorem dX3_links_132 : decode cX3_links 132 = .ok (.iconst 1, 1) := dk_4 (dk_at dksX3_links_5 14 rfl rfl)
theorem dX3_links_133 : decode cX3_links 133 = .ok (.iadd, 1) := dk_96 (dk_at dksX3_links_5 15 rfl rfl)
theorem dX3_links_134 : decode cX3_links 134 = .ok (.iastore, 1) := dk_79 (dk_at dksX3_links_5 16 rfl rfl)
theorem dX3_links_135 : decode cX3_links 135 = .ok (.iinc 3 1, 3) := dk_132 3 1 (dk_at dksX3_links_5 17 rfl rfl)
theorem dX3_links_138 : decode cX3_links 138 = .ok (.goto (-102), 3) := dk_167 255 154 (dk_at dksX3_links_5 20 rfl rfl)
theorem dX3_links_141 : decode cX3_links 141 = .ok (.iinc 2 1, 3) := dk_132 2 1 (dk_at dksX3_links_6 0 rfl rfl)
theorem dX3_links_144 : decode cX3_links 144 = .ok (.goto (-120), 3) := dk_167 255 136 (dk_at dksX3_links_6 3 rfl rfl)
theorem dX3_links_147 : decode cX3_links 147 = .ok (.iconst 0, 1) := dk_3 (dk_at dksX3_links_6 6 rfl rfl)
theorem dX3_links_148 : decode cX3_links 148 = .ok (.istore_n 2, 1) := dk_61 (dk_at dksX3_links_6 7 rfl rfl)
theorem dX3_links_149 : decode cX3_links 149 = .ok (.iload_n 2, 1) := dk_28 (dk_at dksX3_links_6 8 rfl rfl)
theorem dX3_links_150 : decode cX3_links 150 = .ok (.bipush 40, 2) := dk_16 40 (dk_at dksX3_links_6 9 rfl rfl)
theorem dX3_links_152 : decode cX3_links 152 = .ok (.if_icmp .ge 57, 3) := dk_162 0 57 (dk_at dksX3_links_6 11 rfl rfl)
theorem dX3_links_155 : decode cX3_links 155 = .ok (.iload_n 2, 1) := dk_28 (dk_at dksX3_links_6 14 rfl rfl)
theorem dX3_links_156 : decode cX3_links 156 = .ok (.iconst 1, 1) := dk_4 (dk_at dksX3_links_6 15 rfl rfl)
theorem dX3_links_157 : decode cX3_links 157 = .ok (.iadd, 1) := dk_96 (dk_at dksX3_links_6 16 rfl rfl)
theorem dX3_links_158 : decode cX3_links 158 = .ok (.istore_n 3, 1) := dk_62 (dk_at dksX3_links_6 17 rfl rfl)
theorem dX3_links_159 : decode cX3_links 159 = .ok (.iload_n 3, 1) := dk_29 (dk_at dksX3_links_6 18 rfl rfl)
theorem dX3_links_160 : decode cX3_links 160 = .ok (.bipush 40, 2) := dk_16 40 (dk_at dksX3_links_6 19 rfl rfl)
theorem dX3_links_162 : decode cX3_links 162 = .ok (.if_icmp .ge 41, 3) := dk_162 0 41 (dk_at dksX3_links_6 21 rfl rfl)
theorem dX3_links_165 : decode cX3_links 165 = .ok (.aload_n 0, 1) := dk_42 (dk_at dksX3_links_7 0 rfl rfl)
theorem dX3_links_166 : decode cX3_links 166 = .ok (.getfield 43, 3) := dk_180 0 43 (dk_at dksX3_links_7 1 rfl rfl)
theorem dX3_links_169 : decode cX3_links 169 = .ok (.bipush 40, 2) := dk_16 40 (dk_at dksX3_links_7 4 rfl rfl)
theorem dX3_links_171 : decode cX3_links 171 = .ok (.iload_n 2, 1) := dk_28 (dk_at dksX3_links_7 6 rfl rfl)
theorem dX3_links_172 : decode cX3_links 172 = .ok (.imul, 1) := dk_104 (dk_at dksX3_links_7 7 rfl rfl)
theorem dX3_links_173 : decode cX3_links 173 = .ok (.iload_n 3, 1) := dk_29 (dk_at dksX3_links_7 8 rfl rfl)
theorem dX3_links_174 : decode cX3_links 174 = .ok (.iadd, 1) := dk_96 (dk_at dksX3_links_7 9 rfl rfl)
theorem dX3_links_175 : decode cX3_links 175 = .ok (.iaload, 1) := dk_46 (dk_at dksX3_links_7 10 rfl rfl)
theorem dX3_links_176 : decode cX3_links 176 = .ok (.aload_n 1, 1) := dk_43 (dk_at dksX3_links_7 11 rfl rfl)
theorem dX3_links_177 : decode cX3_links 177 = .ok (.getfield 163, 3) := dk_180 0 163 (dk_at dksX3_links_7 12 rfl rfl)
theorem dX3_links_180 : decode cX3_links 180 = .ok (.if_icmp .lt 17, 3) := dk_161 0 17 (dk_at dksX3_links_7 15 rfl rfl)
theorem dX3_links_183 : decode cX3_links 183 = .ok (.aload_n 0, 1) := dk_42 (dk_at dksX3_links_7 18 rfl rfl)
theorem dX3_links_184 : decode cX3_links 184 = .ok (.aload_n 0, 1) := dk_42 (dk_at dksX3_links_7 19 rfl rfl)
theorem dX3_links_185 : decode cX3_links 185 = .ok (.getfield 30, 3) := dk_180 0 30 (dk_at dksX3_links_7 20 rfl rfl)
theorem dX3_links_188 : decode cX3_links 188 = .ok (.aload_n 1, 1) := dk_43 (dk_at dksX3_links_7 23 rfl rfl)
theorem dX3_links_189 : decode cX3_links 189 = .ok (.getfield 166, 3) := dk_180 0 166 (dk_at dksX3_links_8 0 rfl rfl)
theorem dX3_links_192 : decode cX3_links 192 = .ok (.iload_n 2, 1) := dk_28 (dk_at dksX3_links_8 3 rfl rfl)
theorem dX3_links_193 : decode cX3_links 193 = .ok (.iload_n 3, 1) := dk_29 (dk_at dksX3_links_8 4 rfl rfl)
theorem dX3_links_194 : decode cX3_links 194 = .ok (.invokevirtual 169, 3) := dk_182 0 169 (dk_at dksX3_links_8 5 rfl rfl)
theorem dX3_links_197 : decode cX3_links 197 = .ok (.iinc 3 1, 3) := dk_132 3 1 (dk_at dksX3_links_8 8 rfl rfl)
theorem dX3_links_200 : decode cX3_links 200 = .ok (.goto (-41), 3) := dk_167 255 215 (dk_at dksX3_links_8 11 rfl rfl)
theorem dX3_links_203 : decode cX3_links 203 = .ok (.iinc 2 1, 3) := dk_132 2 1 (dk_at dksX3_links_8 14 rfl rfl)
theorem dX3_links_206 : decode cX3_links 206 = .ok (.goto (-57), 3) := dk_167 255 199 (dk_at dksX3_links_8 17 rfl rfl)
theorem dX3_links_209 : decode cX3_links 209 = .ok (.return_, 1) := dk_177 (dk_at dksX3_links_8 20 rfl rfl)
def dkwX3_puts_0 : List UInt8 := [43, 42, 28, 29, 21, 4, 182, 0, 159, 4, 84, 43, 42, 28, 21, 4, 29, 182, 0, 159, 4, 84, 177]
abbrev dktX3_puts_0 : List UInt8 := dkwX3_puts_0 ++ []
theorem dksX3_puts_0 : cX3_puts.data.toList.drop 0 = dktX3_puts_0 := by decide +kernel
theorem dX3_puts_0 : decode cX3_puts 0 = .ok (.aload_n 1, 1) := dk_43 (dk_at dksX3_puts_0 0 rfl rfl)
theorem dX3_puts_1 : decode cX3_puts 1 = .ok (.aload_n 0, 1) := dk_42 (dk_at dksX3_puts_0 1 rfl rfl)
theorem dX3_puts_2 : decode cX3_puts 2 = .ok (.iload_n 2, 1) := dk_28 (dk_at dksX3_puts_0 2 rfl rfl)
theorem dX3_puts_3 : decode cX3_puts 3 = .ok (.iload_n 3, 1) := dk_29 (dk_at dksX3_puts_0 3 rfl rfl)
theorem dX3_puts_4 : decode cX3_puts 4 = .ok (.iload 4, 2) := dk_21 4 (dk_at dksX3_puts_0 4 rfl rfl)
theorem dX3_puts_6 : decode cX3_puts 6 = .ok (.invokevirtual 159, 3) := dk_182 0 159 (dk_at dksX3_puts_0 6 rfl rfl)
theorem dX3_puts_9 : decode cX3_puts 9 = .ok (.iconst 1, 1) := dk_4 (dk_at dksX3_puts_0 9 rfl rfl)
theorem dX3_puts_10 : decode cX3_puts 10 = .ok (.bastore, 1) := dk_84 (dk_at dksX3_puts_0 10 rfl rfl)
theorem dX3_puts_11 : decode cX3_puts 11 = .ok (.aload_n 1, 1) := dk_43 (dk_at dksX3_puts_0 11 rfl rfl)
theorem dX3_puts_12 : decode cX3_puts 12 = .ok (.aload_n 0, 1) := dk_42 (dk_at dksX3_puts_0 12 rfl rfl)
theorem dX3_puts_13 : decode cX3_puts 13 = .ok (.iload_n 2, 1) := dk_28 (dk_at dksX3_puts_0 13 rfl rfl)
theorem dX3_puts_14 : decode cX3_puts 14 = .ok (.iload 4, 2) := dk_21 4 (dk_at dksX3_puts_0 14 rfl rfl)
theorem dX3_puts_16 : decode cX3_puts 16 = .ok (.iload_n 3, 1) := dk_29 (dk_at dksX3_puts_0 16 rfl rfl)
theorem dX3_puts_17 : decode cX3_puts 17 = .ok (.invokevirtual 159, 3) := dk_182 0 159 (dk_at dksX3_puts_0 17 rfl rfl)
theorem dX3_puts_20 : decode cX3_puts 20 = .ok (.iconst 1, 1) := dk_4 (dk_at dksX3_puts_0 20 rfl rfl)
theorem dX3_puts_21 : decode cX3_puts 21 = .ok (.bastore, 1) := dk_84 (dk_at dksX3_puts_0 21 rfl rfl)
theorem dX3_puts_22 : decode cX3_puts 22 = .ok (.return_, 1) := dk_177 (dk_at dksX3_puts_0 22 rfl rfl)
def dkwX3_at_0 : List UInt8 := [16, 40, 16, 40, 27, 104, 28, 96, 104, 29, 96, 172]
abbrev dktX3_at_0 : List UInt8 := dkwX3_at_0 ++ []
theorem dksX3_at_0 : cX3_at.data.toList.drop 0 = dktX3_at_0 := by decide +kernel
theorem dX3_at_0 : decode cX3_at 0 = .ok (.bipush 40, 2) := dk_16 40 (dk_at dksX3_at_0 0 rfl rfl)
theorem dX3_at_2 : decode cX3_at 2 = .ok (.bipush 40, 2) := dk_16 40 (dk_at dksX3_at_0 2 rfl rfl)
theorem dX3_at_4 : decode cX3_at 4 = .ok (.iload_n 1, 1) := dk_27 (dk_at dksX3_at_0 4 rfl rfl)
theorem dX3_at_5 : decode cX3_at 5 = .ok (.imul, 1) := dk_104 (dk_at dksX3_at_0 5 rfl rfl)
theorem dX3_at_6 : decode cX3_at 6 = .ok (.iload_n 2, 1) := dk_28 (dk_at dksX3_at_0 6 rfl rfl)
theorem dX3_at_7 : decode cX3_at 7 = .ok (.iadd, 1) := dk_96 (dk_at dksX3_at_0 7 rfl rfl)
theorem dX3_at_8 : decode cX3_at 8 = .ok (.imul, 1) := dk_104 (dk_at dksX3_at_0 8 rfl rfl)
theorem dX3_at_9 : decode cX3_at 9 = .ok (.iload_n 3, 1) := dk_29 (dk_at dksX3_at_0 9 rfl rfl)
theorem dX3_at_10 : decode cX3_at 10 = .ok (.iadd, 1) := dk_96 (dk_at dksX3_at_0 10 rfl rfl)
theorem dX3_at_11 : decode cX3_at 11 = .ok (.ireturn, 1) := dk_172 (dk_at dksX3_at_0 11 rfl rfl)
def dkwX3_classes_4 : List UInt8 := [177]
abbrev dktX3_classes_4 : List UInt8 := dkwX3_classes_4 ++ []
def dkwX3_classes_3 : List UInt8 := [132, 2, 1, 167, 255, 206, 42, 180, 0, 46, 3, 42, 180, 0, 40, 16, 40, 27, 104, 16, 40, 184, 0, 204]
abbrev dktX3_classes_3 : List UInt8 := dkwX3_classes_3 ++ dktX3_classes_4
def dkwX3_classes_2 : List UInt8 := [182, 0, 159, 51, 153, 0, 13, 42, 42, 180, 0, 46, 28, 29, 182, 0, 133, 132, 3, 1, 167, 255, 222]
abbrev dktX3_classes_2 : List UInt8 := dkwX3_classes_2 ++ dktX3_classes_3
def dkwX3_classes_1 : List UInt8 := [16, 40, 162, 0, 50, 28, 4, 96, 62, 29, 16, 40, 162, 0, 34, 42, 180, 0, 30, 42, 27, 28, 29]
abbrev dktX3_classes_1 : List UInt8 := dkwX3_classes_1 ++ dktX3_classes_2
def dkwX3_classes_0 : List UInt8 := [3, 61, 28, 16, 40, 162, 0, 16, 42, 180, 0, 46, 28, 28, 79, 132, 2, 1, 167, 255, 240, 3, 61, 28]
abbrev dktX3_classes_0 : List UInt8 := dkwX3_classes_0 ++ dktX3_classes_1
theorem dksX3_classes_0 : cX3_classes.data.toList.drop 0 = dktX3_classes_0 := by decide +kernel
theorem dksX3_classes_1 : cX3_classes.data.toList.drop 24 = dktX3_classes_1 := dk_seg dksX3_classes_0 24 rfl rfl
theorem dksX3_classes_2 : cX3_classes.data.toList.drop 47 = dktX3_classes_2 := dk_seg dksX3_classes_1 23 rfl rfl
theorem dksX3_classes_3 : cX3_classes.data.toList.drop 70 = dktX3_classes_3 := dk_seg dksX3_classes_2 23 rfl rfl
theorem dksX3_classes_4 : cX3_classes.data.toList.drop 94 = dktX3_classes_4 := dk_seg dksX3_classes_3 24 rfl rfl
theorem dX3_classes_0 : decode cX3_classes 0 = .ok (.iconst 0, 1) := dk_3 (dk_at dksX3_classes_0 0 rfl rfl)
theorem dX3_classes_1 : decode cX3_classes 1 = .ok (.istore_n 2, 1) := dk_61 (dk_at dksX3_classes_0 1 rfl rfl)
theorem dX3_classes_2 : decode cX3_classes 2 = .ok (.iload_n 2, 1) := dk_28 (dk_at dksX3_classes_0 2 rfl rfl)
theorem dX3_classes_3 : decode cX3_classes 3 = .ok (.bipush 40, 2) := dk_16 40 (dk_at dksX3_classes_0 3 rfl rfl)
theorem dX3_classes_5 : decode cX3_classes 5 = .ok (.if_icmp .ge 16, 3) := dk_162 0 16 (dk_at dksX3_classes_0 5 rfl rfl)
theorem dX3_classes_8 : decode cX3_classes 8 = .ok (.aload_n 0, 1) := dk_42 (dk_at dksX3_classes_0 8 rfl rfl)
theorem dX3_classes_9 : decode cX3_classes 9 = .ok (.getfield 46, 3) := dk_180 0 46 (dk_at dksX3_classes_0 9 rfl rfl)
theorem dX3_classes_12 : decode cX3_classes 12 = .ok (.iload_n 2, 1) := dk_28 (dk_at dksX3_classes_0 12 rfl rfl)
theorem dX3_classes_13 : decode cX3_classes 13 = .ok (.iload_n 2, 1) := dk_28 (dk_at dksX3_classes_0 13 rfl rfl)
theorem dX3_classes_14 : decode cX3_classes 14 = .ok (.iastore, 1) := dk_79 (dk_at dksX3_classes_0 14 rfl rfl)
theorem dX3_classes_15 : decode cX3_classes 15 = .ok (.iinc 2 1, 3) := dk_132 2 1 (dk_at dksX3_classes_0 15 rfl rfl)
theorem dX3_classes_18 : decode cX3_classes 18 = .ok (.goto (-16), 3) := dk_167 255 240 (dk_at dksX3_classes_0 18 rfl rfl)
theorem dX3_classes_21 : decode cX3_classes 21 = .ok (.iconst 0, 1) := dk_3 (dk_at dksX3_classes_0 21 rfl rfl)
theorem dX3_classes_22 : decode cX3_classes 22 = .ok (.istore_n 2, 1) := dk_61 (dk_at dksX3_classes_0 22 rfl rfl)
theorem dX3_classes_23 : decode cX3_classes 23 = .ok (.iload_n 2, 1) := dk_28 (dk_at dksX3_classes_0 23 rfl rfl)
theorem dX3_classes_24 : decode cX3_classes 24 = .ok (.bipush 40, 2) := dk_16 40 (dk_at dksX3_classes_1 0 rfl rfl)
theorem dX3_classes_26 : decode cX3_classes 26 = .ok (.if_icmp .ge 50, 3) := dk_162 0 50 (dk_at dksX3_classes_1 2 rfl rfl)
theorem dX3_classes_29 : decode cX3_classes 29 = .ok (.iload_n 2, 1) := dk_28 (dk_at dksX3_classes_1 5 rfl rfl)
theorem dX3_classes_30 : decode cX3_classes 30 = .ok (.iconst 1, 1) := dk_4 (dk_at dksX3_classes_1 6 rfl rfl)
theorem dX3_classes_31 : decode cX3_classes 31 = .ok (.iadd, 1) := dk_96 (dk_at dksX3_classes_1 7 rfl rfl)
theorem dX3_classes_32 : decode cX3_classes 32 = .ok (.istore_n 3, 1) := dk_62 (dk_at dksX3_classes_1 8 rfl rfl)
theorem dX3_classes_33 : decode cX3_classes 33 = .ok (.iload_n 3, 1) := dk_29 (dk_at dksX3_classes_1 9 rfl rfl)
theorem dX3_classes_34 : decode cX3_classes 34 = .ok (.bipush 40, 2) := dk_16 40 (dk_at dksX3_classes_1 10 rfl rfl)
theorem dX3_classes_36 : decode cX3_classes 36 = .ok (.if_icmp .ge 34, 3) := dk_162 0 34 (dk_at dksX3_classes_1 12 rfl rfl)
theorem dX3_classes_39 : decode cX3_classes 39 = .ok (.aload_n 0, 1) := dk_42 (dk_at dksX3_classes_1 15 rfl rfl)
theorem dX3_classes_40 : decode cX3_classes 40 = .ok (.getfield 30, 3) := dk_180 0 30 (dk_at dksX3_classes_1 16 rfl rfl)
theorem dX3_classes_43 : decode cX3_classes 43 = .ok (.aload_n 0, 1) := dk_42 (dk_at dksX3_classes_1 19 rfl rfl)
theorem dX3_classes_44 : decode cX3_classes 44 = .ok (.iload_n 1, 1) := dk_27 (dk_at dksX3_classes_1 20 rfl rfl)
theorem dX3_classes_45 : decode cX3_classes 45 = .ok (.iload_n 2, 1) := dk_28 (dk_at dksX3_classes_1 21 rfl rfl)
theorem dX3_classes_46 : decode cX3_classes 46 = .ok (.iload_n 3, 1) := dk_29 (dk_at dksX3_classes_1 22 rfl rfl)
theorem dX3_classes_47 : decode cX3_classes 47 = .ok (.invokevirtual 159, 3) := dk_182 0 159 (dk_at dksX3_classes_2 0 rfl rfl)
theorem dX3_classes_50 : decode cX3_classes 50 = .ok (.baload, 1) := dk_51 (dk_at dksX3_classes_2 3 rfl rfl)
theorem dX3_classes_51 : decode cX3_classes 51 = .ok (.ifCond .eq 13, 3) := dk_153 0 13 (dk_at dksX3_classes_2 4 rfl rfl)
theorem dX3_classes_54 : decode cX3_classes 54 = .ok (.aload_n 0, 1) := dk_42 (dk_at dksX3_classes_2 7 rfl rfl)
theorem dX3_classes_55 : decode cX3_classes 55 = .ok (.aload_n 0, 1) := dk_42 (dk_at dksX3_classes_2 8 rfl rfl)
theorem dX3_classes_56 : decode cX3_classes 56 = .ok (.getfield 46, 3) := dk_180 0 46 (dk_at dksX3_classes_2 9 rfl rfl)
theorem dX3_classes_59 : decode cX3_classes 59 = .ok (.iload_n 2, 1) := dk_28 (dk_at dksX3_classes_2 12 rfl rfl)
theorem dX3_classes_60 : decode cX3_classes 60 = .ok (.iload_n 3, 1) := dk_29 (dk_at dksX3_classes_2 13 rfl rfl)
theorem dX3_classes_61 : decode cX3_classes 61 = .ok (.invokevirtual 133, 3) := dk_182 0 133 (dk_at dksX3_classes_2 14 rfl rfl)
theorem dX3_classes_64 : decode cX3_classes 64 = .ok (.iinc 3 1, 3) := dk_132 3 1 (dk_at dksX3_classes_2 17 rfl rfl)
theorem dX3_classes_67 : decode cX3_classes 67 = .ok (.goto (-34), 3) := dk_167 255 222 (dk_at dksX3_classes_2 20 rfl rfl)
theorem dX3_classes_70 : decode cX3_classes 70 = .ok (.iinc 2 1, 3) := dk_132 2 1 (dk_at dksX3_classes_3 0 rfl rfl)
theorem dX3_classes_73 : decode cX3_classes 73 = .ok (.goto (-50), 3) := dk_167 255 206 (dk_at dksX3_classes_3 3 rfl rfl)
theorem dX3_classes_76 : decode cX3_classes 76 = .ok (.aload_n 0, 1) := dk_42 (dk_at dksX3_classes_3 6 rfl rfl)
theorem dX3_classes_77 : decode cX3_classes 77 = .ok (.getfield 46, 3) := dk_180 0 46 (dk_at dksX3_classes_3 7 rfl rfl)
theorem dX3_classes_80 : decode cX3_classes 80 = .ok (.iconst 0, 1) := dk_3 (dk_at dksX3_classes_3 10 rfl rfl)
theorem dX3_classes_81 : decode cX3_classes 81 = .ok (.aload_n 0, 1) := dk_42 (dk_at dksX3_classes_3 11 rfl rfl)
theorem dX3_classes_82 : decode cX3_classes 82 = .ok (.getfield 40, 3) := dk_180 0 40 (dk_at dksX3_classes_3 12 rfl rfl)
theorem dX3_classes_85 : decode cX3_classes 85 = .ok (.bipush 40, 2) := dk_16 40 (dk_at dksX3_classes_3 15 rfl rfl)
theorem dX3_classes_87 : decode cX3_classes 87 = .ok (.iload_n 1, 1) := dk_27 (dk_at dksX3_classes_3 17 rfl rfl)
theorem dX3_classes_88 : decode cX3_classes 88 = .ok (.imul, 1) := dk_104 (dk_at dksX3_classes_3 18 rfl rfl)
theorem dX3_classes_89 : decode cX3_classes 89 = .ok (.bipush 40, 2) := dk_16 40 (dk_at dksX3_classes_3 19 rfl rfl)
theorem dX3_classes_91 : decode cX3_classes 91 = .ok (.invokestatic 204, 3) := dk_184 0 204 (dk_at dksX3_classes_3 21 rfl rfl)
theorem dX3_classes_94 : decode cX3_classes 94 = .ok (.return_, 1) := dk_177 (dk_at dksX3_classes_4 0 rfl rfl)
def dkwX3_clashes_7 : List UInt8 := [172]
abbrev dktX3_clashes_7 : List UInt8 := dkwX3_clashes_7 ++ []
def dkwX3_clashes_6 : List UInt8 := [167, 255, 136, 132, 1, 1, 167, 255, 120, 42, 180, 0, 213, 17, 3, 232, 162, 0, 7, 4, 167, 0, 4, 3]
abbrev dktX3_clashes_6 : List UInt8 := dkwX3_clashes_6 ++ dktX3_clashes_7
def dkwX3_clashes_5 : List UInt8 := [180, 0, 37, 42, 21, 4, 27, 28, 182, 0, 159, 46, 182, 0, 216, 132, 4, 1, 167, 255, 194, 132, 2, 1]
abbrev dktX3_clashes_5 : List UInt8 := dkwX3_clashes_5 ++ dktX3_clashes_6
def dkwX3_clashes_4 : List UInt8 := [42, 21, 4, 27, 28, 182, 0, 159, 46, 42, 180, 0, 213, 162, 0, 25, 42, 27, 28, 5, 21, 4, 42]
abbrev dktX3_clashes_4 : List UInt8 := dkwX3_clashes_4 ++ dktX3_clashes_5
def dkwX3_clashes_3 : List UInt8 := [3, 54, 4, 21, 4, 5, 162, 0, 62, 42, 21, 4, 27, 28, 182, 0, 220, 153, 0, 45, 42, 180, 0, 37]
abbrev dktX3_clashes_3 : List UInt8 := dkwX3_clashes_3 ++ dktX3_clashes_4
def dkwX3_clashes_2 : List UInt8 := [28, 182, 0, 159, 46, 96, 62, 29, 42, 180, 0, 213, 162, 0, 12, 42, 27, 28, 4, 3, 29, 182, 0, 216]
abbrev dktX3_clashes_2 : List UInt8 := dkwX3_clashes_2 ++ dktX3_clashes_3
def dkwX3_clashes_1 : List UInt8 := [16, 40, 162, 0, 120, 42, 180, 0, 37, 42, 3, 27, 28, 182, 0, 159, 46, 42, 180, 0, 37, 42, 4, 27]
abbrev dktX3_clashes_1 : List UInt8 := dkwX3_clashes_1 ++ dktX3_clashes_2
def dkwX3_clashes_0 : List UInt8 := [42, 182, 0, 210, 42, 17, 3, 232, 181, 0, 213, 3, 60, 27, 16, 40, 162, 0, 136, 27, 4, 96, 61, 28]
abbrev dktX3_clashes_0 : List UInt8 := dkwX3_clashes_0 ++ dktX3_clashes_1
theorem dksX3_clashes_0 : cX3_clashes.data.toList.drop 0 = dktX3_clashes_0 := by decide +kernel
theorem dksX3_clashes_1 : cX3_clashes.data.toList.drop 24 = dktX3_clashes_1 := dk_seg dksX3_clashes_0 24 rfl rfl
theorem dksX3_clashes_2 : cX3_clashes.data.toList.drop 48 = dktX3_clashes_2 := dk_seg dksX3_clashes_1 24 rfl rfl
theorem dksX3_clashes_3 : cX3_clashes.data.toList.drop 72 = dktX3_clashes_3 := dk_seg dksX3_clashes_2 24 rfl rfl
theorem dksX3_clashes_4 : cX3_clashes.data.toList.drop 96 = dktX3_clashes_4 := dk_seg dksX3_clashes_3 24 rfl rfl
theorem dksX3_clashes_5 : cX3_clashes.data.toList.drop 119 = dktX3_clashes_5 := dk_seg dksX3_clashes_4 23 rfl rfl
theorem dksX3_clashes_6 : cX3_clashes.data.toList.drop 143 = dktX3_clashes_6 := dk_seg dksX3_clashes_5 24 rfl rfl
theorem dksX3_clashes_7 : cX3_clashes.data.toList.drop 167 = dktX3_clashes_7 := dk_seg dksX3_clashes_6 24 rfl rfl
theorem dX3_clashes_0 : decode cX3_clashes 0 = .ok (.aload_n 0, 1) := dk_42 (dk_at dksX3_clashes_0 0 rfl rfl)
theorem dX3_clashes_1 : decode cX3_clashes 1 = .ok (.invokevirtual 210, 3) := dk_182 0 210 (dk_at dksX3_clashes_0 1 rfl rfl)
theorem dX3_clashes_4 : decode cX3_clashes 4 = .ok (.aload_n 0, 1) := dk_42 (dk_at dksX3_clashes_0 4 rfl rfl)
theorem dX3_clashes_5 : decode cX3_clashes 5 = .ok (.sipush 1000, 3) := dk_17 3 232 (dk_at dksX3_clashes_0 5 rfl rfl)
theorem dX3_clashes_8 : decode cX3_clashes 8 = .ok (.putfield 213, 3) := dk_181 0 213 (dk_at dksX3_clashes_0 8 rfl rfl)
theorem dX3_clashes_11 : decode cX3_clashes 11 = .ok (.iconst 0, 1) := dk_3 (dk_at dksX3_clashes_0 11 rfl rfl)
theorem dX3_clashes_12 : decode cX3_clashes 12 = .ok (.istore_n 1, 1) := dk_60 (dk_at dksX3_clashes_0 12 rfl rfl)
theorem dX3_clashes_13 : decode cX3_clashes 13 = .ok (.iload_n 1, 1) := dk_27 (dk_at dksX3_clashes_0 13 rfl rfl)
theorem dX3_clashes_14 : decode cX3_clashes 14 = .ok (.bipush 40, 2) := dk_16 40 (dk_at dksX3_clashes_0 14 rfl rfl)
theorem dX3_clashes_16 : decode cX3_clashes 16 = .ok (.if_icmp .ge 136, 3) := dk_162 0 136 (dk_at dksX3_clashes_0 16 rfl rfl)
theorem dX3_clashes_19 : decode cX3_clashes 19 = .ok (.iload_n 1, 1) := dk_27 (dk_at dksX3_clashes_0 19 rfl rfl)
theorem dX3_clashes_20 : decode cX3_clashes 20 = .ok (.iconst 1, 1) := dk_4 (dk_at dksX3_clashes_0 20 rfl rfl)
theorem dX3_clashes_21 : decode cX3_clashes 21 = .ok (.iadd, 1) := dk_96 (dk_at dksX3_clashes_0 21 rfl rfl)
theorem dX3_clashes_22 : decode cX3_clashes 22 = .ok (.istore_n 2, 1) := dk_61 (dk_at dksX3_clashes_0 22 rfl rfl)
theorem dX3_clashes_23 : decode cX3_clashes 23 = .ok (.iload_n 2, 1) := dk_28 (dk_at dksX3_clashes_0 23 rfl rfl)
theorem dX3_clashes_24 : decode cX3_clashes 24 = .ok (.bipush 40, 2) := dk_16 40 (dk_at dksX3_clashes_1 0 rfl rfl)
theorem dX3_clashes_26 : decode cX3_clashes 26 = .ok (.if_icmp .ge 120, 3) := dk_162 0 120 (dk_at dksX3_clashes_1 2 rfl rfl)
theorem dX3_clashes_29 : decode cX3_clashes 29 = .ok (.aload_n 0, 1) := dk_42 (dk_at dksX3_clashes_1 5 rfl rfl)
theorem dX3_clashes_30 : decode cX3_clashes 30 = .ok (.getfield 37, 3) := dk_180 0 37 (dk_at dksX3_clashes_1 6 rfl rfl)
theorem dX3_clashes_33 : decode cX3_clashes 33 = .ok (.aload_n 0, 1) := dk_42 (dk_at dksX3_clashes_1 9 rfl rfl)
theorem dX3_clashes_34 : decode cX3_clashes 34 = .ok (.iconst 0, 1) := dk_3 (dk_at dksX3_clashes_1 10 rfl rfl)
theorem dX3_clashes_35 : decode cX3_clashes 35 = .ok (.iload_n 1, 1) := dk_27 (dk_at dksX3_clashes_1 11 rfl rfl)
theorem dX3_clashes_36 : decode cX3_clashes 36 = .ok (.iload_n 2, 1) := dk_28 (dk_at dksX3_clashes_1 12 rfl rfl)
theorem dX3_clashes_37 : decode cX3_clashes 37 = .ok (.invokevirtual 159, 3) := dk_182 0 159 (dk_at dksX3_clashes_1 13 rfl rfl)
theorem dX3_clashes_40 : decode cX3_clashes 40 = .ok (.iaload, 1) := dk_46 (dk_at dksX3_clashes_1 16 rfl rfl)
theorem dX3_clashes_41 : decode cX3_clashes 41 = .ok (.aload_n 0, 1) := dk_42 (dk_at dksX3_clashes_1 17 rfl rfl)
theorem dX3_clashes_42 : decode cX3_clashes 42 = .ok (.getfield 37, 3) := dk_180 0 37 (dk_at dksX3_clashes_1 18 rfl rfl)
theorem dX3_clashes_45 : decode cX3_clashes 45 = .ok (.aload_n 0, 1) := dk_42 (dk_at dksX3_clashes_1 21 rfl rfl)
theorem dX3_clashes_46 : decode cX3_clashes 46 = .ok (.iconst 1, 1) := dk_4 (dk_at dksX3_clashes_1 22 rfl rfl)
theorem dX3_clashes_47 : decode cX3_clashes 47 = .ok (.iload_n 1, 1) := dk_27 (dk_at dksX3_clashes_1 23 rfl rfl)
theorem dX3_clashes_48 : decode cX3_clashes 48 = .ok (.iload_n 2, 1) := dk_28 (dk_at dksX3_clashes_2 0 rfl rfl)
theorem dX3_clashes_49 : decode cX3_clashes 49 = .ok (.invokevirtual 159, 3) := dk_182 0 159 (dk_at dksX3_clashes_2 1 rfl rfl)
theorem dX3_clashes_52 : decode cX3_clashes 52 = .ok (.iaload, 1) := dk_46 (dk_at dksX3_clashes_2 4 rfl rfl)
theorem dX3_clashes_53 : decode cX3_clashes 53 = .ok (.iadd, 1) := dk_96 (dk_at dksX3_clashes_2 5 rfl rfl)
theorem dX3_clashes_54 : decode cX3_clashes 54 = .ok (.istore_n 3, 1) := dk_62 (dk_at dksX3_clashes_2 6 rfl rfl)
theorem dX3_clashes_55 : decode cX3_clashes 55 = .ok (.iload_n 3, 1) := dk_29 (dk_at dksX3_clashes_2 7 rfl rfl)
theorem dX3_clashes_56 : decode cX3_clashes 56 = .ok (.aload_n 0, 1) := dk_42 (dk_at dksX3_clashes_2 8 rfl rfl)
theorem dX3_clashes_57 : decode cX3_clashes 57 = .ok (.getfield 213, 3) := dk_180 0 213 (dk_at dksX3_clashes_2 9 rfl rfl)
theorem dX3_clashes_60 : decode cX3_clashes 60 = .ok (.if_icmp .ge 12, 3) := dk_162 0 12 (dk_at dksX3_clashes_2 12 rfl rfl)
theorem dX3_clashes_63 : decode cX3_clashes 63 = .ok (.aload_n 0, 1) := dk_42 (dk_at dksX3_clashes_2 15 rfl rfl)
theorem dX3_clashes_64 : decode cX3_clashes 64 = .ok (.iload_n 1, 1) := dk_27 (dk_at dksX3_clashes_2 16 rfl rfl)
theorem dX3_clashes_65 : decode cX3_clashes 65 = .ok (.iload_n 2, 1) := dk_28 (dk_at dksX3_clashes_2 17 rfl rfl)
theorem dX3_clashes_66 : decode cX3_clashes 66 = .ok (.iconst 1, 1) := dk_4 (dk_at dksX3_clashes_2 18 rfl rfl)
theorem dX3_clashes_67 : decode cX3_clashes 67 = .ok (.iconst 0, 1) := dk_3 (dk_at dksX3_clashes_2 19 rfl rfl)
theorem dX3_clashes_68 : decode cX3_clashes 68 = .ok (.iload_n 3, 1) := dk_29 (dk_at dksX3_clashes_2 20 rfl rfl)
theorem dX3_clashes_69 : decode cX3_clashes 69 = .ok (.invokevirtual 216, 3) := dk_182 0 216 (dk_at dksX3_clashes_2 21 rfl rfl)
theorem dX3_clashes_72 : decode cX3_clashes 72 = .ok (.iconst 0, 1) := dk_3 (dk_at dksX3_clashes_3 0 rfl rfl)
theorem dX3_clashes_73 : decode cX3_clashes 73 = .ok (.istore 4, 2) := dk_54 4 (dk_at dksX3_clashes_3 1 rfl rfl)
theorem dX3_clashes_75 : decode cX3_clashes 75 = .ok (.iload 4, 2) := dk_21 4 (dk_at dksX3_clashes_3 3 rfl rfl)
theorem dX3_clashes_77 : decode cX3_clashes 77 = .ok (.iconst 2, 1) := dk_5 (dk_at dksX3_clashes_3 5 rfl rfl)
theorem dX3_clashes_78 : decode cX3_clashes 78 = .ok (.if_icmp .ge 62, 3) := dk_162 0 62 (dk_at dksX3_clashes_3 6 rfl rfl)
theorem dX3_clashes_81 : decode cX3_clashes 81 = .ok (.aload_n 0, 1) := dk_42 (dk_at dksX3_clashes_3 9 rfl rfl)
theorem dX3_clashes_82 : decode cX3_clashes 82 = .ok (.iload 4, 2) := dk_21 4 (dk_at dksX3_clashes_3 10 rfl rfl)
theorem dX3_clashes_84 : decode cX3_clashes 84 = .ok (.iload_n 1, 1) := dk_27 (dk_at dksX3_clashes_3 12 rfl rfl)
theorem dX3_clashes_85 : decode cX3_clashes 85 = .ok (.iload_n 2, 1) := dk_28 (dk_at dksX3_clashes_3 13 rfl rfl)
theorem dX3_clashes_86 : decode cX3_clashes 86 = .ok (.invokevirtual 220, 3) := dk_182 0 220 (dk_at dksX3_clashes_3 14 rfl rfl)
theorem dX3_clashes_89 : decode cX3_clashes 89 = .ok (.ifCond .eq 45, 3) := dk_153 0 45 (dk_at dksX3_clashes_3 17 rfl rfl)
theorem dX3_clashes_92 : decode cX3_clashes 92 = .ok (.aload_n 0, 1) := dk_42 (dk_at dksX3_clashes_3 20 rfl rfl)
theorem dX3_clashes_93 : decode cX3_clashes 93 = .ok (.getfield 37, 3) := dk_180 0 37 (dk_at dksX3_clashes_3 21 rfl rfl)
theorem dX3_clashes_96 : decode cX3_clashes 96 = .ok (.aload_n 0, 1) := dk_42 (dk_at dksX3_clashes_4 0 rfl rfl)
theorem dX3_clashes_97 : decode cX3_clashes 97 = .ok (.iload 4, 2) := dk_21 4 (dk_at dksX3_clashes_4 1 rfl rfl)
theorem dX3_clashes_99 : decode cX3_clashes 99 = .ok (.iload_n 1, 1) := dk_27 (dk_at dksX3_clashes_4 3 rfl rfl)
theorem dX3_clashes_100 : decode cX3_clashes 100 = .ok (.iload_n 2, 1) := dk_28 (dk_at dksX3_clashes_4 4 rfl rfl)
theorem dX3_clashes_101 : decode cX3_clashes 101 = .ok (.invokevirtual 159, 3) := dk_182 0 159 (dk_at dksX3_clashes_4 5 rfl rfl)
theorem dX3_clashes_104 : decode cX3_clashes 104 = .ok (.iaload, 1) := dk_46 (dk_at dksX3_clashes_4 8 rfl rfl)
theorem dX3_clashes_105 : decode cX3_clashes 105 = .ok (.aload_n 0, 1) := dk_42 (dk_at dksX3_clashes_4 9 rfl rfl)
theorem dX3_clashes_106 : decode cX3_clashes 106 = .ok (.getfield 213, 3) := dk_180 0 213 (dk_at dksX3_clashes_4 10 rfl rfl)
theorem dX3_clashes_109 : decode cX3_clashes 109 = .ok (.if_icmp .ge 25, 3) := dk_162 0 25 (dk_at dksX3_clashes_4 13 rfl rfl)
theorem dX3_clashes_112 : decode cX3_clashes 112 = .ok (.aload_n 0, 1) := dk_42 (dk_at dksX3_clashes_4 16 rfl rfl)
theorem dX3_clashes_113 : decode cX3_clashes 113 = .ok (.iload_n 1, 1) := dk_27 (dk_at dksX3_clashes_4 17 rfl rfl)
theorem dX3_clashes_114 : decode cX3_clashes 114 = .ok (.iload_n 2, 1) := dk_28 (dk_at dksX3_clashes_4 18 rfl rfl)
theorem dX3_clashes_115 : decode cX3_clashes 115 = .ok (.iconst 2, 1) := dk_5 (dk_at dksX3_clashes_4 19 rfl rfl)
theorem dX3_clashes_116 : decode cX3_clashes 116 = .ok (.iload 4, 2) := dk_21 4 (dk_at dksX3_clashes_4 20 rfl rfl)
theorem dX3_clashes_118 : decode cX3_clashes 118 = .ok (.aload_n 0, 1) := dk_42 (dk_at dksX3_clashes_4 22 rfl rfl)
theorem dX3_clashes_119 : decode cX3_clashes 119 = .ok (.getfield 37, 3) := dk_180 0 37 (dk_at dksX3_clashes_5 0 rfl rfl)
theorem dX3_clashes_122 : decode cX3_clashes 122 = .ok (.aload_n 0, 1) := dk_42 (dk_at dksX3_clashes_5 3 rfl rfl)
theorem dX3_clashes_123 : decode cX3_clashes 123 = .ok (.iload 4, 2) := dk_21 4 (dk_at dksX3_clashes_5 4 rfl rfl)
theorem dX3_clashes_125 : decode cX3_clashes 125 = .ok (.iload_n 1, 1) := dk_27 (dk_at dksX3_clashes_5 6 rfl rfl)
theorem dX3_clashes_126 : decode cX3_clashes 126 = .ok (.iload_n 2, 1) := dk_28 (dk_at dksX3_clashes_5 7 rfl rfl)
theorem dX3_clashes_127 : decode cX3_clashes 127 = .ok (.invokevirtual 159, 3) := dk_182 0 159 (dk_at dksX3_clashes_5 8 rfl rfl)
theorem dX3_clashes_130 : decode cX3_clashes 130 = .ok (.iaload, 1) := dk_46 (dk_at dksX3_clashes_5 11 rfl rfl)
theorem dX3_clashes_131 : decode cX3_clashes 131 = .ok (.invokevirtual 216, 3) := dk_182 0 216 (dk_at dksX3_clashes_5 12 rfl rfl)
theorem dX3_clashes_134 : decode cX3_clashes 134 = .ok (.iinc 4 1, 3) := dk_132 4 1 (dk_at dksX3_clashes_5 15 rfl rfl)
theorem dX3_clashes_137 : decode cX3_clashes 137 = .ok (.goto (-62), 3) := dk_167 255 194 (dk_at dksX3_clashes_5 18 rfl rfl)
theorem dX3_clashes_140 : decode cX3_clashes 140 = .ok (.iinc 2 1, 3) := dk_132 2 1 (dk_at dksX3_clashes_5 21 rfl rfl)
theorem dX3_clashes_143 : decode cX3_clashes 143 = .ok (.goto (-120), 3) := dk_167 255 136 (dk_at dksX3_clashes_6 0 rfl rfl)
theorem dX3_clashes_146 : decode cX3_clashes 146 = .ok (.iinc 1 1, 3) := dk_132 1 1 (dk_at dksX3_clashes_6 3 rfl rfl)
theorem dX3_clashes_149 : decode cX3_clashes 149 = .ok (.goto (-136), 3) := dk_167 255 120 (dk_at dksX3_clashes_6 6 rfl rfl)
theorem dX3_clashes_152 : decode cX3_clashes 152 = .ok (.aload_n 0, 1) := dk_42 (dk_at dksX3_clashes_6 9 rfl rfl)
theorem dX3_clashes_153 : decode cX3_clashes 153 = .ok (.getfield 213, 3) := dk_180 0 213 (dk_at dksX3_clashes_6 10 rfl rfl)
theorem dX3_clashes_156 : decode cX3_clashes 156 = .ok (.sipush 1000, 3) := dk_17 3 232 (dk_at dksX3_clashes_6 13 rfl rfl)
theorem dX3_clashes_159 : decode cX3_clashes 159 = .ok (.if_icmp .ge 7, 3) := dk_162 0 7 (dk_at dksX3_clashes_6 16 rfl rfl)
theorem dX3_clashes_162 : decode cX3_clashes 162 = .ok (.iconst 1, 1) := dk_4 (dk_at dksX3_clashes_6 19 rfl rfl)
theorem dX3_clashes_163 : decode cX3_clashes 163 = .ok (.goto 4, 3) := dk_167 0 4 (dk_at dksX3_clashes_6 20 rfl rfl)
theorem dX3_clashes_166 : decode cX3_clashes 166 = .ok (.iconst 0, 1) := dk_3 (dk_at dksX3_clashes_6 23 rfl rfl)
theorem dX3_clashes_167 : decode cX3_clashes 167 = .ok (.ireturn, 1) := dk_172 (dk_at dksX3_clashes_7 0 rfl rfl)
def dkwX3_reaches_7 : List UInt8 := [132, 3, 1, 167, 255, 176, 132, 2, 1, 167, 255, 162, 132, 1, 1, 167, 255, 78, 177]
abbrev dktX3_reaches_7 : List UInt8 := dkwX3_reaches_7 ++ []
def dkwX3_reaches_6 : List UInt8 := [42, 180, 0, 37, 42, 27, 28, 21, 4, 182, 0, 159, 46, 96, 184, 0, 137, 79, 132, 4, 1, 167, 255, 191]
abbrev dktX3_reaches_6 : List UInt8 := dkwX3_reaches_6 ++ dktX3_reaches_7
def dkwX3_reaches_5 : List UInt8 := [180, 0, 37, 42, 27, 29, 21, 4, 182, 0, 159, 46, 42, 180, 0, 37, 42, 27, 29, 28, 182, 0, 159, 46]
abbrev dktX3_reaches_5 : List UInt8 := dkwX3_reaches_5 ++ dktX3_reaches_6
def dkwX3_reaches_4 : List UInt8 := [54, 4, 21, 4, 16, 40, 162, 0, 64, 42, 180, 0, 37, 42, 27, 29, 21, 4, 182, 0, 159, 42]
abbrev dktX3_reaches_4 : List UInt8 := dkwX3_reaches_4 ++ dktX3_reaches_5
def dkwX3_reaches_3 : List UInt8 := [132, 2, 1, 167, 255, 190, 3, 61, 28, 16, 40, 162, 0, 94, 3, 62, 29, 16, 40, 162, 0, 80, 3]
abbrev dktX3_reaches_3 : List UInt8 := dkwX3_reaches_3 ++ dktX3_reaches_4
def dkwX3_reaches_2 : List UInt8 := [27, 28, 29, 182, 0, 159, 51, 153, 0, 7, 4, 167, 0, 6, 17, 3, 232, 79, 132, 3, 1, 167, 255, 204]
abbrev dktX3_reaches_2 : List UInt8 := dkwX3_reaches_2 ++ dktX3_reaches_3
def dkwX3_reaches_1 : List UInt8 := [180, 0, 37, 42, 27, 28, 29, 182, 0, 159, 28, 29, 160, 0, 7, 3, 167, 0, 25, 42, 180, 0, 30, 42]
abbrev dktX3_reaches_1 : List UInt8 := dkwX3_reaches_1 ++ dktX3_reaches_2
def dkwX3_reaches_0 : List UInt8 := [3, 60, 27, 5, 162, 0, 179, 3, 61, 28, 16, 40, 162, 0, 66, 3, 62, 29, 16, 40, 162, 0, 52, 42]
abbrev dktX3_reaches_0 : List UInt8 := dkwX3_reaches_0 ++ dktX3_reaches_1
theorem dksX3_reaches_0 : cX3_reaches.data.toList.drop 0 = dktX3_reaches_0 := by decide +kernel
theorem dksX3_reaches_1 : cX3_reaches.data.toList.drop 24 = dktX3_reaches_1 := dk_seg dksX3_reaches_0 24 rfl rfl
theorem dksX3_reaches_2 : cX3_reaches.data.toList.drop 48 = dktX3_reaches_2 := dk_seg dksX3_reaches_1 24 rfl rfl
theorem dksX3_reaches_3 : cX3_reaches.data.toList.drop 72 = dktX3_reaches_3 := dk_seg dksX3_reaches_2 24 rfl rfl
theorem dksX3_reaches_4 : cX3_reaches.data.toList.drop 95 = dktX3_reaches_4 := dk_seg dksX3_reaches_3 23 rfl rfl
theorem dksX3_reaches_5 : cX3_reaches.data.toList.drop 117 = dktX3_reaches_5 := dk_seg dksX3_reaches_4 22 rfl rfl
theorem dksX3_reaches_6 : cX3_reaches.data.toList.drop 141 = dktX3_reaches_6 := dk_seg dksX3_reaches_5 24 rfl rfl
theorem dksX3_reaches_7 : cX3_reaches.data.toList.drop 165 = dktX3_reaches_7 := dk_seg dksX3_reaches_6 24 rfl rfl
theorem dX3_reaches_0 : decode cX3_reaches 0 = .ok (.iconst 0, 1) := dk_3 (dk_at dksX3_reaches_0 0 rfl rfl)
theorem dX3_reaches_1 : decode cX3_reaches 1 = .ok (.istore_n 1, 1) := dk_60 (dk_at dksX3_reaches_0 1 rfl rfl)
theorem dX3_reaches_2 : decode cX3_reaches 2 = .ok (.iload_n 1, 1) := dk_27 (dk_at dksX3_reaches_0 2 rfl rfl)
theorem dX3_reaches_3 : decode cX3_reaches 3 = .ok (.iconst 2, 1) := dk_5 (dk_at dksX3_reaches_0 3 rfl rfl)
theorem dX3_reaches_4 : decode cX3_reaches 4 = .ok (.if_icmp .ge 179, 3) := dk_162 0 179 (dk_at dksX3_reaches_0 4 rfl rfl)
theorem dX3_reaches_7 : decode cX3_reaches 7 = .ok (.iconst 0, 1) := dk_3 (dk_at dksX3_reaches_0 7 rfl rfl)
theorem dX3_reaches_8 : decode cX3_reaches 8 = .ok (.istore_n 2, 1) := dk_61 (dk_at dksX3_reaches_0 8 rfl rfl)
theorem dX3_reaches_9 : decode cX3_reaches 9 = .ok (.iload_n 2, 1) := dk_28 (dk_at dksX3_reaches_0 9 rfl rfl)
theorem dX3_reaches_10 : decode cX3_reaches 10 = .ok (.bipush 40, 2) := dk_16 40 (dk_at dksX3_reaches_0 10 rfl rfl)
theorem dX3_reaches_12 : decode cX3_reaches 12 = .ok (.if_icmp .ge 66, 3) := dk_162 0 66 (dk_at dksX3_reaches_0 12 rfl rfl)
theorem dX3_reaches_15 : decode cX3_reaches 15 = .ok (.iconst 0, 1) := dk_3 (dk_at dksX3_reaches_0 15 rfl rfl)
theorem dX3_reaches_16 : decode cX3_reaches 16 = .ok (.istore_n 3, 1) := dk_62 (dk_at dksX3_reaches_0 16 rfl rfl)
theorem dX3_reaches_17 : decode cX3_reaches 17 = .ok (.iload_n 3, 1) := dk_29 (dk_at dksX3_reaches_0 17 rfl rfl)
theorem dX3_reaches_18 : decode cX3_reaches 18 = .ok (.bipush 40, 2) := dk_16 40 (dk_at dksX3_reaches_0 18 rfl rfl)
theorem dX3_reaches_20 : decode cX3_reaches 20 = .ok (.if_icmp .ge 52, 3) := dk_162 0 52 (dk_at dksX3_reaches_0 20 rfl rfl)
theorem dX3_reaches_23 : decode cX3_reaches 23 = .ok (.aload_n 0, 1) := dk_42 (dk_at dksX3_reaches_0 23 rfl rfl)
theorem dX3_reaches_24 : decode cX3_reaches 24 = .ok (.getfield 37, 3) := dk_180 0 37 (dk_at dksX3_reaches_1 0 rfl rfl)
theorem dX3_reaches_27 : decode cX3_reaches 27 = .ok (.aload_n 0, 1) := dk_42 (dk_at dksX3_reaches_1 3 rfl rfl)
theorem dX3_reaches_28 : decode cX3_reaches 28 = .ok (.iload_n 1, 1) := dk_27 (dk_at dksX3_reaches_1 4 rfl rfl)
theorem dX3_reaches_29 : decode cX3_reaches 29 = .ok (.iload_n 2, 1) := dk_28 (dk_at dksX3_reaches_1 5 rfl rfl)
theorem dX3_reaches_30 : decode cX3_reaches 30 = .ok (.iload_n 3, 1) := dk_29 (dk_at dksX3_reaches_1 6 rfl rfl)
theorem dX3_reaches_31 : decode cX3_reaches 31 = .ok (.invokevirtual 159, 3) := dk_182 0 159 (dk_at dksX3_reaches_1 7 rfl rfl)
theorem dX3_reaches_34 : decode cX3_reaches 34 = .ok (.iload_n 2, 1) := dk_28 (dk_at dksX3_reaches_1 10 rfl rfl)
theorem dX3_reaches_35 : decode cX3_reaches 35 = .ok (.iload_n 3, 1) := dk_29 (dk_at dksX3_reaches_1 11 rfl rfl)
theorem dX3_reaches_36 : decode cX3_reaches 36 = .ok (.if_icmp .ne 7, 3) := dk_160 0 7 (dk_at dksX3_reaches_1 12 rfl rfl)
theorem dX3_reaches_39 : decode cX3_reaches 39 = .ok (.iconst 0, 1) := dk_3 (dk_at dksX3_reaches_1 15 rfl rfl)
theorem dX3_reaches_40 : decode cX3_reaches 40 = .ok (.goto 25, 3) := dk_167 0 25 (dk_at dksX3_reaches_1 16 rfl rfl)
theorem dX3_reaches_43 : decode cX3_reaches 43 = .ok (.aload_n 0, 1) := dk_42 (dk_at dksX3_reaches_1 19 rfl rfl)
theorem dX3_reaches_44 : decode cX3_reaches 44 = .ok (.getfield 30, 3) := dk_180 0 30 (dk_at dksX3_reaches_1 20 rfl rfl)
theorem dX3_reaches_47 : decode cX3_reaches 47 = .ok (.aload_n 0, 1) := dk_42 (dk_at dksX3_reaches_1 23 rfl rfl)
theorem dX3_reaches_48 : decode cX3_reaches 48 = .ok (.iload_n 1, 1) := dk_27 (dk_at dksX3_reaches_2 0 rfl rfl)
theorem dX3_reaches_49 : decode cX3_reaches 49 = .ok (.iload_n 2, 1) := dk_28 (dk_at dksX3_reaches_2 1 rfl rfl)
theorem dX3_reaches_50 : decode cX3_reaches 50 = .ok (.iload_n 3, 1) := dk_29 (dk_at dksX3_reaches_2 2 rfl rfl)
theorem dX3_reaches_51 : decode cX3_reaches 51 = .ok (.invokevirtual 159, 3) := dk_182 0 159 (dk_at dksX3_reaches_2 3 rfl rfl)
theorem dX3_reaches_54 : decode cX3_reaches 54 = .ok (.baload, 1) := dk_51 (dk_at dksX3_reaches_2 6 rfl rfl)
theorem dX3_reaches_55 : decode cX3_reaches 55 = .ok (.ifCond .eq 7, 3) := dk_153 0 7 (dk_at dksX3_reaches_2 7 rfl rfl)
theorem dX3_reaches_58 : decode cX3_reaches 58 = .ok (.iconst 1, 1) := dk_4 (dk_at dksX3_reaches_2 10 rfl rfl)
theorem dX3_reaches_59 : decode cX3_reaches 59 = .ok (.goto 6, 3) := dk_167 0 6 (dk_at dksX3_reaches_2 11 rfl rfl)
theorem dX3_reaches_62 : decode cX3_reaches 62 = .ok (.sipush 1000, 3) := dk_17 3 232 (dk_at dksX3_reaches_2 14 rfl rfl)
theorem dX3_reaches_65 : decode cX3_reaches 65 = .ok (.iastore, 1) := dk_79 (dk_at dksX3_reaches_2 17 rfl rfl)
theorem dX3_reaches_66 : decode cX3_reaches 66 = .ok (.iinc 3 1, 3) := dk_132 3 1 (dk_at dksX3_reaches_2 18 rfl rfl)
theorem dX3_reaches_69 : decode cX3_reaches 69 = .ok (.goto (-52), 3) := dk_167 255 204 (dk_at dksX3_reaches_2 21 rfl rfl)
theorem dX3_reaches_72 : decode cX3_reaches 72 = .ok (.iinc 2 1, 3) := dk_132 2 1 (dk_at dksX3_reaches_3 0 rfl rfl)
theorem dX3_reaches_75 : decode cX3_reaches 75 = .ok (.goto (-66), 3) := dk_167 255 190 (dk_at dksX3_reaches_3 3 rfl rfl)
theorem dX3_reaches_78 : decode cX3_reaches 78 = .ok (.iconst 0, 1) := dk_3 (dk_at dksX3_reaches_3 6 rfl rfl)
theorem dX3_reaches_79 : decode cX3_reaches 79 = .ok (.istore_n 2, 1) := dk_61 (dk_at dksX3_reaches_3 7 rfl rfl)
theorem dX3_reaches_80 : decode cX3_reaches 80 = .ok (.iload_n 2, 1) := dk_28 (dk_at dksX3_reaches_3 8 rfl rfl)
theorem dX3_reaches_81 : decode cX3_reaches 81 = .ok (.bipush 40, 2) := dk_16 40 (dk_at dksX3_reaches_3 9 rfl rfl)
theorem dX3_reaches_83 : decode cX3_reaches 83 = .ok (.if_icmp .ge 94, 3) := dk_162 0 94 (dk_at dksX3_reaches_3 11 rfl rfl)
theorem dX3_reaches_86 : decode cX3_reaches 86 = .ok (.iconst 0, 1) := dk_3 (dk_at dksX3_reaches_3 14 rfl rfl)
theorem dX3_reaches_87 : decode cX3_reaches 87 = .ok (.istore_n 3, 1) := dk_62 (dk_at dksX3_reaches_3 15 rfl rfl)
theorem dX3_reaches_88 : decode cX3_reaches 88 = .ok (.iload_n 3, 1) := dk_29 (dk_at dksX3_reaches_3 16 rfl rfl)
theorem dX3_reaches_89 : decode cX3_reaches 89 = .ok (.bipush 40, 2) := dk_16 40 (dk_at dksX3_reaches_3 17 rfl rfl)
theorem dX3_reaches_91 : decode cX3_reaches 91 = .ok (.if_icmp .ge 80, 3) := dk_162 0 80 (dk_at dksX3_reaches_3 19 rfl rfl)
theorem dX3_reaches_94 : decode cX3_reaches 94 = .ok (.iconst 0, 1) := dk_3 (dk_at dksX3_reaches_3 22 rfl rfl)
theorem dX3_reaches_95 : decode cX3_reaches 95 = .ok (.istore 4, 2) := dk_54 4 (dk_at dksX3_reaches_4 0 rfl rfl)
theorem dX3_reaches_97 : decode cX3_reaches 97 = .ok (.iload 4, 2) := dk_21 4 (dk_at dksX3_reaches_4 2 rfl rfl)
theorem dX3_reaches_99 : decode cX3_reaches 99 = .ok (.bipush 40, 2) := dk_16 40 (dk_at dksX3_reaches_4 4 rfl rfl)
theorem dX3_reaches_101 : decode cX3_reaches 101 = .ok (.if_icmp .ge 64, 3) := dk_162 0 64 (dk_at dksX3_reaches_4 6 rfl rfl)
theorem dX3_reaches_104 : decode cX3_reaches 104 = .ok (.aload_n 0, 1) := dk_42 (dk_at dksX3_reaches_4 9 rfl rfl)
theorem dX3_reaches_105 : decode cX3_reaches 105 = .ok (.getfield 37, 3) := dk_180 0 37 (dk_at dksX3_reaches_4 10 rfl rfl)
theorem dX3_reaches_108 : decode cX3_reaches 108 = .ok (.aload_n 0, 1) := dk_42 (dk_at dksX3_reaches_4 13 rfl rfl)
theorem dX3_reaches_109 : decode cX3_reaches 109 = .ok (.iload_n 1, 1) := dk_27 (dk_at dksX3_reaches_4 14 rfl rfl)
theorem dX3_reaches_110 : decode cX3_reaches 110 = .ok (.iload_n 3, 1) := dk_29 (dk_at dksX3_reaches_4 15 rfl rfl)
theorem dX3_reaches_111 : decode cX3_reaches 111 = .ok (.iload 4, 2) := dk_21 4 (dk_at dksX3_reaches_4 16 rfl rfl)
theorem dX3_reaches_113 : decode cX3_reaches 113 = .ok (.invokevirtual 159, 3) := dk_182 0 159 (dk_at dksX3_reaches_4 18 rfl rfl)
theorem dX3_reaches_116 : decode cX3_reaches 116 = .ok (.aload_n 0, 1) := dk_42 (dk_at dksX3_reaches_4 21 rfl rfl)
theorem dX3_reaches_117 : decode cX3_reaches 117 = .ok (.getfield 37, 3) := dk_180 0 37 (dk_at dksX3_reaches_5 0 rfl rfl)
theorem dX3_reaches_120 : decode cX3_reaches 120 = .ok (.aload_n 0, 1) := dk_42 (dk_at dksX3_reaches_5 3 rfl rfl)
theorem dX3_reaches_121 : decode cX3_reaches 121 = .ok (.iload_n 1, 1) := dk_27 (dk_at dksX3_reaches_5 4 rfl rfl)
theorem dX3_reaches_122 : decode cX3_reaches 122 = .ok (.iload_n 3, 1) := dk_29 (dk_at dksX3_reaches_5 5 rfl rfl)
theorem dX3_reaches_123 : decode cX3_reaches 123 = .ok (.iload 4, 2) := dk_21 4 (dk_at dksX3_reaches_5 6 rfl rfl)
theorem dX3_reaches_125 : decode cX3_reaches 125 = .ok (.invokevirtual 159, 3) := dk_182 0 159 (dk_at dksX3_reaches_5 8 rfl rfl)
theorem dX3_reaches_128 : decode cX3_reaches 128 = .ok (.iaload, 1) := dk_46 (dk_at dksX3_reaches_5 11 rfl rfl)
theorem dX3_reaches_129 : decode cX3_reaches 129 = .ok (.aload_n 0, 1) := dk_42 (dk_at dksX3_reaches_5 12 rfl rfl)
theorem dX3_reaches_130 : decode cX3_reaches 130 = .ok (.getfield 37, 3) := dk_180 0 37 (dk_at dksX3_reaches_5 13 rfl rfl)
theorem dX3_reaches_133 : decode cX3_reaches 133 = .ok (.aload_n 0, 1) := dk_42 (dk_at dksX3_reaches_5 16 rfl rfl)
theorem dX3_reaches_134 : decode cX3_reaches 134 = .ok (.iload_n 1, 1) := dk_27 (dk_at dksX3_reaches_5 17 rfl rfl)
theorem dX3_reaches_135 : decode cX3_reaches 135 = .ok (.iload_n 3, 1) := dk_29 (dk_at dksX3_reaches_5 18 rfl rfl)
theorem dX3_reaches_136 : decode cX3_reaches 136 = .ok (.iload_n 2, 1) := dk_28 (dk_at dksX3_reaches_5 19 rfl rfl)
theorem dX3_reaches_137 : decode cX3_reaches 137 = .ok (.invokevirtual 159, 3) := dk_182 0 159 (dk_at dksX3_reaches_5 20 rfl rfl)
theorem dX3_reaches_140 : decode cX3_reaches 140 = .ok (.iaload, 1) := dk_46 (dk_at dksX3_reaches_5 23 rfl rfl)
theorem dX3_reaches_141 : decode cX3_reaches 141 = .ok (.aload_n 0, 1) := dk_42 (dk_at dksX3_reaches_6 0 rfl rfl)
theorem dX3_reaches_142 : decode cX3_reaches 142 = .ok (.getfield 37, 3) := dk_180 0 37 (dk_at dksX3_reaches_6 1 rfl rfl)
theorem dX3_reaches_145 : decode cX3_reaches 145 = .ok (.aload_n 0, 1) := dk_42 (dk_at dksX3_reaches_6 4 rfl rfl)
theorem dX3_reaches_146 : decode cX3_reaches 146 = .ok (.iload_n 1, 1) := dk_27 (dk_at dksX3_reaches_6 5 rfl rfl)
theorem dX3_reaches_147 : decode cX3_reaches 147 = .ok (.iload_n 2, 1) := dk_28 (dk_at dksX3_reaches_6 6 rfl rfl)
theorem dX3_reaches_148 : decode cX3_reaches 148 = .ok (.iload 4, 2) := dk_21 4 (dk_at dksX3_reaches_6 7 rfl rfl)
theorem dX3_reaches_150 : decode cX3_reaches 150 = .ok (.invokevirtual 159, 3) := dk_182 0 159 (dk_at dksX3_reaches_6 9 rfl rfl)
theorem dX3_reaches_153 : decode cX3_reaches 153 = .ok (.iaload, 1) := dk_46 (dk_at dksX3_reaches_6 12 rfl rfl)
theorem dX3_reaches_154 : decode cX3_reaches 154 = .ok (.iadd, 1) := dk_96 (dk_at dksX3_reaches_6 13 rfl rfl)
theorem dX3_reaches_155 : decode cX3_reaches 155 = .ok (.invokestatic 137, 3) := dk_184 0 137 (dk_at dksX3_reaches_6 14 rfl rfl)
theorem dX3_reaches_158 : decode cX3_reaches 158 = .ok (.iastore, 1) := dk_79 (dk_at dksX3_reaches_6 17 rfl rfl)
theorem dX3_reaches_159 : decode cX3_reaches 159 = .ok (.iinc 4 1, 3) := dk_132 4 1 (dk_at dksX3_reaches_6 18 rfl rfl)
theorem dX3_reaches_162 : decode cX3_reaches 162 = .ok (.goto (-65), 3) := dk_167 255 191 (dk_at dksX3_reaches_6 21 rfl rfl)
theorem dX3_reaches_165 : decode cX3_reaches 165 = .ok (.iinc 3 1, 3) := dk_132 3 1 (dk_at dksX3_reaches_7 0 rfl rfl)
theorem dX3_reaches_168 : decode cX3_reaches 168 = .ok (.goto (-80), 3) := dk_167 255 176 (dk_at dksX3_reaches_7 3 rfl rfl)
theorem dX3_reaches_171 : decode cX3_reaches 171 = .ok (.iinc 2 1, 3) := dk_132 2 1 (dk_at dksX3_reaches_7 6 rfl rfl)
theorem dX3_reaches_174 : decode cX3_reaches 174 = .ok (.goto (-94), 3) := dk_167 255 162 (dk_at dksX3_reaches_7 9 rfl rfl)
theorem dX3_reaches_177 : decode cX3_reaches 177 = .ok (.iinc 1 1, 3) := dk_132 1 1 (dk_at dksX3_reaches_7 12 rfl rfl)
theorem dX3_reaches_180 : decode cX3_reaches 180 = .ok (.goto (-178), 3) := dk_167 255 78 (dk_at dksX3_reaches_7 15 rfl rfl)
theorem dX3_reaches_183 : decode cX3_reaches 183 = .ok (.return_, 1) := dk_177 (dk_at dksX3_reaches_7 18 rfl rfl)
def dkwX3_clash_1 : List UInt8 := [181, 0, 213, 177]
abbrev dktX3_clash_1 : List UInt8 := dkwX3_clash_1 ++ []
def dkwX3_clash_0 : List UInt8 := [42, 27, 181, 0, 222, 42, 28, 181, 0, 225, 42, 29, 181, 0, 228, 42, 21, 4, 181, 0, 231, 42, 21, 5]
abbrev dktX3_clash_0 : List UInt8 := dkwX3_clash_0 ++ dktX3_clash_1
theorem dksX3_clash_0 : cX3_clash.data.toList.drop 0 = dktX3_clash_0 := by decide +kernel
theorem dksX3_clash_1 : cX3_clash.data.toList.drop 24 = dktX3_clash_1 := dk_seg dksX3_clash_0 24 rfl rfl
theorem dX3_clash_0 : decode cX3_clash 0 = .ok (.aload_n 0, 1) := dk_42 (dk_at dksX3_clash_0 0 rfl rfl)
theorem dX3_clash_1 : decode cX3_clash 1 = .ok (.iload_n 1, 1) := dk_27 (dk_at dksX3_clash_0 1 rfl rfl)
theorem dX3_clash_2 : decode cX3_clash 2 = .ok (.putfield 222, 3) := dk_181 0 222 (dk_at dksX3_clash_0 2 rfl rfl)
theorem dX3_clash_5 : decode cX3_clash 5 = .ok (.aload_n 0, 1) := dk_42 (dk_at dksX3_clash_0 5 rfl rfl)
theorem dX3_clash_6 : decode cX3_clash 6 = .ok (.iload_n 2, 1) := dk_28 (dk_at dksX3_clash_0 6 rfl rfl)
theorem dX3_clash_7 : decode cX3_clash 7 = .ok (.putfield 225, 3) := dk_181 0 225 (dk_at dksX3_clash_0 7 rfl rfl)
theorem dX3_clash_10 : decode cX3_clash 10 = .ok (.aload_n 0, 1) := dk_42 (dk_at dksX3_clash_0 10 rfl rfl)
theorem dX3_clash_11 : decode cX3_clash 11 = .ok (.iload_n 3, 1) := dk_29 (dk_at dksX3_clash_0 11 rfl rfl)
theorem dX3_clash_12 : decode cX3_clash 12 = .ok (.putfield 228, 3) := dk_181 0 228 (dk_at dksX3_clash_0 12 rfl rfl)
theorem dX3_clash_15 : decode cX3_clash 15 = .ok (.aload_n 0, 1) := dk_42 (dk_at dksX3_clash_0 15 rfl rfl)
theorem dX3_clash_16 : decode cX3_clash 16 = .ok (.iload 4, 2) := dk_21 4 (dk_at dksX3_clash_0 16 rfl rfl)
theorem dX3_clash_18 : decode cX3_clash 18 = .ok (.putfield 231, 3) := dk_181 0 231 (dk_at dksX3_clash_0 18 rfl rfl)
theorem dX3_clash_21 : decode cX3_clash 21 = .ok (.aload_n 0, 1) := dk_42 (dk_at dksX3_clash_0 21 rfl rfl)
theorem dX3_clash_22 : decode cX3_clash 22 = .ok (.iload 5, 2) := dk_21 5 (dk_at dksX3_clash_0 22 rfl rfl)
theorem dX3_clash_24 : decode cX3_clash 24 = .ok (.putfield 213, 3) := dk_181 0 213 (dk_at dksX3_clash_1 0 rfl rfl)
theorem dX3_clash_27 : decode cX3_clash 27 = .ok (.return_, 1) := dk_177 (dk_at dksX3_clash_1 3 rfl rfl)
def dkwX3_isParted_0 : List UInt8 := [42, 180, 0, 34, 42, 27, 28, 29, 182, 0, 159, 51, 172]
abbrev dktX3_isParted_0 : List UInt8 := dkwX3_isParted_0 ++ []
theorem dksX3_isParted_0 : cX3_isParted.data.toList.drop 0 = dktX3_isParted_0 := by decide +kernel
theorem dX3_isParted_0 : decode cX3_isParted 0 = .ok (.aload_n 0, 1) := dk_42 (dk_at dksX3_isParted_0 0 rfl rfl)
theorem dX3_isParted_1 : decode cX3_isParted 1 = .ok (.getfield 34, 3) := dk_180 0 34 (dk_at dksX3_isParted_0 1 rfl rfl)
theorem dX3_isParted_4 : decode cX3_isParted 4 = .ok (.aload_n 0, 1) := dk_42 (dk_at dksX3_isParted_0 4 rfl rfl)
theorem dX3_isParted_5 : decode cX3_isParted 5 = .ok (.iload_n 1, 1) := dk_27 (dk_at dksX3_isParted_0 5 rfl rfl)
theorem dX3_isParted_6 : decode cX3_isParted 6 = .ok (.iload_n 2, 1) := dk_28 (dk_at dksX3_isParted_0 6 rfl rfl)
theorem dX3_isParted_7 : decode cX3_isParted 7 = .ok (.iload_n 3, 1) := dk_29 (dk_at dksX3_isParted_0 7 rfl rfl)
theorem dX3_isParted_8 : decode cX3_isParted 8 = .ok (.invokevirtual 159, 3) := dk_182 0 159 (dk_at dksX3_isParted_0 8 rfl rfl)
theorem dX3_isParted_11 : decode cX3_isParted 11 = .ok (.baload, 1) := dk_51 (dk_at dksX3_isParted_0 11 rfl rfl)
theorem dX3_isParted_12 : decode cX3_isParted 12 = .ok (.ireturn, 1) := dk_172 (dk_at dksX3_isParted_0 12 rfl rfl)
def dkwX3_reasons_1 : List UInt8 := [180, 0, 231, 160, 0, 8, 42, 27, 182, 0, 237, 132, 1, 1, 167, 255, 227, 177]
abbrev dktX3_reasons_1 : List UInt8 := dkwX3_reasons_1 ++ []
def dkwX3_reasons_0 : List UInt8 := [42, 3, 181, 0, 234, 3, 60, 27, 5, 162, 0, 30, 42, 180, 0, 228, 4, 159, 0, 11, 27, 42]
abbrev dktX3_reasons_0 : List UInt8 := dkwX3_reasons_0 ++ dktX3_reasons_1
theorem dksX3_reasons_0 : cX3_reasons.data.toList.drop 0 = dktX3_reasons_0 := by decide +kernel
theorem dksX3_reasons_1 : cX3_reasons.data.toList.drop 22 = dktX3_reasons_1 := dk_seg dksX3_reasons_0 22 rfl rfl
theorem dX3_reasons_0 : decode cX3_reasons 0 = .ok (.aload_n 0, 1) := dk_42 (dk_at dksX3_reasons_0 0 rfl rfl)
theorem dX3_reasons_1 : decode cX3_reasons 1 = .ok (.iconst 0, 1) := dk_3 (dk_at dksX3_reasons_0 1 rfl rfl)
theorem dX3_reasons_2 : decode cX3_reasons 2 = .ok (.putfield 234, 3) := dk_181 0 234 (dk_at dksX3_reasons_0 2 rfl rfl)
theorem dX3_reasons_5 : decode cX3_reasons 5 = .ok (.iconst 0, 1) := dk_3 (dk_at dksX3_reasons_0 5 rfl rfl)
theorem dX3_reasons_6 : decode cX3_reasons 6 = .ok (.istore_n 1, 1) := dk_60 (dk_at dksX3_reasons_0 6 rfl rfl)
theorem dX3_reasons_7 : decode cX3_reasons 7 = .ok (.iload_n 1, 1) := dk_27 (dk_at dksX3_reasons_0 7 rfl rfl)
theorem dX3_reasons_8 : decode cX3_reasons 8 = .ok (.iconst 2, 1) := dk_5 (dk_at dksX3_reasons_0 8 rfl rfl)
theorem dX3_reasons_9 : decode cX3_reasons 9 = .ok (.if_icmp .ge 30, 3) := dk_162 0 30 (dk_at dksX3_reasons_0 9 rfl rfl)
theorem dX3_reasons_12 : decode cX3_reasons 12 = .ok (.aload_n 0, 1) := dk_42 (dk_at dksX3_reasons_0 12 rfl rfl)
theorem dX3_reasons_13 : decode cX3_reasons 13 = .ok (.getfield 228, 3) := dk_180 0 228 (dk_at dksX3_reasons_0 13 rfl rfl)
theorem dX3_reasons_16 : decode cX3_reasons 16 = .ok (.iconst 1, 1) := dk_4 (dk_at dksX3_reasons_0 16 rfl rfl)
theorem dX3_reasons_17 : decode cX3_reasons 17 = .ok (.if_icmp .eq 11, 3) := dk_159 0 11 (dk_at dksX3_reasons_0 17 rfl rfl)
theorem dX3_reasons_20 : decode cX3_reasons 20 = .ok (.iload_n 1, 1) := dk_27 (dk_at dksX3_reasons_0 20 rfl rfl)
theorem dX3_reasons_21 : decode cX3_reasons 21 = .ok (.aload_n 0, 1) := dk_42 (dk_at dksX3_reasons_0 21 rfl rfl)
theorem dX3_reasons_22 : decode cX3_reasons 22 = .ok (.getfield 231, 3) := dk_180 0 231 (dk_at dksX3_reasons_1 0 rfl rfl)
theorem dX3_reasons_25 : decode cX3_reasons 25 = .ok (.if_icmp .ne 8, 3) := dk_160 0 8 (dk_at dksX3_reasons_1 3 rfl rfl)
theorem dX3_reasons_28 : decode cX3_reasons 28 = .ok (.aload_n 0, 1) := dk_42 (dk_at dksX3_reasons_1 6 rfl rfl)
theorem dX3_reasons_29 : decode cX3_reasons 29 = .ok (.iload_n 1, 1) := dk_27 (dk_at dksX3_reasons_1 7 rfl rfl)
theorem dX3_reasons_30 : decode cX3_reasons 30 = .ok (.invokevirtual 237, 3) := dk_182 0 237 (dk_at dksX3_reasons_1 8 rfl rfl)
theorem dX3_reasons_33 : decode cX3_reasons 33 = .ok (.iinc 1 1, 3) := dk_132 1 1 (dk_at dksX3_reasons_1 11 rfl rfl)
theorem dX3_reasons_36 : decode cX3_reasons 36 = .ok (.goto (-29), 3) := dk_167 255 227 (dk_at dksX3_reasons_1 14 rfl rfl)
theorem dX3_reasons_39 : decode cX3_reasons 39 = .ok (.return_, 1) := dk_177 (dk_at dksX3_reasons_1 17 rfl rfl)
def dkwX3_goes_5 : List UInt8 := [177]
abbrev dktX3_goes_5 : List UInt8 := dkwX3_goes_5 ++ []
def dkwX3_goes_4 : List UInt8 := [180, 0, 55, 42, 180, 0, 234, 27, 79, 42, 89, 180, 0, 234, 4, 96, 181, 0, 234, 29, 61, 167, 255, 148]
abbrev dktX3_goes_4 : List UInt8 := dkwX3_goes_4 ++ dktX3_goes_5
def dkwX3_goes_3 : List UInt8 := [167, 255, 203, 42, 180, 0, 49, 42, 180, 0, 234, 28, 79, 42, 180, 0, 52, 42, 180, 0, 234, 29, 79, 42]
abbrev dktX3_goes_3 : List UInt8 := dkwX3_goes_3 ++ dktX3_goes_4
def dkwX3_goes_2 : List UInt8 := [180, 0, 37, 42, 27, 28, 42, 180, 0, 225, 182, 0, 159, 46, 4, 100, 159, 0, 9, 132, 3, 1]
abbrev dktX3_goes_2 : List UInt8 := dkwX3_goes_2 ++ dktX3_goes_3
def dkwX3_goes_1 : List UInt8 := [182, 0, 159, 51, 153, 0, 38, 42, 180, 0, 37, 42, 27, 29, 42, 180, 0, 225, 182, 0, 159, 46, 42]
abbrev dktX3_goes_1 : List UInt8 := dkwX3_goes_1 ++ dktX3_goes_2
def dkwX3_goes_0 : List UInt8 := [42, 180, 0, 222, 61, 28, 42, 180, 0, 225, 159, 0, 106, 3, 62, 42, 180, 0, 30, 42, 27, 28, 29]
abbrev dktX3_goes_0 : List UInt8 := dkwX3_goes_0 ++ dktX3_goes_1
theorem dksX3_goes_0 : cX3_goes.data.toList.drop 0 = dktX3_goes_0 := by decide +kernel
theorem dksX3_goes_1 : cX3_goes.data.toList.drop 23 = dktX3_goes_1 := dk_seg dksX3_goes_0 23 rfl rfl
theorem dksX3_goes_2 : cX3_goes.data.toList.drop 46 = dktX3_goes_2 := dk_seg dksX3_goes_1 23 rfl rfl
theorem dksX3_goes_3 : cX3_goes.data.toList.drop 68 = dktX3_goes_3 := dk_seg dksX3_goes_2 22 rfl rfl
theorem dksX3_goes_4 : cX3_goes.data.toList.drop 92 = dktX3_goes_4 := dk_seg dksX3_goes_3 24 rfl rfl
theorem dksX3_goes_5 : cX3_goes.data.toList.drop 116 = dktX3_goes_5 := dk_seg dksX3_goes_4 24 rfl rfl
theorem dX3_goes_0 : decode cX3_goes 0 = .ok (.aload_n 0, 1) := dk_42 (dk_at dksX3_goes_0 0 rfl rfl)
theorem dX3_goes_1 : decode cX3_goes 1 = .ok (.getfield 222, 3) := dk_180 0 222 (dk_at dksX3_goes_0 1 rfl rfl)
theorem dX3_goes_4 : decode cX3_goes 4 = .ok (.istore_n 2, 1) := dk_61 (dk_at dksX3_goes_0 4 rfl rfl)
theorem dX3_goes_5 : decode cX3_goes 5 = .ok (.iload_n 2, 1) := dk_28 (dk_at dksX3_goes_0 5 rfl rfl)
theorem dX3_goes_6 : decode cX3_goes 6 = .ok (.aload_n 0, 1) := dk_42 (dk_at dksX3_goes_0 6 rfl rfl)
theorem dX3_goes_7 : decode cX3_goes 7 = .ok (.getfield 225, 3) := dk_180 0 225 (dk_at dksX3_goes_0 7 rfl rfl)
theorem dX3_goes_10 : decode cX3_goes 10 = .ok (.if_icmp .eq 106, 3) := dk_159 0 106 (dk_at dksX3_goes_0 10 rfl rfl)
theorem dX3_goes_13 : decode cX3_goes 13 = .ok (.iconst 0, 1) := dk_3 (dk_at dksX3_goes_0 13 rfl rfl)
theorem dX3_goes_14 : decode cX3_goes 14 = .ok (.istore_n 3, 1) := dk_62 (dk_at dksX3_goes_0 14 rfl rfl)
theorem dX3_goes_15 : decode cX3_goes 15 = .ok (.aload_n 0, 1) := dk_42 (dk_at dksX3_goes_0 15 rfl rfl)
theorem dX3_goes_16 : decode cX3_goes 16 = .ok (.getfield 30, 3) := dk_180 0 30 (dk_at dksX3_goes_0 16 rfl rfl)
theorem dX3_goes_19 : decode cX3_goes 19 = .ok (.aload_n 0, 1) := dk_42 (dk_at dksX3_goes_0 19 rfl rfl)
theorem dX3_goes_20 : decode cX3_goes 20 = .ok (.iload_n 1, 1) := dk_27 (dk_at dksX3_goes_0 20 rfl rfl)
theorem dX3_goes_21 : decode cX3_goes 21 = .ok (.iload_n 2, 1) := dk_28 (dk_at dksX3_goes_0 21 rfl rfl)
theorem dX3_goes_22 : decode cX3_goes 22 = .ok (.iload_n 3, 1) := dk_29 (dk_at dksX3_goes_0 22 rfl rfl)
theorem dX3_goes_23 : decode cX3_goes 23 = .ok (.invokevirtual 159, 3) := dk_182 0 159 (dk_at dksX3_goes_1 0 rfl rfl)
theorem dX3_goes_26 : decode cX3_goes 26 = .ok (.baload, 1) := dk_51 (dk_at dksX3_goes_1 3 rfl rfl)
theorem dX3_goes_27 : decode cX3_goes 27 = .ok (.ifCond .eq 38, 3) := dk_153 0 38 (dk_at dksX3_goes_1 4 rfl rfl)
theorem dX3_goes_30 : decode cX3_goes 30 = .ok (.aload_n 0, 1) := dk_42 (dk_at dksX3_goes_1 7 rfl rfl)
theorem dX3_goes_31 : decode cX3_goes 31 = .ok (.getfield 37, 3) := dk_180 0 37 (dk_at dksX3_goes_1 8 rfl rfl)
theorem dX3_goes_34 : decode cX3_goes 34 = .ok (.aload_n 0, 1) := dk_42 (dk_at dksX3_goes_1 11 rfl rfl)
theorem dX3_goes_35 : decode cX3_goes 35 = .ok (.iload_n 1, 1) := dk_27 (dk_at dksX3_goes_1 12 rfl rfl)
theorem dX3_goes_36 : decode cX3_goes 36 = .ok (.iload_n 3, 1) := dk_29 (dk_at dksX3_goes_1 13 rfl rfl)
theorem dX3_goes_37 : decode cX3_goes 37 = .ok (.aload_n 0, 1) := dk_42 (dk_at dksX3_goes_1 14 rfl rfl)
theorem dX3_goes_38 : decode cX3_goes 38 = .ok (.getfield 225, 3) := dk_180 0 225 (dk_at dksX3_goes_1 15 rfl rfl)
theorem dX3_goes_41 : decode cX3_goes 41 = .ok (.invokevirtual 159, 3) := dk_182 0 159 (dk_at dksX3_goes_1 18 rfl rfl)
theorem dX3_goes_44 : decode cX3_goes 44 = .ok (.iaload, 1) := dk_46 (dk_at dksX3_goes_1 21 rfl rfl)
theorem dX3_goes_45 : decode cX3_goes 45 = .ok (.aload_n 0, 1) := dk_42 (dk_at dksX3_goes_1 22 rfl rfl)
theorem dX3_goes_46 : decode cX3_goes 46 = .ok (.getfield 37, 3) := dk_180 0 37 (dk_at dksX3_goes_2 0 rfl rfl)
theorem dX3_goes_49 : decode cX3_goes 49 = .ok (.aload_n 0, 1) := dk_42 (dk_at dksX3_goes_2 3 rfl rfl)
theorem dX3_goes_50 : decode cX3_goes 50 = .ok (.iload_n 1, 1) := dk_27 (dk_at dksX3_goes_2 4 rfl rfl)
theorem dX3_goes_51 : decode cX3_goes 51 = .ok (.iload_n 2, 1) := dk_28 (dk_at dksX3_goes_2 5 rfl rfl)
theorem dX3_goes_52 : decode cX3_goes 52 = .ok (.aload_n 0, 1) := dk_42 (dk_at dksX3_goes_2 6 rfl rfl)
theorem dX3_goes_53 : decode cX3_goes 53 = .ok (.getfield 225, 3) := dk_180 0 225 (dk_at dksX3_goes_2 7 rfl rfl)
theorem dX3_goes_56 : decode cX3_goes 56 = .ok (.invokevirtual 159, 3) := dk_182 0 159 (dk_at dksX3_goes_2 10 rfl rfl)
theorem dX3_goes_59 : decode cX3_goes 59 = .ok (.iaload, 1) := dk_46 (dk_at dksX3_goes_2 13 rfl rfl)
theorem dX3_goes_60 : decode cX3_goes 60 = .ok (.iconst 1, 1) := dk_4 (dk_at dksX3_goes_2 14 rfl rfl)
theorem dX3_goes_61 : decode cX3_goes 61 = .ok (.isub, 1) := dk_100 (dk_at dksX3_goes_2 15 rfl rfl)
theorem dX3_goes_62 : decode cX3_goes 62 = .ok (.if_icmp .eq 9, 3) := dk_159 0 9 (dk_at dksX3_goes_2 16 rfl rfl)
theorem dX3_goes_65 : decode cX3_goes 65 = .ok (.iinc 3 1, 3) := dk_132 3 1 (dk_at dksX3_goes_2 19 rfl rfl)
theorem dX3_goes_68 : decode cX3_goes 68 = .ok (.goto (-53), 3) := dk_167 255 203 (dk_at dksX3_goes_3 0 rfl rfl)
theorem dX3_goes_71 : decode cX3_goes 71 = .ok (.aload_n 0, 1) := dk_42 (dk_at dksX3_goes_3 3 rfl rfl)
theorem dX3_goes_72 : decode cX3_goes 72 = .ok (.getfield 49, 3) := dk_180 0 49 (dk_at dksX3_goes_3 4 rfl rfl)
theorem dX3_goes_75 : decode cX3_goes 75 = .ok (.aload_n 0, 1) := dk_42 (dk_at dksX3_goes_3 7 rfl rfl)
theorem dX3_goes_76 : decode cX3_goes 76 = .ok (.getfield 234, 3) := dk_180 0 234 (dk_at dksX3_goes_3 8 rfl rfl)
theorem dX3_goes_79 : decode cX3_goes 79 = .ok (.iload_n 2, 1) := dk_28 (dk_at dksX3_goes_3 11 rfl rfl)
theorem dX3_goes_80 : decode cX3_goes 80 = .ok (.iastore, 1) := dk_79 (dk_at dksX3_goes_3 12 rfl rfl)
theorem dX3_goes_81 : decode cX3_goes 81 = .ok (.aload_n 0, 1) := dk_42 (dk_at dksX3_goes_3 13 rfl rfl)
theorem dX3_goes_82 : decode cX3_goes 82 = .ok (.getfield 52, 3) := dk_180 0 52 (dk_at dksX3_goes_3 14 rfl rfl)
theorem dX3_goes_85 : decode cX3_goes 85 = .ok (.aload_n 0, 1) := dk_42 (dk_at dksX3_goes_3 17 rfl rfl)
theorem dX3_goes_86 : decode cX3_goes 86 = .ok (.getfield 234, 3) := dk_180 0 234 (dk_at dksX3_goes_3 18 rfl rfl)
theorem dX3_goes_89 : decode cX3_goes 89 = .ok (.iload_n 3, 1) := dk_29 (dk_at dksX3_goes_3 21 rfl rfl)
theorem dX3_goes_90 : decode cX3_goes 90 = .ok (.iastore, 1) := dk_79 (dk_at dksX3_goes_3 22 rfl rfl)
theorem dX3_goes_91 : decode cX3_goes 91 = .ok (.aload_n 0, 1) := dk_42 (dk_at dksX3_goes_3 23 rfl rfl)
theorem dX3_goes_92 : decode cX3_goes 92 = .ok (.getfield 55, 3) := dk_180 0 55 (dk_at dksX3_goes_4 0 rfl rfl)
theorem dX3_goes_95 : decode cX3_goes 95 = .ok (.aload_n 0, 1) := dk_42 (dk_at dksX3_goes_4 3 rfl rfl)
theorem dX3_goes_96 : decode cX3_goes 96 = .ok (.getfield 234, 3) := dk_180 0 234 (dk_at dksX3_goes_4 4 rfl rfl)
theorem dX3_goes_99 : decode cX3_goes 99 = .ok (.iload_n 1, 1) := dk_27 (dk_at dksX3_goes_4 7 rfl rfl)
theorem dX3_goes_100 : decode cX3_goes 100 = .ok (.iastore, 1) := dk_79 (dk_at dksX3_goes_4 8 rfl rfl)
theorem dX3_goes_101 : decode cX3_goes 101 = .ok (.aload_n 0, 1) := dk_42 (dk_at dksX3_goes_4 9 rfl rfl)
theorem dX3_goes_102 : decode cX3_goes 102 = .ok (.dup, 1) := dk_89 (dk_at dksX3_goes_4 10 rfl rfl)
theorem dX3_goes_103 : decode cX3_goes 103 = .ok (.getfield 234, 3) := dk_180 0 234 (dk_at dksX3_goes_4 11 rfl rfl)
theorem dX3_goes_106 : decode cX3_goes 106 = .ok (.iconst 1, 1) := dk_4 (dk_at dksX3_goes_4 14 rfl rfl)
theorem dX3_goes_107 : decode cX3_goes 107 = .ok (.iadd, 1) := dk_96 (dk_at dksX3_goes_4 15 rfl rfl)
theorem dX3_goes_108 : decode cX3_goes 108 = .ok (.putfield 234, 3) := dk_181 0 234 (dk_at dksX3_goes_4 16 rfl rfl)
theorem dX3_goes_111 : decode cX3_goes 111 = .ok (.iload_n 3, 1) := dk_29 (dk_at dksX3_goes_4 19 rfl rfl)
theorem dX3_goes_112 : decode cX3_goes 112 = .ok (.istore_n 2, 1) := dk_61 (dk_at dksX3_goes_4 20 rfl rfl)
theorem dX3_goes_113 : decode cX3_goes 113 = .ok (.goto (-108), 3) := dk_167 255 148 (dk_at dksX3_goes_4 21 rfl rfl)
theorem dX3_goes_116 : decode cX3_goes 116 = .ok (.return_, 1) := dk_177 (dk_at dksX3_goes_5 0 rfl rfl)
def dkwX3_isOfOne_1 : List UInt8 := [160, 0, 7, 4, 167, 0, 4, 3, 172]
abbrev dktX3_isOfOne_1 : List UInt8 := dkwX3_isOfOne_1 ++ []
def dkwX3_isOfOne_0 : List UInt8 := [42, 180, 0, 40, 16, 40, 27, 104, 28, 96, 46, 42, 180, 0, 40, 16, 40, 27, 104, 29, 96, 46]
abbrev dktX3_isOfOne_0 : List UInt8 := dkwX3_isOfOne_0 ++ dktX3_isOfOne_1
theorem dksX3_isOfOne_0 : cX3_isOfOne.data.toList.drop 0 = dktX3_isOfOne_0 := by decide +kernel
theorem dksX3_isOfOne_1 : cX3_isOfOne.data.toList.drop 22 = dktX3_isOfOne_1 := dk_seg dksX3_isOfOne_0 22 rfl rfl
theorem dX3_isOfOne_0 : decode cX3_isOfOne 0 = .ok (.aload_n 0, 1) := dk_42 (dk_at dksX3_isOfOne_0 0 rfl rfl)
theorem dX3_isOfOne_1 : decode cX3_isOfOne 1 = .ok (.getfield 40, 3) := dk_180 0 40 (dk_at dksX3_isOfOne_0 1 rfl rfl)
theorem dX3_isOfOne_4 : decode cX3_isOfOne 4 = .ok (.bipush 40, 2) := dk_16 40 (dk_at dksX3_isOfOne_0 4 rfl rfl)
theorem dX3_isOfOne_6 : decode cX3_isOfOne 6 = .ok (.iload_n 1, 1) := dk_27 (dk_at dksX3_isOfOne_0 6 rfl rfl)
theorem dX3_isOfOne_7 : decode cX3_isOfOne 7 = .ok (.imul, 1) := dk_104 (dk_at dksX3_isOfOne_0 7 rfl rfl)
theorem dX3_isOfOne_8 : decode cX3_isOfOne 8 = .ok (.iload_n 2, 1) := dk_28 (dk_at dksX3_isOfOne_0 8 rfl rfl)
theorem dX3_isOfOne_9 : decode cX3_isOfOne 9 = .ok (.iadd, 1) := dk_96 (dk_at dksX3_isOfOne_0 9 rfl rfl)
theorem dX3_isOfOne_10 : decode cX3_isOfOne 10 = .ok (.iaload, 1) := dk_46 (dk_at dksX3_isOfOne_0 10 rfl rfl)
theorem dX3_isOfOne_11 : decode cX3_isOfOne 11 = .ok (.aload_n 0, 1) := dk_42 (dk_at dksX3_isOfOne_0 11 rfl rfl)
theorem dX3_isOfOne_12 : decode cX3_isOfOne 12 = .ok (.getfield 40, 3) := dk_180 0 40 (dk_at dksX3_isOfOne_0 12 rfl rfl)
theorem dX3_isOfOne_15 : decode cX3_isOfOne 15 = .ok (.bipush 40, 2) := dk_16 40 (dk_at dksX3_isOfOne_0 15 rfl rfl)
theorem dX3_isOfOne_17 : decode cX3_isOfOne 17 = .ok (.iload_n 1, 1) := dk_27 (dk_at dksX3_isOfOne_0 17 rfl rfl)
theorem dX3_isOfOne_18 : decode cX3_isOfOne 18 = .ok (.imul, 1) := dk_104 (dk_at dksX3_isOfOne_0 18 rfl rfl)
theorem dX3_isOfOne_19 : decode cX3_isOfOne 19 = .ok (.iload_n 3, 1) := dk_29 (dk_at dksX3_isOfOne_0 19 rfl rfl)
theorem dX3_isOfOne_20 : decode cX3_isOfOne 20 = .ok (.iadd, 1) := dk_96 (dk_at dksX3_isOfOne_0 20 rfl rfl)
theorem dX3_isOfOne_21 : decode cX3_isOfOne 21 = .ok (.iaload, 1) := dk_46 (dk_at dksX3_isOfOne_0 21 rfl rfl)
theorem dX3_isOfOne_22 : decode cX3_isOfOne 22 = .ok (.if_icmp .ne 7, 3) := dk_160 0 7 (dk_at dksX3_isOfOne_1 0 rfl rfl)
theorem dX3_isOfOne_25 : decode cX3_isOfOne 25 = .ok (.iconst 1, 1) := dk_4 (dk_at dksX3_isOfOne_1 3 rfl rfl)
theorem dX3_isOfOne_26 : decode cX3_isOfOne 26 = .ok (.goto 4, 3) := dk_167 0 4 (dk_at dksX3_isOfOne_1 4 rfl rfl)
theorem dX3_isOfOne_29 : decode cX3_isOfOne 29 = .ok (.iconst 0, 1) := dk_3 (dk_at dksX3_isOfOne_1 7 rfl rfl)
theorem dX3_isOfOne_30 : decode cX3_isOfOne 30 = .ok (.ireturn, 1) := dk_172 (dk_at dksX3_isOfOne_1 8 rfl rfl)
def dkwX18_init_5 : List UInt8 := [42, 25, 4, 180, 0, 46, 25, 4, 180, 0, 50, 29, 182, 0, 54, 132, 3, 1, 167, 255, 198, 177]
abbrev dktX18_init_5 : List UInt8 := dkwX18_init_5 ++ []
def dkwX18_init_4 : List UInt8 := [182, 0, 36, 192, 0, 40, 58, 4, 28, 29, 122, 4, 126, 154, 0, 26, 43, 29, 182, 0, 42, 153, 0, 18]
abbrev dktX18_init_4 : List UInt8 := dkwX18_init_4 ++ dktX18_init_5
def dkwX18_init_3 : List UInt8 := [132, 3, 1, 167, 255, 239, 3, 62, 29, 43, 180, 0, 26, 182, 0, 30, 162, 0, 53, 43, 180, 0, 26, 29]
abbrev dktX18_init_3 : List UInt8 := dkwX18_init_3 ++ dktX18_init_4
def dkwX18_init_2 : List UInt8 := [132, 3, 1, 167, 255, 239, 3, 62, 29, 17, 0, 192, 162, 0, 16, 43, 180, 0, 22, 29, 3, 84]
abbrev dktX18_init_2 : List UInt8 := dkwX18_init_2 ++ dktX18_init_3
def dkwX18_init_1 : List UInt8 := [132, 3, 1, 167, 255, 240, 3, 62, 29, 17, 0, 135, 162, 0, 16, 43, 180, 0, 19, 29, 2, 79]
abbrev dktX18_init_1 : List UInt8 := dkwX18_init_1 ++ dktX18_init_2
def dkwX18_init_0 : List UInt8 := [42, 43, 181, 0, 3, 42, 183, 0, 9, 3, 62, 29, 16, 40, 162, 0, 16, 43, 180, 0, 15, 29, 2, 79]
abbrev dktX18_init_0 : List UInt8 := dkwX18_init_0 ++ dktX18_init_1
theorem dksX18_init_0 : cX18_init.data.toList.drop 0 = dktX18_init_0 := by decide +kernel
theorem dksX18_init_1 : cX18_init.data.toList.drop 24 = dktX18_init_1 := dk_seg dksX18_init_0 24 rfl rfl
theorem dksX18_init_2 : cX18_init.data.toList.drop 46 = dktX18_init_2 := dk_seg dksX18_init_1 22 rfl rfl
theorem dksX18_init_3 : cX18_init.data.toList.drop 68 = dktX18_init_3 := dk_seg dksX18_init_2 22 rfl rfl
theorem dksX18_init_4 : cX18_init.data.toList.drop 92 = dktX18_init_4 := dk_seg dksX18_init_3 24 rfl rfl
theorem dksX18_init_5 : cX18_init.data.toList.drop 116 = dktX18_init_5 := dk_seg dksX18_init_4 24 rfl rfl
theorem dX18_init_0 : decode cX18_init 0 = .ok (.aload_n 0, 1) := dk_42 (dk_at dksX18_init_0 0 rfl rfl)
theorem dX18_init_1 : decode cX18_init 1 = .ok (.aload_n 1, 1) := dk_43 (dk_at dksX18_init_0 1 rfl rfl)
theorem dX18_init_2 : decode cX18_init 2 = .ok (.putfield 3, 3) := dk_181 0 3 (dk_at dksX18_init_0 2 rfl rfl)
theorem dX18_init_5 : decode cX18_init 5 = .ok (.aload_n 0, 1) := dk_42 (dk_at dksX18_init_0 5 rfl rfl)
theorem dX18_init_6 : decode cX18_init 6 = .ok (.invokespecial 9, 3) := dk_183 0 9 (dk_at dksX18_init_0 6 rfl rfl)
theorem dX18_init_9 : decode cX18_init 9 = .ok (.iconst 0, 1) := dk_3 (dk_at dksX18_init_0 9 rfl rfl)
theorem dX18_init_10 : decode cX18_init 10 = .ok (.istore_n 3, 1) := dk_62 (dk_at dksX18_init_0 10 rfl rfl)
theorem dX18_init_11 : decode cX18_init 11 = .ok (.iload_n 3, 1) := dk_29 (dk_at dksX18_init_0 11 rfl rfl)
theorem dX18_init_12 : decode cX18_init 12 = .ok (.bipush 40, 2) := dk_16 40 (dk_at dksX18_init_0 12 rfl rfl)
theorem dX18_init_14 : decode cX18_init 14 = .ok (.if_icmp .ge 16, 3) := dk_162 0 16 (dk_at dksX18_init_0 14 rfl rfl)
theorem dX18_init_17 : decode cX18_init 17 = .ok (.aload_n 1, 1) := dk_43 (dk_at dksX18_init_0 17 rfl rfl)
theorem dX18_init_18 : decode cX18_init 18 = .ok (.getfield 15, 3) := dk_180 0 15 (dk_at dksX18_init_0 18 rfl rfl)
theorem dX18_init_21 : decode cX18_init 21 = .ok (.iload_n 3, 1) := dk_29 (dk_at dksX18_init_0 21 rfl rfl)
theorem dX18_init_22 : decode cX18_init 22 = .ok (.iconst (-1), 1) := dk_2 (dk_at dksX18_init_0 22 rfl rfl)
theorem dX18_init_23 : decode cX18_init 23 = .ok (.iastore, 1) := dk_79 (dk_at dksX18_init_0 23 rfl rfl)
theorem dX18_init_24 : decode cX18_init 24 = .ok (.iinc 3 1, 3) := dk_132 3 1 (dk_at dksX18_init_1 0 rfl rfl)
theorem dX18_init_27 : decode cX18_init 27 = .ok (.goto (-16), 3) := dk_167 255 240 (dk_at dksX18_init_1 3 rfl rfl)
theorem dX18_init_30 : decode cX18_init 30 = .ok (.iconst 0, 1) := dk_3 (dk_at dksX18_init_1 6 rfl rfl)
theorem dX18_init_31 : decode cX18_init 31 = .ok (.istore_n 3, 1) := dk_62 (dk_at dksX18_init_1 7 rfl rfl)
theorem dX18_init_32 : decode cX18_init 32 = .ok (.iload_n 3, 1) := dk_29 (dk_at dksX18_init_1 8 rfl rfl)
theorem dX18_init_33 : decode cX18_init 33 = .ok (.sipush 135, 3) := dk_17 0 135 (dk_at dksX18_init_1 9 rfl rfl)
theorem dX18_init_36 : decode cX18_init 36 = .ok (.if_icmp .ge 16, 3) := dk_162 0 16 (dk_at dksX18_init_1 12 rfl rfl)
theorem dX18_init_39 : decode cX18_init 39 = .ok (.aload_n 1, 1) := dk_43 (dk_at dksX18_init_1 15 rfl rfl)
theorem dX18_init_40 : decode cX18_init 40 = .ok (.getfield 19, 3) := dk_180 0 19 (dk_at dksX18_init_1 16 rfl rfl)
theorem dX18_init_43 : decode cX18_init 43 = .ok (.iload_n 3, 1) := dk_29 (dk_at dksX18_init_1 19 rfl rfl)
theorem dX18_init_44 : decode cX18_init 44 = .ok (.iconst (-1), 1) := dk_2 (dk_at dksX18_init_1 20 rfl rfl)
theorem dX18_init_45 : decode cX18_init 45 = .ok (.iastore, 1) := dk_79 (dk_at dksX18_init_1 21 rfl rfl)
theorem dX18_init_46 : decode cX18_init 46 = .ok (.iinc 3 1, 3) := dk_132 3 1 (dk_at dksX18_init_2 0 rfl rfl)
theorem dX18_init_49 : decode cX18_init 49 = .ok (.goto (-17), 3) := dk_167 255 239 (dk_at dksX18_init_2 3 rfl rfl)
theorem dX18_init_52 : decode cX18_init 52 = .ok (.iconst 0, 1) := dk_3 (dk_at dksX18_init_2 6 rfl rfl)
theorem dX18_init_53 : decode cX18_init 53 = .ok (.istore_n 3, 1) := dk_62 (dk_at dksX18_init_2 7 rfl rfl)
theorem dX18_init_54 : decode cX18_init 54 = .ok (.iload_n 3, 1) := dk_29 (dk_at dksX18_init_2 8 rfl rfl)
theorem dX18_init_55 : decode cX18_init 55 = .ok (.sipush 192, 3) := dk_17 0 192 (dk_at dksX18_init_2 9 rfl rfl)
theorem dX18_init_58 : decode cX18_init 58 = .ok (.if_icmp .ge 16, 3) := dk_162 0 16 (dk_at dksX18_init_2 12 rfl rfl)
theorem dX18_init_61 : decode cX18_init 61 = .ok (.aload_n 1, 1) := dk_43 (dk_at dksX18_init_2 15 rfl rfl)
theorem dX18_init_62 : decode cX18_init 62 = .ok (.getfield 22, 3) := dk_180 0 22 (dk_at dksX18_init_2 16 rfl rfl)
theorem dX18_init_65 : decode cX18_init 65 = .ok (.iload_n 3, 1) := dk_29 (dk_at dksX18_init_2 19 rfl rfl)
theorem dX18_init_66 : decode cX18_init 66 = .ok (.iconst 0, 1) := dk_3 (dk_at dksX18_init_2 20 rfl rfl)
theorem dX18_init_67 : decode cX18_init 67 = .ok (.bastore, 1) := dk_84 (dk_at dksX18_init_2 21 rfl rfl)
theorem dX18_init_68 : decode cX18_init 68 = .ok (.iinc 3 1, 3) := dk_132 3 1 (dk_at dksX18_init_3 0 rfl rfl)
theorem dX18_init_71 : decode cX18_init 71 = .ok (.goto (-17), 3) := dk_167 255 239 (dk_at dksX18_init_3 3 rfl rfl)
theorem dX18_init_74 : decode cX18_init 74 = .ok (.iconst 0, 1) := dk_3 (dk_at dksX18_init_3 6 rfl rfl)
theorem dX18_init_75 : decode cX18_init 75 = .ok (.istore_n 3, 1) := dk_62 (dk_at dksX18_init_3 7 rfl rfl)
theorem dX18_init_76 : decode cX18_init 76 = .ok (.iload_n 3, 1) := dk_29 (dk_at dksX18_init_3 8 rfl rfl)
theorem dX18_init_77 : decode cX18_init 77 = .ok (.aload_n 1, 1) := dk_43 (dk_at dksX18_init_3 9 rfl rfl)
theorem dX18_init_78 : decode cX18_init 78 = .ok (.getfield 26, 3) := dk_180 0 26 (dk_at dksX18_init_3 10 rfl rfl)
theorem dX18_init_81 : decode cX18_init 81 = .ok (.invokevirtual 30, 3) := dk_182 0 30 (dk_at dksX18_init_3 13 rfl rfl)
theorem dX18_init_84 : decode cX18_init 84 = .ok (.if_icmp .ge 53, 3) := dk_162 0 53 (dk_at dksX18_init_3 16 rfl rfl)
theorem dX18_init_87 : decode cX18_init 87 = .ok (.aload_n 1, 1) := dk_43 (dk_at dksX18_init_3 19 rfl rfl)
theorem dX18_init_88 : decode cX18_init 88 = .ok (.getfield 26, 3) := dk_180 0 26 (dk_at dksX18_init_3 20 rfl rfl)
theorem dX18_init_91 : decode cX18_init 91 = .ok (.iload_n 3, 1) := dk_29 (dk_at dksX18_init_3 23 rfl rfl)
theorem dX18_init_92 : decode cX18_init 92 = .ok (.invokevirtual 36, 3) := dk_182 0 36 (dk_at dksX18_init_4 0 rfl rfl)
theorem dX18_init_95 : decode cX18_init 95 = .ok (.checkcast 40, 3) := dk_192 0 40 (dk_at dksX18_init_4 3 rfl rfl)
theorem dX18_init_98 : decode cX18_init 98 = .ok (.astore 4, 2) := dk_58 4 (dk_at dksX18_init_4 6 rfl rfl)
theorem dX18_init_100 : decode cX18_init 100 = .ok (.iload_n 2, 1) := dk_28 (dk_at dksX18_init_4 8 rfl rfl)
theorem dX18_init_101 : decode cX18_init 101 = .ok (.iload_n 3, 1) := dk_29 (dk_at dksX18_init_4 9 rfl rfl)
theorem dX18_init_102 : decode cX18_init 102 = .ok (.ishr, 1) := dk_122 (dk_at dksX18_init_4 10 rfl rfl)
theorem dX18_init_103 : decode cX18_init 103 = .ok (.iconst 1, 1) := dk_4 (dk_at dksX18_init_4 11 rfl rfl)
theorem dX18_init_104 : decode cX18_init 104 = .ok (.iand, 1) := dk_126 (dk_at dksX18_init_4 12 rfl rfl)
theorem dX18_init_105 : decode cX18_init 105 = .ok (.ifCond .ne 26, 3) := dk_154 0 26 (dk_at dksX18_init_4 13 rfl rfl)
theorem dX18_init_108 : decode cX18_init 108 = .ok (.aload_n 1, 1) := dk_43 (dk_at dksX18_init_4 16 rfl rfl)
theorem dX18_init_109 : decode cX18_init 109 = .ok (.iload_n 3, 1) := dk_29 (dk_at dksX18_init_4 17 rfl rfl)
theorem dX18_init_110 : decode cX18_init 110 = .ok (.invokevirtual 42, 3) := dk_182 0 42 (dk_at dksX18_init_4 18 rfl rfl)
theorem dX18_init_113 : decode cX18_init 113 = .ok (.ifCond .eq 18, 3) := dk_153 0 18 (dk_at dksX18_init_4 21 rfl rfl)
theorem dX18_init_116 : decode cX18_init 116 = .ok (.aload_n 0, 1) := dk_42 (dk_at dksX18_init_5 0 rfl rfl)
theorem dX18_init_117 : decode cX18_init 117 = .ok (.aload 4, 2) := dk_25 4 (dk_at dksX18_init_5 1 rfl rfl)
theorem dX18_init_119 : decode cX18_init 119 = .ok (.getfield 46, 3) := dk_180 0 46 (dk_at dksX18_init_5 3 rfl rfl)
theorem dX18_init_122 : decode cX18_init 122 = .ok (.aload 4, 2) := dk_25 4 (dk_at dksX18_init_5 6 rfl rfl)
theorem dX18_init_124 : decode cX18_init 124 = .ok (.getfield 50, 3) := dk_180 0 50 (dk_at dksX18_init_5 8 rfl rfl)
theorem dX18_init_127 : decode cX18_init 127 = .ok (.iload_n 3, 1) := dk_29 (dk_at dksX18_init_5 11 rfl rfl)
theorem dX18_init_128 : decode cX18_init 128 = .ok (.invokevirtual 54, 3) := dk_182 0 54 (dk_at dksX18_init_5 12 rfl rfl)
theorem dX18_init_131 : decode cX18_init 131 = .ok (.iinc 3 1, 3) := dk_132 3 1 (dk_at dksX18_init_5 15 rfl rfl)
theorem dX18_init_134 : decode cX18_init 134 = .ok (.goto (-58), 3) := dk_167 255 198 (dk_at dksX18_init_5 18 rfl rfl)
theorem dX18_init_137 : decode cX18_init 137 = .ok (.return_, 1) := dk_177 (dk_at dksX18_init_5 21 rfl rfl)
def dkwX18_adds_1 : List UInt8 := [96, 181, 0, 62, 177]
abbrev dktX18_adds_1 : List UInt8 := dkwX18_adds_1 ++ []
def dkwX18_adds_0 : List UInt8 := [42, 180, 0, 3, 180, 0, 58, 42, 180, 0, 62, 50, 43, 28, 29, 182, 0, 65, 42, 89, 180, 0, 62, 4]
abbrev dktX18_adds_0 : List UInt8 := dkwX18_adds_0 ++ dktX18_adds_1
theorem dksX18_adds_0 : cX18_adds.data.toList.drop 0 = dktX18_adds_0 := by decide +kernel
theorem dksX18_adds_1 : cX18_adds.data.toList.drop 24 = dktX18_adds_1 := dk_seg dksX18_adds_0 24 rfl rfl
theorem dX18_adds_0 : decode cX18_adds 0 = .ok (.aload_n 0, 1) := dk_42 (dk_at dksX18_adds_0 0 rfl rfl)
theorem dX18_adds_1 : decode cX18_adds 1 = .ok (.getfield 3, 3) := dk_180 0 3 (dk_at dksX18_adds_0 1 rfl rfl)
theorem dX18_adds_4 : decode cX18_adds 4 = .ok (.getfield 58, 3) := dk_180 0 58 (dk_at dksX18_adds_0 4 rfl rfl)
theorem dX18_adds_7 : decode cX18_adds 7 = .ok (.aload_n 0, 1) := dk_42 (dk_at dksX18_adds_0 7 rfl rfl)
theorem dX18_adds_8 : decode cX18_adds 8 = .ok (.getfield 62, 3) := dk_180 0 62 (dk_at dksX18_adds_0 8 rfl rfl)
theorem dX18_adds_11 : decode cX18_adds 11 = .ok (.aaload, 1) := dk_50 (dk_at dksX18_adds_0 11 rfl rfl)
theorem dX18_adds_12 : decode cX18_adds 12 = .ok (.aload_n 1, 1) := dk_43 (dk_at dksX18_adds_0 12 rfl rfl)
theorem dX18_adds_13 : decode cX18_adds 13 = .ok (.iload_n 2, 1) := dk_28 (dk_at dksX18_adds_0 13 rfl rfl)
theorem dX18_adds_14 : decode cX18_adds 14 = .ok (.iload_n 3, 1) := dk_29 (dk_at dksX18_adds_0 14 rfl rfl)
theorem dX18_adds_15 : decode cX18_adds 15 = .ok (.invokevirtual 65, 3) := dk_182 0 65 (dk_at dksX18_adds_0 15 rfl rfl)
theorem dX18_adds_18 : decode cX18_adds 18 = .ok (.aload_n 0, 1) := dk_42 (dk_at dksX18_adds_0 18 rfl rfl)
theorem dX18_adds_19 : decode cX18_adds 19 = .ok (.dup, 1) := dk_89 (dk_at dksX18_adds_0 19 rfl rfl)
theorem dX18_adds_20 : decode cX18_adds 20 = .ok (.getfield 62, 3) := dk_180 0 62 (dk_at dksX18_adds_0 20 rfl rfl)
theorem dX18_adds_23 : decode cX18_adds 23 = .ok (.iconst 1, 1) := dk_4 (dk_at dksX18_adds_0 23 rfl rfl)
theorem dX18_adds_24 : decode cX18_adds 24 = .ok (.iadd, 1) := dk_96 (dk_at dksX18_adds_1 0 rfl rfl)
theorem dX18_adds_25 : decode cX18_adds 25 = .ok (.putfield 62, 3) := dk_181 0 62 (dk_at dksX18_adds_1 1 rfl rfl)
theorem dX18_adds_28 : decode cX18_adds 28 = .ok (.return_, 1) := dk_177 (dk_at dksX18_adds_1 4 rfl rfl)
def dkwX18_go_0 : List UInt8 := [42, 3, 182, 0, 70, 87, 42, 176]
abbrev dktX18_go_0 : List UInt8 := dkwX18_go_0 ++ []
theorem dksX18_go_0 : cX18_go.data.toList.drop 0 = dktX18_go_0 := by decide +kernel
theorem dX18_go_0 : decode cX18_go 0 = .ok (.aload_n 0, 1) := dk_42 (dk_at dksX18_go_0 0 rfl rfl)
theorem dX18_go_1 : decode cX18_go 1 = .ok (.iconst 0, 1) := dk_3 (dk_at dksX18_go_0 1 rfl rfl)
theorem dX18_go_2 : decode cX18_go 2 = .ok (.invokevirtual 70, 3) := dk_182 0 70 (dk_at dksX18_go_0 2 rfl rfl)
theorem dX18_go_5 : decode cX18_go 5 = .ok (.pop, 1) := dk_87 (dk_at dksX18_go_0 5 rfl rfl)
theorem dX18_go_6 : decode cX18_go 6 = .ok (.aload_n 0, 1) := dk_42 (dk_at dksX18_go_0 6 rfl rfl)
theorem dX18_go_7 : decode cX18_go 7 = .ok (.areturn, 1) := dk_176 (dk_at dksX18_go_0 7 rfl rfl)
def dkwX18_tries_7 : List UInt8 := [180, 0, 80, 104, 21, 4, 96, 3, 84, 21, 6, 154, 0, 5, 3, 172, 132, 4, 1, 167, 255, 120, 4, 172]
abbrev dktX18_tries_7 : List UInt8 := dkwX18_tries_7 ++ []
def dkwX18_tries_6 : List UInt8 := [96, 182, 0, 70, 54, 6, 42, 21, 5, 182, 0, 103, 42, 180, 0, 3, 180, 0, 22, 16, 8, 44]
abbrev dktX18_tries_6 : List UInt8 := dkwX18_tries_6 ++ dktX18_tries_7
def dkwX18_tries_5 : List UInt8 := [44, 21, 4, 181, 0, 93, 42, 45, 21, 4, 50, 44, 180, 0, 96, 182, 0, 99, 153, 0, 12, 42, 27, 4]
abbrev dktX18_tries_5 : List UInt8 := dkwX18_tries_5 ++ dktX18_tries_6
def dkwX18_tries_4 : List UInt8 := [54, 5, 4, 54, 6, 42, 180, 0, 3, 180, 0, 22, 16, 8, 44, 180, 0, 80, 104, 21, 4, 96, 4, 84]
abbrev dktX18_tries_4 : List UInt8 := dkwX18_tries_4 ++ dktX18_tries_5
def dkwX18_tries_3 : List UInt8 := [51, 154, 0, 108, 45, 21, 4, 50, 190, 44, 180, 0, 87, 159, 0, 6, 167, 0, 93, 42, 180, 0, 90]
abbrev dktX18_tries_3 : List UInt8 := dkwX18_tries_3 ++ dktX18_tries_4
def dkwX18_tries_2 : List UInt8 := [21, 4, 45, 190, 162, 0, 135, 42, 180, 0, 3, 180, 0, 22, 16, 8, 44, 180, 0, 80, 104, 21, 4, 96]
abbrev dktX18_tries_2 : List UInt8 := dkwX18_tries_2 ++ dktX18_tries_3
def dkwX18_tries_1 : List UInt8 := [180, 0, 3, 180, 0, 77, 44, 180, 0, 80, 182, 0, 36, 192, 0, 81, 180, 0, 83, 78, 3, 54, 4]
abbrev dktX18_tries_1 : List UInt8 := dkwX18_tries_1 ++ dktX18_tries_2
def dkwX18_tries_0 : List UInt8 := [27, 42, 180, 0, 62, 160, 0, 8, 42, 182, 0, 73, 172, 42, 180, 0, 3, 180, 0, 58, 27, 50, 77, 42]
abbrev dktX18_tries_0 : List UInt8 := dkwX18_tries_0 ++ dktX18_tries_1
theorem dksX18_tries_0 : cX18_tries.data.toList.drop 0 = dktX18_tries_0 := by decide +kernel
theorem dksX18_tries_1 : cX18_tries.data.toList.drop 24 = dktX18_tries_1 := dk_seg dksX18_tries_0 24 rfl rfl
theorem dksX18_tries_2 : cX18_tries.data.toList.drop 47 = dktX18_tries_2 := dk_seg dksX18_tries_1 23 rfl rfl
theorem dksX18_tries_3 : cX18_tries.data.toList.drop 71 = dktX18_tries_3 := dk_seg dksX18_tries_2 24 rfl rfl
theorem dksX18_tries_4 : cX18_tries.data.toList.drop 94 = dktX18_tries_4 := dk_seg dksX18_tries_3 23 rfl rfl
theorem dksX18_tries_5 : cX18_tries.data.toList.drop 118 = dktX18_tries_5 := dk_seg dksX18_tries_4 24 rfl rfl
theorem dksX18_tries_6 : cX18_tries.data.toList.drop 142 = dktX18_tries_6 := dk_seg dksX18_tries_5 24 rfl rfl
theorem dksX18_tries_7 : cX18_tries.data.toList.drop 164 = dktX18_tries_7 := dk_seg dksX18_tries_6 22 rfl rfl
theorem dX18_tries_0 : decode cX18_tries 0 = .ok (.iload_n 1, 1) := dk_27 (dk_at dksX18_tries_0 0 rfl rfl)
theorem dX18_tries_1 : decode cX18_tries 1 = .ok (.aload_n 0, 1) := dk_42 (dk_at dksX18_tries_0 1 rfl rfl)
theorem dX18_tries_2 : decode cX18_tries 2 = .ok (.getfield 62, 3) := dk_180 0 62 (dk_at dksX18_tries_0 2 rfl rfl)
theorem dX18_tries_5 : decode cX18_tries 5 = .ok (.if_icmp .ne 8, 3) := dk_160 0 8 (dk_at dksX18_tries_0 5 rfl rfl)
theorem dX18_tries_8 : decode cX18_tries 8 = .ok (.aload_n 0, 1) := dk_42 (dk_at dksX18_tries_0 8 rfl rfl)
theorem dX18_tries_9 : decode cX18_tries 9 = .ok (.invokevirtual 73, 3) := dk_182 0 73 (dk_at dksX18_tries_0 9 rfl rfl)
theorem dX18_tries_12 : decode cX18_tries 12 = .ok (.ireturn, 1) := dk_172 (dk_at dksX18_tries_0 12 rfl rfl)
theorem dX18_tries_13 : decode cX18_tries 13 = .ok (.aload_n 0, 1) := dk_42 (dk_at dksX18_tries_0 13 rfl rfl)
theorem dX18_tries_14 : decode cX18_tries 14 = .ok (.getfield 3, 3) := dk_180 0 3 (dk_at dksX18_tries_0 14 rfl rfl)
theorem dX18_tries_17 : decode cX18_tries 17 = .ok (.getfield 58, 3) := dk_180 0 58 (dk_at dksX18_tries_0 17 rfl rfl)
theorem dX18_tries_20 : decode cX18_tries 20 = .ok (.iload_n 1, 1) := dk_27 (dk_at dksX18_tries_0 20 rfl rfl)
theorem dX18_tries_21 : decode cX18_tries 21 = .ok (.aaload, 1) := dk_50 (dk_at dksX18_tries_0 21 rfl rfl)
theorem dX18_tries_22 : decode cX18_tries 22 = .ok (.astore_n 2, 1) := dk_77 (dk_at dksX18_tries_0 22 rfl rfl)
theorem dX18_tries_23 : decode cX18_tries 23 = .ok (.aload_n 0, 1) := dk_42 (dk_at dksX18_tries_0 23 rfl rfl)
theorem dX18_tries_24 : decode cX18_tries 24 = .ok (.getfield 3, 3) := dk_180 0 3 (dk_at dksX18_tries_1 0 rfl rfl)
theorem dX18_tries_27 : decode cX18_tries 27 = .ok (.getfield 77, 3) := dk_180 0 77 (dk_at dksX18_tries_1 3 rfl rfl)
theorem dX18_tries_30 : decode cX18_tries 30 = .ok (.aload_n 2, 1) := dk_44 (dk_at dksX18_tries_1 6 rfl rfl)
theorem dX18_tries_31 : decode cX18_tries 31 = .ok (.getfield 80, 3) := dk_180 0 80 (dk_at dksX18_tries_1 7 rfl rfl)
theorem dX18_tries_34 : decode cX18_tries 34 = .ok (.invokevirtual 36, 3) := dk_182 0 36 (dk_at dksX18_tries_1 10 rfl rfl)
theorem dX18_tries_37 : decode cX18_tries 37 = .ok (.checkcast 81, 3) := dk_192 0 81 (dk_at dksX18_tries_1 13 rfl rfl)
theorem dX18_tries_40 : decode cX18_tries 40 = .ok (.getfield 83, 3) := dk_180 0 83 (dk_at dksX18_tries_1 16 rfl rfl)
theorem dX18_tries_43 : decode cX18_tries 43 = .ok (.astore_n 3, 1) := dk_78 (dk_at dksX18_tries_1 19 rfl rfl)
theorem dX18_tries_44 : decode cX18_tries 44 = .ok (.iconst 0, 1) := dk_3 (dk_at dksX18_tries_1 20 rfl rfl)
theorem dX18_tries_45 : decode cX18_tries 45 = .ok (.istore 4, 2) := dk_54 4 (dk_at dksX18_tries_1 21 rfl rfl)
theorem dX18_tries_47 : decode cX18_tries 47 = .ok (.iload 4, 2) := dk_21 4 (dk_at dksX18_tries_2 0 rfl rfl)
theorem dX18_tries_49 : decode cX18_tries 49 = .ok (.aload_n 3, 1) := dk_45 (dk_at dksX18_tries_2 2 rfl rfl)
theorem dX18_tries_50 : decode cX18_tries 50 = .ok (.arraylength, 1) := dk_190 (dk_at dksX18_tries_2 3 rfl rfl)
theorem dX18_tries_51 : decode cX18_tries 51 = .ok (.if_icmp .ge 135, 3) := dk_162 0 135 (dk_at dksX18_tries_2 4 rfl rfl)
theorem dX18_tries_54 : decode cX18_tries 54 = .ok (.aload_n 0, 1) := dk_42 (dk_at dksX18_tries_2 7 rfl rfl)
theorem dX18_tries_55 : decode cX18_tries 55 = .ok (.getfield 3, 3) := dk_180 0 3 (dk_at dksX18_tries_2 8 rfl rfl)
theorem dX18_tries_58 : decode cX18_tries 58 = .ok (.getfield 22, 3) := dk_180 0 22 (dk_at dksX18_tries_2 11 rfl rfl)
theorem dX18_tries_61 : decode cX18_tries 61 = .ok (.bipush 8, 2) := dk_16 8 (dk_at dksX18_tries_2 14 rfl rfl)
theorem dX18_tries_63 : decode cX18_tries 63 = .ok (.aload_n 2, 1) := dk_44 (dk_at dksX18_tries_2 16 rfl rfl)
theorem dX18_tries_64 : decode cX18_tries 64 = .ok (.getfield 80, 3) := dk_180 0 80 (dk_at dksX18_tries_2 17 rfl rfl)
theorem dX18_tries_67 : decode cX18_tries 67 = .ok (.imul, 1) := dk_104 (dk_at dksX18_tries_2 20 rfl rfl)
theorem dX18_tries_68 : decode cX18_tries 68 = .ok (.iload 4, 2) := dk_21 4 (dk_at dksX18_tries_2 21 rfl rfl)
theorem dX18_tries_70 : decode cX18_tries 70 = .ok (.iadd, 1) := dk_96 (dk_at dksX18_tries_2 23 rfl rfl)
theorem dX18_tries_71 : decode cX18_tries 71 = .ok (.baload, 1) := dk_51 (dk_at dksX18_tries_3 0 rfl rfl)
theorem dX18_tries_72 : decode cX18_tries 72 = .ok (.ifCond .ne 108, 3) := dk_154 0 108 (dk_at dksX18_tries_3 1 rfl rfl)
theorem dX18_tries_75 : decode cX18_tries 75 = .ok (.aload_n 3, 1) := dk_45 (dk_at dksX18_tries_3 4 rfl rfl)
theorem dX18_tries_76 : decode cX18_tries 76 = .ok (.iload 4, 2) := dk_21 4 (dk_at dksX18_tries_3 5 rfl rfl)
theorem dX18_tries_78 : decode cX18_tries 78 = .ok (.aaload, 1) := dk_50 (dk_at dksX18_tries_3 7 rfl rfl)
theorem dX18_tries_79 : decode cX18_tries 79 = .ok (.arraylength, 1) := dk_190 (dk_at dksX18_tries_3 8 rfl rfl)
theorem dX18_tries_80 : decode cX18_tries 80 = .ok (.aload_n 2, 1) := dk_44 (dk_at dksX18_tries_3 9 rfl rfl)
theorem dX18_tries_81 : decode cX18_tries 81 = .ok (.getfield 87, 3) := dk_180 0 87 (dk_at dksX18_tries_3 10 rfl rfl)
theorem dX18_tries_84 : decode cX18_tries 84 = .ok (.if_icmp .eq 6, 3) := dk_159 0 6 (dk_at dksX18_tries_3 13 rfl rfl)
theorem dX18_tries_87 : decode cX18_tries 87 = .ok (.goto 93, 3) := dk_167 0 93 (dk_at dksX18_tries_3 16 rfl rfl)
theorem dX18_tries_90 : decode cX18_tries 90 = .ok (.aload_n 0, 1) := dk_42 (dk_at dksX18_tries_3 19 rfl rfl)
theorem dX18_tries_91 : decode cX18_tries 91 = .ok (.getfield 90, 3) := dk_180 0 90 (dk_at dksX18_tries_3 20 rfl rfl)
theorem dX18_tries_94 : decode cX18_tries 94 = .ok (.istore 5, 2) := dk_54 5 (dk_at dksX18_tries_4 0 rfl rfl)
theorem dX18_tries_96 : decode cX18_tries 96 = .ok (.iconst 1, 1) := dk_4 (dk_at dksX18_tries_4 2 rfl rfl)
theorem dX18_tries_97 : decode cX18_tries 97 = .ok (.istore 6, 2) := dk_54 6 (dk_at dksX18_tries_4 3 rfl rfl)
theorem dX18_tries_99 : decode cX18_tries 99 = .ok (.aload_n 0, 1) := dk_42 (dk_at dksX18_tries_4 5 rfl rfl)
theorem dX18_tries_100 : decode cX18_tries 100 = .ok (.getfield 3, 3) := dk_180 0 3 (dk_at dksX18_tries_4 6 rfl rfl)
theorem dX18_tries_103 : decode cX18_tries 103 = .ok (.getfield 22, 3) := dk_180 0 22 (dk_at dksX18_tries_4 9 rfl rfl)
theorem dX18_tries_106 : decode cX18_tries 106 = .ok (.bipush 8, 2) := dk_16 8 (dk_at dksX18_tries_4 12 rfl rfl)
theorem dX18_tries_108 : decode cX18_tries 108 = .ok (.aload_n 2, 1) := dk_44 (dk_at dksX18_tries_4 14 rfl rfl)
theorem dX18_tries_109 : decode cX18_tries 109 = .ok (.getfield 80, 3) := dk_180 0 80 (dk_at dksX18_tries_4 15 rfl rfl)
theorem dX18_tries_112 : decode cX18_tries 112 = .ok (.imul, 1) := dk_104 (dk_at dksX18_tries_4 18 rfl rfl)
theorem dX18_tries_113 : decode cX18_tries 113 = .ok (.iload 4, 2) := dk_21 4 (dk_at dksX18_tries_4 19 rfl rfl)
theorem dX18_tries_115 : decode cX18_tries 115 = .ok (.iadd, 1) := dk_96 (dk_at dksX18_tries_4 21 rfl rfl)
theorem dX18_tries_116 : decode cX18_tries 116 = .ok (.iconst 1, 1) := dk_4 (dk_at dksX18_tries_4 22 rfl rfl)
theorem dX18_tries_117 : decode cX18_tries 117 = .ok (.bastore, 1) := dk_84 (dk_at dksX18_tries_4 23 rfl rfl)
theorem dX18_tries_118 : decode cX18_tries 118 = .ok (.aload_n 2, 1) := dk_44 (dk_at dksX18_tries_5 0 rfl rfl)
theorem dX18_tries_119 : decode cX18_tries 119 = .ok (.iload 4, 2) := dk_21 4 (dk_at dksX18_tries_5 1 rfl rfl)
theorem dX18_tries_121 : decode cX18_tries 121 = .ok (.putfield 93, 3) := dk_181 0 93 (dk_at dksX18_tries_5 3 rfl rfl)
theorem dX18_tries_124 : decode cX18_tries 124 = .ok (.aload_n 0, 1) := dk_42 (dk_at dksX18_tries_5 6 rfl rfl)
theorem dX18_tries_125 : decode cX18_tries 125 = .ok (.aload_n 3, 1) := dk_45 (dk_at dksX18_tries_5 7 rfl rfl)
theorem dX18_tries_126 : decode cX18_tries 126 = .ok (.iload 4, 2) := dk_21 4 (dk_at dksX18_tries_5 8 rfl rfl)
theorem dX18_tries_128 : decode cX18_tries 128 = .ok (.aaload, 1) := dk_50 (dk_at dksX18_tries_5 10 rfl rfl)
theorem dX18_tries_129 : decode cX18_tries 129 = .ok (.aload_n 2, 1) := dk_44 (dk_at dksX18_tries_5 11 rfl rfl)
theorem dX18_tries_130 : decode cX18_tries 130 = .ok (.getfield 96, 3) := dk_180 0 96 (dk_at dksX18_tries_5 12 rfl rfl)
theorem dX18_tries_133 : decode cX18_tries 133 = .ok (.invokevirtual 99, 3) := dk_182 0 99 (dk_at dksX18_tries_5 15 rfl rfl)
theorem dX18_tries_136 : decode cX18_tries 136 = .ok (.ifCond .eq 12, 3) := dk_153 0 12 (dk_at dksX18_tries_5 18 rfl rfl)
theorem dX18_tries_139 : decode cX18_tries 139 = .ok (.aload_n 0, 1) := dk_42 (dk_at dksX18_tries_5 21 rfl rfl)
theorem dX18_tries_140 : decode cX18_tries 140 = .ok (.iload_n 1, 1) := dk_27 (dk_at dksX18_tries_5 22 rfl rfl)
theorem dX18_tries_141 : decode cX18_tries 141 = .ok (.iconst 1, 1) := dk_4 (dk_at dksX18_tries_5 23 rfl rfl)
theorem dX18_tries_142 : decode cX18_tries 142 = .ok (.iadd, 1) := dk_96 (dk_at dksX18_tries_6 0 rfl rfl)
theorem dX18_tries_143 : decode cX18_tries 143 = .ok (.invokevirtual 70, 3) := dk_182 0 70 (dk_at dksX18_tries_6 1 rfl rfl)
theorem dX18_tries_146 : decode cX18_tries 146 = .ok (.istore 6, 2) := dk_54 6 (dk_at dksX18_tries_6 4 rfl rfl)
theorem dX18_tries_148 : decode cX18_tries 148 = .ok (.aload_n 0, 1) := dk_42 (dk_at dksX18_tries_6 6 rfl rfl)
theorem dX18_tries_149 : decode cX18_tries 149 = .ok (.iload 5, 2) := dk_21 5 (dk_at dksX18_tries_6 7 rfl rfl)
theorem dX18_tries_151 : decode cX18_tries 151 = .ok (.invokevirtual 103, 3) := dk_182 0 103 (dk_at dksX18_tries_6 9 rfl rfl)
theorem dX18_tries_154 : decode cX18_tries 154 = .ok (.aload_n 0, 1) := dk_42 (dk_at dksX18_tries_6 12 rfl rfl)
theorem dX18_tries_155 : decode cX18_tries 155 = .ok (.getfield 3, 3) := dk_180 0 3 (dk_at dksX18_tries_6 13 rfl rfl)
theorem dX18_tries_158 : decode cX18_tries 158 = .ok (.getfield 22, 3) := dk_180 0 22 (dk_at dksX18_tries_6 16 rfl rfl)
theorem dX18_tries_161 : decode cX18_tries 161 = .ok (.bipush 8, 2) := dk_16 8 (dk_at dksX18_tries_6 19 rfl rfl)
theorem dX18_tries_163 : decode cX18_tries 163 = .ok (.aload_n 2, 1) := dk_44 (dk_at dksX18_tries_6 21 rfl rfl)
theorem dX18_tries_164 : decode cX18_tries 164 = .ok (.getfield 80, 3) := dk_180 0 80 (dk_at dksX18_tries_7 0 rfl rfl)
theorem dX18_tries_167 : decode cX18_tries 167 = .ok (.imul, 1) := dk_104 (dk_at dksX18_tries_7 3 rfl rfl)
theorem dX18_tries_168 : decode cX18_tries 168 = .ok (.iload 4, 2) := dk_21 4 (dk_at dksX18_tries_7 4 rfl rfl)
theorem dX18_tries_170 : decode cX18_tries 170 = .ok (.iadd, 1) := dk_96 (dk_at dksX18_tries_7 6 rfl rfl)
theorem dX18_tries_171 : decode cX18_tries 171 = .ok (.iconst 0, 1) := dk_3 (dk_at dksX18_tries_7 7 rfl rfl)
theorem dX18_tries_172 : decode cX18_tries 172 = .ok (.bastore, 1) := dk_84 (dk_at dksX18_tries_7 8 rfl rfl)
theorem dX18_tries_173 : decode cX18_tries 173 = .ok (.iload 6, 2) := dk_21 6 (dk_at dksX18_tries_7 9 rfl rfl)
theorem dX18_tries_175 : decode cX18_tries 175 = .ok (.ifCond .ne 5, 3) := dk_154 0 5 (dk_at dksX18_tries_7 11 rfl rfl)
theorem dX18_tries_178 : decode cX18_tries 178 = .ok (.iconst 0, 1) := dk_3 (dk_at dksX18_tries_7 14 rfl rfl)
theorem dX18_tries_179 : decode cX18_tries 179 = .ok (.ireturn, 1) := dk_172 (dk_at dksX18_tries_7 15 rfl rfl)
theorem dX18_tries_180 : decode cX18_tries 180 = .ok (.iinc 4 1, 3) := dk_132 4 1 (dk_at dksX18_tries_7 16 rfl rfl)
theorem dX18_tries_183 : decode cX18_tries 183 = .ok (.goto (-136), 3) := dk_167 255 120 (dk_at dksX18_tries_7 19 rfl rfl)
theorem dX18_tries_186 : decode cX18_tries 186 = .ok (.iconst 1, 1) := dk_4 (dk_at dksX18_tries_7 22 rfl rfl)
theorem dX18_tries_187 : decode cX18_tries 187 = .ok (.ireturn, 1) := dk_172 (dk_at dksX18_tries_7 23 rfl rfl)
theorem dX18_signs_0 : decode cX18_signs 0 = .ok (.aload_n 0, 1) := by decide +kernel
theorem dX18_signs_1 : decode cX18_signs 1 = .ok (.getfield 90, 3) := by decide +kernel
theorem dX18_signs_4 : decode cX18_signs 4 = .ok (.ireturn, 1) := by decide +kernel
def dkwX18_sets_3 : List UInt8 := [180, 0, 15, 21, 4, 46, 44, 29, 46, 159, 0, 5, 3, 172, 132, 3, 1, 167, 255, 174, 4, 172]
abbrev dktX18_sets_3 : List UInt8 := dkwX18_sets_3 ++ []
def dkwX18_sets_2 : List UInt8 := [160, 0, 18, 42, 21, 4, 44, 29, 46, 182, 0, 116, 154, 0, 24, 167, 0, 19, 42, 180, 0, 3]
abbrev dktX18_sets_2 : List UInt8 := dkwX18_sets_2 ++ dktX18_sets_3
def dkwX18_sets_1 : List UInt8 := [180, 0, 107, 180, 0, 111, 43, 29, 46, 46, 54, 4, 42, 180, 0, 3, 180, 0, 15, 21, 4, 46, 2]
abbrev dktX18_sets_1 : List UInt8 := dkwX18_sets_1 ++ dktX18_sets_2
def dkwX18_sets_0 : List UInt8 := [3, 62, 29, 43, 190, 162, 0, 82, 43, 29, 46, 2, 160, 0, 6, 167, 0, 66, 42, 180, 0, 3]
abbrev dktX18_sets_0 : List UInt8 := dkwX18_sets_0 ++ dktX18_sets_1
theorem dksX18_sets_0 : cX18_sets.data.toList.drop 0 = dktX18_sets_0 := by decide +kernel
theorem dksX18_sets_1 : cX18_sets.data.toList.drop 22 = dktX18_sets_1 := dk_seg dksX18_sets_0 22 rfl rfl
theorem dksX18_sets_2 : cX18_sets.data.toList.drop 45 = dktX18_sets_2 := dk_seg dksX18_sets_1 23 rfl rfl
theorem dksX18_sets_3 : cX18_sets.data.toList.drop 67 = dktX18_sets_3 := dk_seg dksX18_sets_2 22 rfl rfl
theorem dX18_sets_0 : decode cX18_sets 0 = .ok (.iconst 0, 1) := dk_3 (dk_at dksX18_sets_0 0 rfl rfl)
theorem dX18_sets_1 : decode cX18_sets 1 = .ok (.istore_n 3, 1) := dk_62 (dk_at dksX18_sets_0 1 rfl rfl)
theorem dX18_sets_2 : decode cX18_sets 2 = .ok (.iload_n 3, 1) := dk_29 (dk_at dksX18_sets_0 2 rfl rfl)
theorem dX18_sets_3 : decode cX18_sets 3 = .ok (.aload_n 1, 1) := dk_43 (dk_at dksX18_sets_0 3 rfl rfl)
theorem dX18_sets_4 : decode cX18_sets 4 = .ok (.arraylength, 1) := dk_190 (dk_at dksX18_sets_0 4 rfl rfl)
theorem dX18_sets_5 : decode cX18_sets 5 = .ok (.if_icmp .ge 82, 3) := dk_162 0 82 (dk_at dksX18_sets_0 5 rfl rfl)
theorem dX18_sets_8 : decode cX18_sets 8 = .ok (.aload_n 1, 1) := dk_43 (dk_at dksX18_sets_0 8 rfl rfl)
theorem dX18_sets_9 : decode cX18_sets 9 = .ok (.iload_n 3, 1) := dk_29 (dk_at dksX18_sets_0 9 rfl rfl)
theorem dX18_sets_10 : decode cX18_sets 10 = .ok (.iaload, 1) := dk_46 (dk_at dksX18_sets_0 10 rfl rfl)
theorem dX18_sets_11 : decode cX18_sets 11 = .ok (.iconst (-1), 1) := dk_2 (dk_at dksX18_sets_0 11 rfl rfl)
theorem dX18_sets_12 : decode cX18_sets 12 = .ok (.if_icmp .ne 6, 3) := dk_160 0 6 (dk_at dksX18_sets_0 12 rfl rfl)
theorem dX18_sets_15 : decode cX18_sets 15 = .ok (.goto 66, 3) := dk_167 0 66 (dk_at dksX18_sets_0 15 rfl rfl)
theorem dX18_sets_18 : decode cX18_sets 18 = .ok (.aload_n 0, 1) := dk_42 (dk_at dksX18_sets_0 18 rfl rfl)
theorem dX18_sets_19 : decode cX18_sets 19 = .ok (.getfield 3, 3) := dk_180 0 3 (dk_at dksX18_sets_0 19 rfl rfl)
theorem dX18_sets_22 : decode cX18_sets 22 = .ok (.getfield 107, 3) := dk_180 0 107 (dk_at dksX18_sets_1 0 rfl rfl)
theorem dX18_sets_25 : decode cX18_sets 25 = .ok (.getfield 111, 3) := dk_180 0 111 (dk_at dksX18_sets_1 3 rfl rfl)
theorem dX18_sets_28 : decode cX18_sets 28 = .ok (.aload_n 1, 1) := dk_43 (dk_at dksX18_sets_1 6 rfl rfl)
theorem dX18_sets_29 : decode cX18_sets 29 = .ok (.iload_n 3, 1) := dk_29 (dk_at dksX18_sets_1 7 rfl rfl)
theorem dX18_sets_30 : decode cX18_sets 30 = .ok (.iaload, 1) := dk_46 (dk_at dksX18_sets_1 8 rfl rfl)
theorem dX18_sets_31 : decode cX18_sets 31 = .ok (.iaload, 1) := dk_46 (dk_at dksX18_sets_1 9 rfl rfl)
theorem dX18_sets_32 : decode cX18_sets 32 = .ok (.istore 4, 2) := dk_54 4 (dk_at dksX18_sets_1 10 rfl rfl)
theorem dX18_sets_34 : decode cX18_sets 34 = .ok (.aload_n 0, 1) := dk_42 (dk_at dksX18_sets_1 12 rfl rfl)
theorem dX18_sets_35 : decode cX18_sets 35 = .ok (.getfield 3, 3) := dk_180 0 3 (dk_at dksX18_sets_1 13 rfl rfl)
theorem dX18_sets_38 : decode cX18_sets 38 = .ok (.getfield 15, 3) := dk_180 0 15 (dk_at dksX18_sets_1 16 rfl rfl)
theorem dX18_sets_41 : decode cX18_sets 41 = .ok (.iload 4, 2) := dk_21 4 (dk_at dksX18_sets_1 19 rfl rfl)
theorem dX18_sets_43 : decode cX18_sets 43 = .ok (.iaload, 1) := dk_46 (dk_at dksX18_sets_1 21 rfl rfl)
theorem dX18_sets_44 : decode cX18_sets 44 = .ok (.iconst (-1), 1) := dk_2 (dk_at dksX18_sets_1 22 rfl rfl)
theorem dX18_sets_45 : decode cX18_sets 45 = .ok (.if_icmp .ne 18, 3) := dk_160 0 18 (dk_at dksX18_sets_2 0 rfl rfl)
theorem dX18_sets_48 : decode cX18_sets 48 = .ok (.aload_n 0, 1) := dk_42 (dk_at dksX18_sets_2 3 rfl rfl)
theorem dX18_sets_49 : decode cX18_sets 49 = .ok (.iload 4, 2) := dk_21 4 (dk_at dksX18_sets_2 4 rfl rfl)
theorem dX18_sets_51 : decode cX18_sets 51 = .ok (.aload_n 2, 1) := dk_44 (dk_at dksX18_sets_2 6 rfl rfl)
theorem dX18_sets_52 : decode cX18_sets 52 = .ok (.iload_n 3, 1) := dk_29 (dk_at dksX18_sets_2 7 rfl rfl)
theorem dX18_sets_53 : decode cX18_sets 53 = .ok (.iaload, 1) := dk_46 (dk_at dksX18_sets_2 8 rfl rfl)
theorem dX18_sets_54 : decode cX18_sets 54 = .ok (.invokevirtual 116, 3) := dk_182 0 116 (dk_at dksX18_sets_2 9 rfl rfl)
theorem dX18_sets_57 : decode cX18_sets 57 = .ok (.ifCond .ne 24, 3) := dk_154 0 24 (dk_at dksX18_sets_2 12 rfl rfl)
theorem dX18_sets_60 : decode cX18_sets 60 = .ok (.goto 19, 3) := dk_167 0 19 (dk_at dksX18_sets_2 15 rfl rfl)
theorem dX18_sets_63 : decode cX18_sets 63 = .ok (.aload_n 0, 1) := dk_42 (dk_at dksX18_sets_2 18 rfl rfl)
theorem dX18_sets_64 : decode cX18_sets 64 = .ok (.getfield 3, 3) := dk_180 0 3 (dk_at dksX18_sets_2 19 rfl rfl)
theorem dX18_sets_67 : decode cX18_sets 67 = .ok (.getfield 15, 3) := dk_180 0 15 (dk_at dksX18_sets_3 0 rfl rfl)
theorem dX18_sets_70 : decode cX18_sets 70 = .ok (.iload 4, 2) := dk_21 4 (dk_at dksX18_sets_3 3 rfl rfl)
theorem dX18_sets_72 : decode cX18_sets 72 = .ok (.iaload, 1) := dk_46 (dk_at dksX18_sets_3 5 rfl rfl)
theorem dX18_sets_73 : decode cX18_sets 73 = .ok (.aload_n 2, 1) := dk_44 (dk_at dksX18_sets_3 6 rfl rfl)
theorem dX18_sets_74 : decode cX18_sets 74 = .ok (.iload_n 3, 1) := dk_29 (dk_at dksX18_sets_3 7 rfl rfl)
theorem dX18_sets_75 : decode cX18_sets 75 = .ok (.iaload, 1) := dk_46 (dk_at dksX18_sets_3 8 rfl rfl)
theorem dX18_sets_76 : decode cX18_sets 76 = .ok (.if_icmp .eq 5, 3) := dk_159 0 5 (dk_at dksX18_sets_3 9 rfl rfl)
theorem dX18_sets_79 : decode cX18_sets 79 = .ok (.iconst 0, 1) := dk_3 (dk_at dksX18_sets_3 12 rfl rfl)
theorem dX18_sets_80 : decode cX18_sets 80 = .ok (.ireturn, 1) := dk_172 (dk_at dksX18_sets_3 13 rfl rfl)
theorem dX18_sets_81 : decode cX18_sets 81 = .ok (.iinc 3 1, 3) := dk_132 3 1 (dk_at dksX18_sets_3 14 rfl rfl)
theorem dX18_sets_84 : decode cX18_sets 84 = .ok (.goto (-82), 3) := dk_167 255 174 (dk_at dksX18_sets_3 17 rfl rfl)
theorem dX18_sets_87 : decode cX18_sets 87 = .ok (.iconst 1, 1) := dk_4 (dk_at dksX18_sets_3 20 rfl rfl)
theorem dX18_sets_88 : decode cX18_sets 88 = .ok (.ireturn, 1) := dk_172 (dk_at dksX18_sets_3 21 rfl rfl)
def dkwX18_gives_7 : List UInt8 := [180, 0, 120, 42, 180, 0, 90, 27, 79, 42, 89, 180, 0, 90, 4, 96, 181, 0, 90, 4, 172]
abbrev dktX18_gives_7 : List UInt8 := dkwX18_gives_7 ++ []
def dkwX18_gives_6 : List UInt8 := [180, 0, 3, 180, 0, 15, 27, 28, 79, 42, 180, 0, 3, 180, 0, 19, 28, 27, 79, 42, 180, 0, 3]
abbrev dktX18_gives_6 : List UInt8 := dkwX18_gives_6 ++ dktX18_gives_7
def dkwX18_gives_5 : List UInt8 := [180, 0, 120, 29, 46, 21, 5, 182, 0, 127, 154, 0, 5, 3, 172, 132, 3, 1, 167, 255, 137, 42]
abbrev dktX18_gives_5 : List UInt8 := dkwX18_gives_5 ++ dktX18_gives_6
def dkwX18_gives_4 : List UInt8 := [42, 180, 0, 3, 180, 0, 120, 29, 46, 21, 4, 182, 0, 127, 153, 0, 23, 42, 4, 27, 42, 180, 0, 3]
abbrev dktX18_gives_4 : List UInt8 := dkwX18_gives_4 ++ dktX18_gives_5
def dkwX18_gives_3 : List UInt8 := [180, 0, 120, 29, 46, 46, 8, 112, 28, 8, 112, 160, 0, 7, 4, 167, 0, 4, 3, 54, 5, 42, 3, 27]
abbrev dktX18_gives_3 : List UInt8 := dkwX18_gives_3 ++ dktX18_gives_4
def dkwX18_gives_2 : List UInt8 := [184, 0, 123, 160, 0, 7, 4, 167, 0, 4, 3, 54, 4, 42, 180, 0, 3, 180, 0, 15, 42, 180, 0, 3]
abbrev dktX18_gives_2 : List UInt8 := dkwX18_gives_2 ++ dktX18_gives_3
def dkwX18_gives_1 : List UInt8 := [162, 0, 117, 42, 180, 0, 3, 180, 0, 15, 42, 180, 0, 3, 180, 0, 120, 29, 46, 46, 184, 0, 123, 28]
abbrev dktX18_gives_1 : List UInt8 := dkwX18_gives_1 ++ dktX18_gives_2
def dkwX18_gives_0 : List UInt8 := [42, 180, 0, 3, 180, 0, 19, 28, 46, 2, 159, 0, 5, 3, 172, 3, 62, 29, 42, 180, 0, 90]
abbrev dktX18_gives_0 : List UInt8 := dkwX18_gives_0 ++ dktX18_gives_1
theorem dksX18_gives_0 : cX18_gives.data.toList.drop 0 = dktX18_gives_0 := by decide +kernel
theorem dksX18_gives_1 : cX18_gives.data.toList.drop 22 = dktX18_gives_1 := dk_seg dksX18_gives_0 22 rfl rfl
theorem dksX18_gives_2 : cX18_gives.data.toList.drop 46 = dktX18_gives_2 := dk_seg dksX18_gives_1 24 rfl rfl
theorem dksX18_gives_3 : cX18_gives.data.toList.drop 70 = dktX18_gives_3 := dk_seg dksX18_gives_2 24 rfl rfl
theorem dksX18_gives_4 : cX18_gives.data.toList.drop 94 = dktX18_gives_4 := dk_seg dksX18_gives_3 24 rfl rfl
theorem dksX18_gives_5 : cX18_gives.data.toList.drop 118 = dktX18_gives_5 := dk_seg dksX18_gives_4 24 rfl rfl
theorem dksX18_gives_6 : cX18_gives.data.toList.drop 140 = dktX18_gives_6 := dk_seg dksX18_gives_5 22 rfl rfl
theorem dksX18_gives_7 : cX18_gives.data.toList.drop 163 = dktX18_gives_7 := dk_seg dksX18_gives_6 23 rfl rfl
theorem dX18_gives_0 : decode cX18_gives 0 = .ok (.aload_n 0, 1) := dk_42 (dk_at dksX18_gives_0 0 rfl rfl)
theorem dX18_gives_1 : decode cX18_gives 1 = .ok (.getfield 3, 3) := dk_180 0 3 (dk_at dksX18_gives_0 1 rfl rfl)
theorem dX18_gives_4 : decode cX18_gives 4 = .ok (.getfield 19, 3) := dk_180 0 19 (dk_at dksX18_gives_0 4 rfl rfl)
theorem dX18_gives_7 : decode cX18_gives 7 = .ok (.iload_n 2, 1) := dk_28 (dk_at dksX18_gives_0 7 rfl rfl)
theorem dX18_gives_8 : decode cX18_gives 8 = .ok (.iaload, 1) := dk_46 (dk_at dksX18_gives_0 8 rfl rfl)
theorem dX18_gives_9 : decode cX18_gives 9 = .ok (.iconst (-1), 1) := dk_2 (dk_at dksX18_gives_0 9 rfl rfl)
theorem dX18_gives_10 : decode cX18_gives 10 = .ok (.if_icmp .eq 5, 3) := dk_159 0 5 (dk_at dksX18_gives_0 10 rfl rfl)
theorem dX18_gives_13 : decode cX18_gives 13 = .ok (.iconst 0, 1) := dk_3 (dk_at dksX18_gives_0 13 rfl rfl)
theorem dX18_gives_14 : decode cX18_gives 14 = .ok (.ireturn, 1) := dk_172 (dk_at dksX18_gives_0 14 rfl rfl)
theorem dX18_gives_15 : decode cX18_gives 15 = .ok (.iconst 0, 1) := dk_3 (dk_at dksX18_gives_0 15 rfl rfl)
theorem dX18_gives_16 : decode cX18_gives 16 = .ok (.istore_n 3, 1) := dk_62 (dk_at dksX18_gives_0 16 rfl rfl)
theorem dX18_gives_17 : decode cX18_gives 17 = .ok (.iload_n 3, 1) := dk_29 (dk_at dksX18_gives_0 17 rfl rfl)
theorem dX18_gives_18 : decode cX18_gives 18 = .ok (.aload_n 0, 1) := dk_42 (dk_at dksX18_gives_0 18 rfl rfl)
theorem dX18_gives_19 : decode cX18_gives 19 = .ok (.getfield 90, 3) := dk_180 0 90 (dk_at dksX18_gives_0 19 rfl rfl)
theorem dX18_gives_22 : decode cX18_gives 22 = .ok (.if_icmp .ge 117, 3) := dk_162 0 117 (dk_at dksX18_gives_1 0 rfl rfl)
theorem dX18_gives_25 : decode cX18_gives 25 = .ok (.aload_n 0, 1) := dk_42 (dk_at dksX18_gives_1 3 rfl rfl)
theorem dX18_gives_26 : decode cX18_gives 26 = .ok (.getfield 3, 3) := dk_180 0 3 (dk_at dksX18_gives_1 4 rfl rfl)
theorem dX18_gives_29 : decode cX18_gives 29 = .ok (.getfield 15, 3) := dk_180 0 15 (dk_at dksX18_gives_1 7 rfl rfl)
theorem dX18_gives_32 : decode cX18_gives 32 = .ok (.aload_n 0, 1) := dk_42 (dk_at dksX18_gives_1 10 rfl rfl)
theorem dX18_gives_33 : decode cX18_gives 33 = .ok (.getfield 3, 3) := dk_180 0 3 (dk_at dksX18_gives_1 11 rfl rfl)
theorem dX18_gives_36 : decode cX18_gives 36 = .ok (.getfield 120, 3) := dk_180 0 120 (dk_at dksX18_gives_1 14 rfl rfl)
theorem dX18_gives_39 : decode cX18_gives 39 = .ok (.iload_n 3, 1) := dk_29 (dk_at dksX18_gives_1 17 rfl rfl)
theorem dX18_gives_40 : decode cX18_gives 40 = .ok (.iaload, 1) := dk_46 (dk_at dksX18_gives_1 18 rfl rfl)
theorem dX18_gives_41 : decode cX18_gives 41 = .ok (.iaload, 1) := dk_46 (dk_at dksX18_gives_1 19 rfl rfl)
theorem dX18_gives_42 : decode cX18_gives 42 = .ok (.invokestatic 123, 3) := dk_184 0 123 (dk_at dksX18_gives_1 20 rfl rfl)
theorem dX18_gives_45 : decode cX18_gives 45 = .ok (.iload_n 2, 1) := dk_28 (dk_at dksX18_gives_1 23 rfl rfl)
theorem dX18_gives_46 : decode cX18_gives 46 = .ok (.invokestatic 123, 3) := dk_184 0 123 (dk_at dksX18_gives_2 0 rfl rfl)
theorem dX18_gives_49 : decode cX18_gives 49 = .ok (.if_icmp .ne 7, 3) := dk_160 0 7 (dk_at dksX18_gives_2 3 rfl rfl)
theorem dX18_gives_52 : decode cX18_gives 52 = .ok (.iconst 1, 1) := dk_4 (dk_at dksX18_gives_2 6 rfl rfl)
theorem dX18_gives_53 : decode cX18_gives 53 = .ok (.goto 4, 3) := dk_167 0 4 (dk_at dksX18_gives_2 7 rfl rfl)
theorem dX18_gives_56 : decode cX18_gives 56 = .ok (.iconst 0, 1) := dk_3 (dk_at dksX18_gives_2 10 rfl rfl)
theorem dX18_gives_57 : decode cX18_gives 57 = .ok (.istore 4, 2) := dk_54 4 (dk_at dksX18_gives_2 11 rfl rfl)
theorem dX18_gives_59 : decode cX18_gives 59 = .ok (.aload_n 0, 1) := dk_42 (dk_at dksX18_gives_2 13 rfl rfl)
theorem dX18_gives_60 : decode cX18_gives 60 = .ok (.getfield 3, 3) := dk_180 0 3 (dk_at dksX18_gives_2 14 rfl rfl)
theorem dX18_gives_63 : decode cX18_gives 63 = .ok (.getfield 15, 3) := dk_180 0 15 (dk_at dksX18_gives_2 17 rfl rfl)
theorem dX18_gives_66 : decode cX18_gives 66 = .ok (.aload_n 0, 1) := dk_42 (dk_at dksX18_gives_2 20 rfl rfl)
theorem dX18_gives_67 : decode cX18_gives 67 = .ok (.getfield 3, 3) := dk_180 0 3 (dk_at dksX18_gives_2 21 rfl rfl)
theorem dX18_gives_70 : decode cX18_gives 70 = .ok (.getfield 120, 3) := dk_180 0 120 (dk_at dksX18_gives_3 0 rfl rfl)
theorem dX18_gives_73 : decode cX18_gives 73 = .ok (.iload_n 3, 1) := dk_29 (dk_at dksX18_gives_3 3 rfl rfl)
theorem dX18_gives_74 : decode cX18_gives 74 = .ok (.iaload, 1) := dk_46 (dk_at dksX18_gives_3 4 rfl rfl)
theorem dX18_gives_75 : decode cX18_gives 75 = .ok (.iaload, 1) := dk_46 (dk_at dksX18_gives_3 5 rfl rfl)
theorem dX18_gives_76 : decode cX18_gives 76 = .ok (.iconst 5, 1) := dk_8 (dk_at dksX18_gives_3 6 rfl rfl)
theorem dX18_gives_77 : decode cX18_gives 77 = .ok (.irem, 1) := dk_112 (dk_at dksX18_gives_3 7 rfl rfl)
theorem dX18_gives_78 : decode cX18_gives 78 = .ok (.iload_n 2, 1) := dk_28 (dk_at dksX18_gives_3 8 rfl rfl)
theorem dX18_gives_79 : decode cX18_gives 79 = .ok (.iconst 5, 1) := dk_8 (dk_at dksX18_gives_3 9 rfl rfl)
theorem dX18_gives_80 : decode cX18_gives 80 = .ok (.irem, 1) := dk_112 (dk_at dksX18_gives_3 10 rfl rfl)
theorem dX18_gives_81 : decode cX18_gives 81 = .ok (.if_icmp .ne 7, 3) := dk_160 0 7 (dk_at dksX18_gives_3 11 rfl rfl)
theorem dX18_gives_84 : decode cX18_gives 84 = .ok (.iconst 1, 1) := dk_4 (dk_at dksX18_gives_3 14 rfl rfl)
theorem dX18_gives_85 : decode cX18_gives 85 = .ok (.goto 4, 3) := dk_167 0 4 (dk_at dksX18_gives_3 15 rfl rfl)
theorem dX18_gives_88 : decode cX18_gives 88 = .ok (.iconst 0, 1) := dk_3 (dk_at dksX18_gives_3 18 rfl rfl)
theorem dX18_gives_89 : decode cX18_gives 89 = .ok (.istore 5, 2) := dk_54 5 (dk_at dksX18_gives_3 19 rfl rfl)
theorem dX18_gives_91 : decode cX18_gives 91 = .ok (.aload_n 0, 1) := dk_42 (dk_at dksX18_gives_3 21 rfl rfl)
theorem dX18_gives_92 : decode cX18_gives 92 = .ok (.iconst 0, 1) := dk_3 (dk_at dksX18_gives_3 22 rfl rfl)
theorem dX18_gives_93 : decode cX18_gives 93 = .ok (.iload_n 1, 1) := dk_27 (dk_at dksX18_gives_3 23 rfl rfl)
theorem dX18_gives_94 : decode cX18_gives 94 = .ok (.aload_n 0, 1) := dk_42 (dk_at dksX18_gives_4 0 rfl rfl)
theorem dX18_gives_95 : decode cX18_gives 95 = .ok (.getfield 3, 3) := dk_180 0 3 (dk_at dksX18_gives_4 1 rfl rfl)
theorem dX18_gives_98 : decode cX18_gives 98 = .ok (.getfield 120, 3) := dk_180 0 120 (dk_at dksX18_gives_4 4 rfl rfl)
theorem dX18_gives_101 : decode cX18_gives 101 = .ok (.iload_n 3, 1) := dk_29 (dk_at dksX18_gives_4 7 rfl rfl)
theorem dX18_gives_102 : decode cX18_gives 102 = .ok (.iaload, 1) := dk_46 (dk_at dksX18_gives_4 8 rfl rfl)
theorem dX18_gives_103 : decode cX18_gives 103 = .ok (.iload 4, 2) := dk_21 4 (dk_at dksX18_gives_4 9 rfl rfl)
theorem dX18_gives_105 : decode cX18_gives 105 = .ok (.invokevirtual 127, 3) := dk_182 0 127 (dk_at dksX18_gives_4 11 rfl rfl)
theorem dX18_gives_108 : decode cX18_gives 108 = .ok (.ifCond .eq 23, 3) := dk_153 0 23 (dk_at dksX18_gives_4 14 rfl rfl)
theorem dX18_gives_111 : decode cX18_gives 111 = .ok (.aload_n 0, 1) := dk_42 (dk_at dksX18_gives_4 17 rfl rfl)
theorem dX18_gives_112 : decode cX18_gives 112 = .ok (.iconst 1, 1) := dk_4 (dk_at dksX18_gives_4 18 rfl rfl)
theorem dX18_gives_113 : decode cX18_gives 113 = .ok (.iload_n 1, 1) := dk_27 (dk_at dksX18_gives_4 19 rfl rfl)
theorem dX18_gives_114 : decode cX18_gives 114 = .ok (.aload_n 0, 1) := dk_42 (dk_at dksX18_gives_4 20 rfl rfl)
theorem dX18_gives_115 : decode cX18_gives 115 = .ok (.getfield 3, 3) := dk_180 0 3 (dk_at dksX18_gives_4 21 rfl rfl)
theorem dX18_gives_118 : decode cX18_gives 118 = .ok (.getfield 120, 3) := dk_180 0 120 (dk_at dksX18_gives_5 0 rfl rfl)
theorem dX18_gives_121 : decode cX18_gives 121 = .ok (.iload_n 3, 1) := dk_29 (dk_at dksX18_gives_5 3 rfl rfl)
theorem dX18_gives_122 : decode cX18_gives 122 = .ok (.iaload, 1) := dk_46 (dk_at dksX18_gives_5 4 rfl rfl)
theorem dX18_gives_123 : decode cX18_gives 123 = .ok (.iload 5, 2) := dk_21 5 (dk_at dksX18_gives_5 5 rfl rfl)
theorem dX18_gives_125 : decode cX18_gives 125 = .ok (.invokevirtual 127, 3) := dk_182 0 127 (dk_at dksX18_gives_5 7 rfl rfl)
theorem dX18_gives_128 : decode cX18_gives 128 = .ok (.ifCond .ne 5, 3) := dk_154 0 5 (dk_at dksX18_gives_5 10 rfl rfl)
theorem dX18_gives_131 : decode cX18_gives 131 = .ok (.iconst 0, 1) := dk_3 (dk_at dksX18_gives_5 13 rfl rfl)
theorem dX18_gives_132 : decode cX18_gives 132 = .ok (.ireturn, 1) := dk_172 (dk_at dksX18_gives_5 14 rfl rfl)
theorem dX18_gives_133 : decode cX18_gives 133 = .ok (.iinc 3 1, 3) := dk_132 3 1 (dk_at dksX18_gives_5 15 rfl rfl)
theorem dX18_gives_136 : decode cX18_gives 136 = .ok (.goto (-119), 3) := dk_167 255 137 (dk_at dksX18_gives_5 18 rfl rfl)
theorem dX18_gives_139 : decode cX18_gives 139 = .ok (.aload_n 0, 1) := dk_42 (dk_at dksX18_gives_5 21 rfl rfl)
theorem dX18_gives_140 : decode cX18_gives 140 = .ok (.getfield 3, 3) := dk_180 0 3 (dk_at dksX18_gives_6 0 rfl rfl)
theorem dX18_gives_143 : decode cX18_gives 143 = .ok (.getfield 15, 3) := dk_180 0 15 (dk_at dksX18_gives_6 3 rfl rfl)
theorem dX18_gives_146 : decode cX18_gives 146 = .ok (.iload_n 1, 1) := dk_27 (dk_at dksX18_gives_6 6 rfl rfl)
theorem dX18_gives_147 : decode cX18_gives 147 = .ok (.iload_n 2, 1) := dk_28 (dk_at dksX18_gives_6 7 rfl rfl)
theorem dX18_gives_148 : decode cX18_gives 148 = .ok (.iastore, 1) := dk_79 (dk_at dksX18_gives_6 8 rfl rfl)
theorem dX18_gives_149 : decode cX18_gives 149 = .ok (.aload_n 0, 1) := dk_42 (dk_at dksX18_gives_6 9 rfl rfl)
theorem dX18_gives_150 : decode cX18_gives 150 = .ok (.getfield 3, 3) := dk_180 0 3 (dk_at dksX18_gives_6 10 rfl rfl)
theorem dX18_gives_153 : decode cX18_gives 153 = .ok (.getfield 19, 3) := dk_180 0 19 (dk_at dksX18_gives_6 13 rfl rfl)
theorem dX18_gives_156 : decode cX18_gives 156 = .ok (.iload_n 2, 1) := dk_28 (dk_at dksX18_gives_6 16 rfl rfl)
theorem dX18_gives_157 : decode cX18_gives 157 = .ok (.iload_n 1, 1) := dk_27 (dk_at dksX18_gives_6 17 rfl rfl)
theorem dX18_gives_158 : decode cX18_gives 158 = .ok (.iastore, 1) := dk_79 (dk_at dksX18_gives_6 18 rfl rfl)
theorem dX18_gives_159 : decode cX18_gives 159 = .ok (.aload_n 0, 1) := dk_42 (dk_at dksX18_gives_6 19 rfl rfl)
theorem dX18_gives_160 : decode cX18_gives 160 = .ok (.getfield 3, 3) := dk_180 0 3 (dk_at dksX18_gives_6 20 rfl rfl)
theorem dX18_gives_163 : decode cX18_gives 163 = .ok (.getfield 120, 3) := dk_180 0 120 (dk_at dksX18_gives_7 0 rfl rfl)
theorem dX18_gives_166 : decode cX18_gives 166 = .ok (.aload_n 0, 1) := dk_42 (dk_at dksX18_gives_7 3 rfl rfl)
theorem dX18_gives_167 : decode cX18_gives 167 = .ok (.getfield 90, 3) := dk_180 0 90 (dk_at dksX18_gives_7 4 rfl rfl)
theorem dX18_gives_170 : decode cX18_gives 170 = .ok (.iload_n 1, 1) := dk_27 (dk_at dksX18_gives_7 7 rfl rfl)
theorem dX18_gives_171 : decode cX18_gives 171 = .ok (.iastore, 1) := dk_79 (dk_at dksX18_gives_7 8 rfl rfl)
theorem dX18_gives_172 : decode cX18_gives 172 = .ok (.aload_n 0, 1) := dk_42 (dk_at dksX18_gives_7 9 rfl rfl)
theorem dX18_gives_173 : decode cX18_gives 173 = .ok (.dup, 1) := dk_89 (dk_at dksX18_gives_7 10 rfl rfl)
theorem dX18_gives_174 : decode cX18_gives 174 = .ok (.getfield 90, 3) := dk_180 0 90 (dk_at dksX18_gives_7 11 rfl rfl)
theorem dX18_gives_177 : decode cX18_gives 177 = .ok (.iconst 1, 1) := dk_4 (dk_at dksX18_gives_7 14 rfl rfl)
theorem dX18_gives_178 : decode cX18_gives 178 = .ok (.iadd, 1) := dk_96 (dk_at dksX18_gives_7 15 rfl rfl)
theorem dX18_gives_179 : decode cX18_gives 179 = .ok (.putfield 90, 3) := dk_181 0 90 (dk_at dksX18_gives_7 16 rfl rfl)
theorem dX18_gives_182 : decode cX18_gives 182 = .ok (.iconst 1, 1) := dk_4 (dk_at dksX18_gives_7 19 rfl rfl)
theorem dX18_gives_183 : decode cX18_gives 183 = .ok (.ireturn, 1) := dk_172 (dk_at dksX18_gives_7 20 rfl rfl)
def dkwX18_agrees_2 : List UInt8 := [167, 0, 4, 3, 172]
abbrev dktX18_agrees_2 : List UInt8 := dkwX18_agrees_2 ++ []
def dkwX18_agrees_1 : List UInt8 := [167, 0, 28, 3, 167, 0, 24, 42, 180, 0, 3, 180, 0, 107, 27, 28, 29, 182, 0, 135, 154, 0, 7, 4]
abbrev dktX18_agrees_1 : List UInt8 := dkwX18_agrees_1 ++ dktX18_agrees_2
def dkwX18_agrees_0 : List UInt8 := [21, 4, 153, 0, 27, 42, 180, 0, 3, 180, 0, 107, 27, 28, 29, 182, 0, 131, 154, 0, 7, 4]
abbrev dktX18_agrees_0 : List UInt8 := dkwX18_agrees_0 ++ dktX18_agrees_1
theorem dksX18_agrees_0 : cX18_agrees.data.toList.drop 0 = dktX18_agrees_0 := by decide +kernel
theorem dksX18_agrees_1 : cX18_agrees.data.toList.drop 22 = dktX18_agrees_1 := dk_seg dksX18_agrees_0 22 rfl rfl
theorem dksX18_agrees_2 : cX18_agrees.data.toList.drop 46 = dktX18_agrees_2 := dk_seg dksX18_agrees_1 24 rfl rfl
theorem dX18_agrees_0 : decode cX18_agrees 0 = .ok (.iload 4, 2) := dk_21 4 (dk_at dksX18_agrees_0 0 rfl rfl)
theorem dX18_agrees_2 : decode cX18_agrees 2 = .ok (.ifCond .eq 27, 3) := dk_153 0 27 (dk_at dksX18_agrees_0 2 rfl rfl)
theorem dX18_agrees_5 : decode cX18_agrees 5 = .ok (.aload_n 0, 1) := dk_42 (dk_at dksX18_agrees_0 5 rfl rfl)
theorem dX18_agrees_6 : decode cX18_agrees 6 = .ok (.getfield 3, 3) := dk_180 0 3 (dk_at dksX18_agrees_0 6 rfl rfl)
theorem dX18_agrees_9 : decode cX18_agrees 9 = .ok (.getfield 107, 3) := dk_180 0 107 (dk_at dksX18_agrees_0 9 rfl rfl)
theorem dX18_agrees_12 : decode cX18_agrees 12 = .ok (.iload_n 1, 1) := dk_27 (dk_at dksX18_agrees_0 12 rfl rfl)
theorem dX18_agrees_13 : decode cX18_agrees 13 = .ok (.iload_n 2, 1) := dk_28 (dk_at dksX18_agrees_0 13 rfl rfl)
theorem dX18_agrees_14 : decode cX18_agrees 14 = .ok (.iload_n 3, 1) := dk_29 (dk_at dksX18_agrees_0 14 rfl rfl)
theorem dX18_agrees_15 : decode cX18_agrees 15 = .ok (.invokevirtual 131, 3) := dk_182 0 131 (dk_at dksX18_agrees_0 15 rfl rfl)
theorem dX18_agrees_18 : decode cX18_agrees 18 = .ok (.ifCond .ne 7, 3) := dk_154 0 7 (dk_at dksX18_agrees_0 18 rfl rfl)
theorem dX18_agrees_21 : decode cX18_agrees 21 = .ok (.iconst 1, 1) := dk_4 (dk_at dksX18_agrees_0 21 rfl rfl)
theorem dX18_agrees_22 : decode cX18_agrees 22 = .ok (.goto 28, 3) := dk_167 0 28 (dk_at dksX18_agrees_1 0 rfl rfl)
theorem dX18_agrees_25 : decode cX18_agrees 25 = .ok (.iconst 0, 1) := dk_3 (dk_at dksX18_agrees_1 3 rfl rfl)
theorem dX18_agrees_26 : decode cX18_agrees 26 = .ok (.goto 24, 3) := dk_167 0 24 (dk_at dksX18_agrees_1 4 rfl rfl)
theorem dX18_agrees_29 : decode cX18_agrees 29 = .ok (.aload_n 0, 1) := dk_42 (dk_at dksX18_agrees_1 7 rfl rfl)
theorem dX18_agrees_30 : decode cX18_agrees 30 = .ok (.getfield 3, 3) := dk_180 0 3 (dk_at dksX18_agrees_1 8 rfl rfl)
theorem dX18_agrees_33 : decode cX18_agrees 33 = .ok (.getfield 107, 3) := dk_180 0 107 (dk_at dksX18_agrees_1 11 rfl rfl)
theorem dX18_agrees_36 : decode cX18_agrees 36 = .ok (.iload_n 1, 1) := dk_27 (dk_at dksX18_agrees_1 14 rfl rfl)
theorem dX18_agrees_37 : decode cX18_agrees 37 = .ok (.iload_n 2, 1) := dk_28 (dk_at dksX18_agrees_1 15 rfl rfl)
theorem dX18_agrees_38 : decode cX18_agrees 38 = .ok (.iload_n 3, 1) := dk_29 (dk_at dksX18_agrees_1 16 rfl rfl)
theorem dX18_agrees_39 : decode cX18_agrees 39 = .ok (.invokevirtual 135, 3) := dk_182 0 135 (dk_at dksX18_agrees_1 17 rfl rfl)
theorem dX18_agrees_42 : decode cX18_agrees 42 = .ok (.ifCond .ne 7, 3) := dk_154 0 7 (dk_at dksX18_agrees_1 20 rfl rfl)
theorem dX18_agrees_45 : decode cX18_agrees 45 = .ok (.iconst 1, 1) := dk_4 (dk_at dksX18_agrees_1 23 rfl rfl)
theorem dX18_agrees_46 : decode cX18_agrees 46 = .ok (.goto 4, 3) := dk_167 0 4 (dk_at dksX18_agrees_2 0 rfl rfl)
theorem dX18_agrees_49 : decode cX18_agrees 49 = .ok (.iconst 0, 1) := dk_3 (dk_at dksX18_agrees_2 3 rfl rfl)
theorem dX18_agrees_50 : decode cX18_agrees 50 = .ok (.ireturn, 1) := dk_172 (dk_at dksX18_agrees_2 4 rfl rfl)
def dkwX18_back_3 : List UInt8 := [167, 255, 188, 177]
abbrev dktX18_back_3 : List UInt8 := dkwX18_back_3 ++ []
def dkwX18_back_2 : List UInt8 := [79, 42, 180, 0, 3, 180, 0, 15, 42, 180, 0, 3, 180, 0, 120, 42, 180, 0, 90, 46, 2, 79]
abbrev dktX18_back_2 : List UInt8 := dkwX18_back_2 ++ dktX18_back_3
def dkwX18_back_1 : List UInt8 := [180, 0, 19, 42, 180, 0, 3, 180, 0, 15, 42, 180, 0, 3, 180, 0, 120, 42, 180, 0, 90, 46, 46, 2]
abbrev dktX18_back_1 : List UInt8 := dkwX18_back_1 ++ dktX18_back_2
def dkwX18_back_0 : List UInt8 := [42, 180, 0, 90, 27, 164, 0, 66, 42, 89, 180, 0, 90, 4, 100, 181, 0, 90, 42, 180, 0, 3]
abbrev dktX18_back_0 : List UInt8 := dkwX18_back_0 ++ dktX18_back_1
theorem dksX18_back_0 : cX18_back.data.toList.drop 0 = dktX18_back_0 := by decide +kernel
theorem dksX18_back_1 : cX18_back.data.toList.drop 22 = dktX18_back_1 := dk_seg dksX18_back_0 22 rfl rfl
theorem dksX18_back_2 : cX18_back.data.toList.drop 46 = dktX18_back_2 := dk_seg dksX18_back_1 24 rfl rfl
theorem dksX18_back_3 : cX18_back.data.toList.drop 68 = dktX18_back_3 := dk_seg dksX18_back_2 22 rfl rfl
theorem dX18_back_0 : decode cX18_back 0 = .ok (.aload_n 0, 1) := dk_42 (dk_at dksX18_back_0 0 rfl rfl)
theorem dX18_back_1 : decode cX18_back 1 = .ok (.getfield 90, 3) := dk_180 0 90 (dk_at dksX18_back_0 1 rfl rfl)
theorem dX18_back_4 : decode cX18_back 4 = .ok (.iload_n 1, 1) := dk_27 (dk_at dksX18_back_0 4 rfl rfl)
theorem dX18_back_5 : decode cX18_back 5 = .ok (.if_icmp .le 66, 3) := dk_164 0 66 (dk_at dksX18_back_0 5 rfl rfl)
theorem dX18_back_8 : decode cX18_back 8 = .ok (.aload_n 0, 1) := dk_42 (dk_at dksX18_back_0 8 rfl rfl)
theorem dX18_back_9 : decode cX18_back 9 = .ok (.dup, 1) := dk_89 (dk_at dksX18_back_0 9 rfl rfl)
theorem dX18_back_10 : decode cX18_back 10 = .ok (.getfield 90, 3) := dk_180 0 90 (dk_at dksX18_back_0 10 rfl rfl)
theorem dX18_back_13 : decode cX18_back 13 = .ok (.iconst 1, 1) := dk_4 (dk_at dksX18_back_0 13 rfl rfl)
theorem dX18_back_14 : decode cX18_back 14 = .ok (.isub, 1) := dk_100 (dk_at dksX18_back_0 14 rfl rfl)
theorem dX18_back_15 : decode cX18_back 15 = .ok (.putfield 90, 3) := dk_181 0 90 (dk_at dksX18_back_0 15 rfl rfl)
theorem dX18_back_18 : decode cX18_back 18 = .ok (.aload_n 0, 1) := dk_42 (dk_at dksX18_back_0 18 rfl rfl)
theorem dX18_back_19 : decode cX18_back 19 = .ok (.getfield 3, 3) := dk_180 0 3 (dk_at dksX18_back_0 19 rfl rfl)
theorem dX18_back_22 : decode cX18_back 22 = .ok (.getfield 19, 3) := dk_180 0 19 (dk_at dksX18_back_1 0 rfl rfl)
theorem dX18_back_25 : decode cX18_back 25 = .ok (.aload_n 0, 1) := dk_42 (dk_at dksX18_back_1 3 rfl rfl)
theorem dX18_back_26 : decode cX18_back 26 = .ok (.getfield 3, 3) := dk_180 0 3 (dk_at dksX18_back_1 4 rfl rfl)
theorem dX18_back_29 : decode cX18_back 29 = .ok (.getfield 15, 3) := dk_180 0 15 (dk_at dksX18_back_1 7 rfl rfl)
theorem dX18_back_32 : decode cX18_back 32 = .ok (.aload_n 0, 1) := dk_42 (dk_at dksX18_back_1 10 rfl rfl)
theorem dX18_back_33 : decode cX18_back 33 = .ok (.getfield 3, 3) := dk_180 0 3 (dk_at dksX18_back_1 11 rfl rfl)
theorem dX18_back_36 : decode cX18_back 36 = .ok (.getfield 120, 3) := dk_180 0 120 (dk_at dksX18_back_1 14 rfl rfl)
theorem dX18_back_39 : decode cX18_back 39 = .ok (.aload_n 0, 1) := dk_42 (dk_at dksX18_back_1 17 rfl rfl)
theorem dX18_back_40 : decode cX18_back 40 = .ok (.getfield 90, 3) := dk_180 0 90 (dk_at dksX18_back_1 18 rfl rfl)
theorem dX18_back_43 : decode cX18_back 43 = .ok (.iaload, 1) := dk_46 (dk_at dksX18_back_1 21 rfl rfl)
theorem dX18_back_44 : decode cX18_back 44 = .ok (.iaload, 1) := dk_46 (dk_at dksX18_back_1 22 rfl rfl)
theorem dX18_back_45 : decode cX18_back 45 = .ok (.iconst (-1), 1) := dk_2 (dk_at dksX18_back_1 23 rfl rfl)
theorem dX18_back_46 : decode cX18_back 46 = .ok (.iastore, 1) := dk_79 (dk_at dksX18_back_2 0 rfl rfl)
theorem dX18_back_47 : decode cX18_back 47 = .ok (.aload_n 0, 1) := dk_42 (dk_at dksX18_back_2 1 rfl rfl)
theorem dX18_back_48 : decode cX18_back 48 = .ok (.getfield 3, 3) := dk_180 0 3 (dk_at dksX18_back_2 2 rfl rfl)
theorem dX18_back_51 : decode cX18_back 51 = .ok (.getfield 15, 3) := dk_180 0 15 (dk_at dksX18_back_2 5 rfl rfl)
theorem dX18_back_54 : decode cX18_back 54 = .ok (.aload_n 0, 1) := dk_42 (dk_at dksX18_back_2 8 rfl rfl)
theorem dX18_back_55 : decode cX18_back 55 = .ok (.getfield 3, 3) := dk_180 0 3 (dk_at dksX18_back_2 9 rfl rfl)
theorem dX18_back_58 : decode cX18_back 58 = .ok (.getfield 120, 3) := dk_180 0 120 (dk_at dksX18_back_2 12 rfl rfl)
theorem dX18_back_61 : decode cX18_back 61 = .ok (.aload_n 0, 1) := dk_42 (dk_at dksX18_back_2 15 rfl rfl)
theorem dX18_back_62 : decode cX18_back 62 = .ok (.getfield 90, 3) := dk_180 0 90 (dk_at dksX18_back_2 16 rfl rfl)
theorem dX18_back_65 : decode cX18_back 65 = .ok (.iaload, 1) := dk_46 (dk_at dksX18_back_2 19 rfl rfl)
theorem dX18_back_66 : decode cX18_back 66 = .ok (.iconst (-1), 1) := dk_2 (dk_at dksX18_back_2 20 rfl rfl)
theorem dX18_back_67 : decode cX18_back 67 = .ok (.iastore, 1) := dk_79 (dk_at dksX18_back_2 21 rfl rfl)
theorem dX18_back_68 : decode cX18_back 68 = .ok (.goto (-68), 3) := dk_167 255 188 (dk_at dksX18_back_3 0 rfl rfl)
theorem dX18_back_71 : decode cX18_back 71 = .ok (.return_, 1) := dk_177 (dk_at dksX18_back_3 3 rfl rfl)
