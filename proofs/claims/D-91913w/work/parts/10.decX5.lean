set_option maxRecDepth 100000
theorem dX5_thrown_0 : decode cX5_thrown 0 = .ok (.aload_n 0, 1) := by decide +kernel
theorem dX5_thrown_1 : decode cX5_thrown 1 = .ok (.getfield 1, 3) := by decide +kernel
theorem dX5_thrown_4 : decode cX5_thrown 4 = .ok (.ireturn, 1) := by decide +kernel
def dkwX5_init_19 : List UInt8 := [177]
abbrev dktX5_init_19 : List UInt8 := dkwX5_init_19 ++ []
def dkwX5_init_18 : List UInt8 := [181, 0, 166, 3, 60, 27, 7, 162, 0, 17, 42, 180, 0, 54, 27, 16, 10, 79, 132, 1, 1, 167, 255, 240]
abbrev dktX5_init_18 : List UInt8 := dkwX5_init_18 ++ dktX5_init_19
def dkwX5_init_17 : List UInt8 := [42, 17, 21, 64, 188, 10, 181, 0, 160, 42, 17, 0, 192, 188, 4, 181, 0, 163, 42, 16, 12, 188, 10]
abbrev dktX5_init_17 : List UInt8 := dkwX5_init_17 ++ dktX5_init_18
def dkwX5_init_16 : List UInt8 := [17, 1, 64, 188, 10, 181, 0, 151, 42, 16, 7, 188, 10, 181, 0, 154, 42, 16, 40, 188, 10, 181, 0, 157]
abbrev dktX5_init_16 : List UInt8 := dkwX5_init_16 ++ dktX5_init_17
def dkwX5_init_15 : List UInt8 := [16, 8, 188, 10, 181, 0, 142, 42, 16, 7, 188, 10, 181, 0, 145, 42, 16, 7, 188, 10, 181, 0, 148, 42]
abbrev dktX5_init_15 : List UInt8 := dkwX5_init_15 ++ dktX5_init_16
def dkwX5_init_14 : List UInt8 := [16, 6, 188, 10, 181, 0, 133, 42, 16, 56, 188, 10, 181, 0, 136, 42, 16, 7, 188, 10, 181, 0, 139, 42]
abbrev dktX5_init_14 : List UInt8 := dkwX5_init_14 ++ dktX5_init_15
def dkwX5_init_13 : List UInt8 := [16, 56, 188, 10, 181, 0, 124, 42, 16, 7, 188, 10, 181, 0, 127, 42, 16, 6, 188, 10, 181, 0, 130, 42]
abbrev dktX5_init_13 : List UInt8 := dkwX5_init_13 ++ dktX5_init_14
def dkwX5_init_12 : List UInt8 := [188, 10, 181, 0, 115, 42, 17, 0, 240, 188, 10, 181, 0, 118, 42, 16, 7, 188, 10, 181, 0, 121, 42]
abbrev dktX5_init_12 : List UInt8 := dkwX5_init_12 ++ dktX5_init_13
def dkwX5_init_11 : List UInt8 := [181, 0, 106, 42, 17, 6, 64, 188, 10, 181, 0, 109, 42, 16, 40, 188, 10, 181, 0, 112, 42, 17, 12, 128]
abbrev dktX5_init_11 : List UInt8 := dkwX5_init_11 ++ dktX5_init_12
def dkwX5_init_10 : List UInt8 := [17, 12, 128, 188, 4, 181, 0, 100, 42, 17, 12, 128, 188, 4, 181, 0, 103, 42, 16, 80, 188, 10]
abbrev dktX5_init_10 : List UInt8 := dkwX5_init_10 ++ dktX5_init_11
def dkwX5_init_9 : List UInt8 := [188, 10, 181, 0, 91, 42, 17, 0, 192, 188, 10, 181, 0, 94, 42, 17, 4, 128, 188, 10, 181, 0, 97, 42]
abbrev dktX5_init_9 : List UInt8 := dkwX5_init_9 ++ dktX5_init_10
def dkwX5_init_8 : List UInt8 := [188, 10, 181, 0, 81, 42, 16, 60, 188, 4, 181, 0, 84, 42, 16, 60, 188, 10, 181, 0, 88, 42, 16, 60]
abbrev dktX5_init_8 : List UInt8 := dkwX5_init_8 ++ dktX5_init_9
def dkwX5_init_7 : List UInt8 := [188, 10, 181, 0, 72, 42, 16, 60, 188, 10, 181, 0, 75, 42, 16, 60, 188, 10, 181, 0, 78, 42, 16, 60]
abbrev dktX5_init_7 : List UInt8 := dkwX5_init_7 ++ dktX5_init_8
def dkwX5_init_6 : List UInt8 := [181, 0, 63, 42, 17, 0, 200, 188, 10, 181, 0, 66, 42, 17, 0, 200, 188, 10, 181, 0, 69, 42, 16, 40]
abbrev dktX5_init_6 : List UInt8 := dkwX5_init_6 ++ dktX5_init_7
def dkwX5_init_5 : List UInt8 := [42, 17, 0, 200, 188, 10, 181, 0, 57, 42, 17, 0, 200, 188, 10, 181, 0, 60, 42, 17, 0, 200, 188, 10]
abbrev dktX5_init_5 : List UInt8 := dkwX5_init_5 ++ dktX5_init_6
def dkwX5_init_4 : List UInt8 := [181, 0, 44, 42, 17, 1, 44, 188, 8, 181, 0, 47, 42, 2, 181, 0, 51, 42, 7, 188, 10, 181, 0, 54]
abbrev dktX5_init_4 : List UInt8 := dkwX5_init_4 ++ dktX5_init_5
def dkwX5_init_3 : List UInt8 := [42, 17, 0, 132, 188, 10, 181, 0, 38, 42, 17, 0, 132, 188, 10, 181, 0, 41, 42, 17, 0, 132, 188, 10]
abbrev dktX5_init_3 : List UInt8 := dkwX5_init_3 ++ dktX5_init_4
def dkwX5_init_2 : List UInt8 := [16, 10, 188, 10, 181, 0, 29, 42, 16, 11, 188, 10, 181, 0, 32, 42, 17, 0, 132, 188, 10, 181, 0, 35]
abbrev dktX5_init_2 : List UInt8 := dkwX5_init_2 ++ dktX5_init_3
def dkwX5_init_1 : List UInt8 := [188, 10, 181, 0, 20, 42, 17, 0, 200, 188, 10, 181, 0, 23, 42, 17, 4, 176, 188, 10, 181, 0, 26, 42]
abbrev dktX5_init_1 : List UInt8 := dkwX5_init_1 ++ dktX5_init_2
def dkwX5_init_0 : List UInt8 := [42, 183, 0, 7, 42, 16, 24, 188, 10, 181, 0, 13, 42, 16, 24, 188, 10, 181, 0, 17, 42, 16, 25]
abbrev dktX5_init_0 : List UInt8 := dkwX5_init_0 ++ dktX5_init_1
theorem dksX5_init_0 : cX5_init.data.toList.drop 0 = dktX5_init_0 := by decide +kernel
theorem dksX5_init_1 : cX5_init.data.toList.drop 23 = dktX5_init_1 := dk_seg dksX5_init_0 23 rfl rfl
theorem dksX5_init_2 : cX5_init.data.toList.drop 47 = dktX5_init_2 := dk_seg dksX5_init_1 24 rfl rfl
theorem dksX5_init_3 : cX5_init.data.toList.drop 71 = dktX5_init_3 := dk_seg dksX5_init_2 24 rfl rfl
theorem dksX5_init_4 : cX5_init.data.toList.drop 95 = dktX5_init_4 := dk_seg dksX5_init_3 24 rfl rfl
theorem dksX5_init_5 : cX5_init.data.toList.drop 119 = dktX5_init_5 := dk_seg dksX5_init_4 24 rfl rfl
theorem dksX5_init_6 : cX5_init.data.toList.drop 143 = dktX5_init_6 := dk_seg dksX5_init_5 24 rfl rfl
theorem dksX5_init_7 : cX5_init.data.toList.drop 167 = dktX5_init_7 := dk_seg dksX5_init_6 24 rfl rfl
theorem dksX5_init_8 : cX5_init.data.toList.drop 191 = dktX5_init_8 := dk_seg dksX5_init_7 24 rfl rfl
theorem dksX5_init_9 : cX5_init.data.toList.drop 215 = dktX5_init_9 := dk_seg dksX5_init_8 24 rfl rfl
theorem dksX5_init_10 : cX5_init.data.toList.drop 239 = dktX5_init_10 := dk_seg dksX5_init_9 24 rfl rfl
theorem dksX5_init_11 : cX5_init.data.toList.drop 261 = dktX5_init_11 := dk_seg dksX5_init_10 22 rfl rfl
theorem dksX5_init_12 : cX5_init.data.toList.drop 285 = dktX5_init_12 := dk_seg dksX5_init_11 24 rfl rfl
theorem dksX5_init_13 : cX5_init.data.toList.drop 308 = dktX5_init_13 := dk_seg dksX5_init_12 23 rfl rfl
theorem dksX5_init_14 : cX5_init.data.toList.drop 332 = dktX5_init_14 := dk_seg dksX5_init_13 24 rfl rfl
theorem dksX5_init_15 : cX5_init.data.toList.drop 356 = dktX5_init_15 := dk_seg dksX5_init_14 24 rfl rfl
theorem dksX5_init_16 : cX5_init.data.toList.drop 380 = dktX5_init_16 := dk_seg dksX5_init_15 24 rfl rfl
theorem dksX5_init_17 : cX5_init.data.toList.drop 404 = dktX5_init_17 := dk_seg dksX5_init_16 24 rfl rfl
theorem dksX5_init_18 : cX5_init.data.toList.drop 427 = dktX5_init_18 := dk_seg dksX5_init_17 23 rfl rfl
theorem dksX5_init_19 : cX5_init.data.toList.drop 451 = dktX5_init_19 := dk_seg dksX5_init_18 24 rfl rfl
theorem dX5_init_0 : decode cX5_init 0 = .ok (.aload_n 0, 1) := dk_42 (dk_at dksX5_init_0 0 rfl rfl)
theorem dX5_init_1 : decode cX5_init 1 = .ok (.invokespecial 7, 3) := dk_183 0 7 (dk_at dksX5_init_0 1 rfl rfl)
theorem dX5_init_4 : decode cX5_init 4 = .ok (.aload_n 0, 1) := dk_42 (dk_at dksX5_init_0 4 rfl rfl)
theorem dX5_init_5 : decode cX5_init 5 = .ok (.bipush 24, 2) := dk_16 24 (dk_at dksX5_init_0 5 rfl rfl)
theorem dX5_init_7 : decode cX5_init 7 = .ok (.newarray .int, 2) := dk_188_10 (dk_at dksX5_init_0 7 rfl rfl)
theorem dX5_init_9 : decode cX5_init 9 = .ok (.putfield 13, 3) := dk_181 0 13 (dk_at dksX5_init_0 9 rfl rfl)
theorem dX5_init_12 : decode cX5_init 12 = .ok (.aload_n 0, 1) := dk_42 (dk_at dksX5_init_0 12 rfl rfl)
theorem dX5_init_13 : decode cX5_init 13 = .ok (.bipush 24, 2) := dk_16 24 (dk_at dksX5_init_0 13 rfl rfl)
theorem dX5_init_15 : decode cX5_init 15 = .ok (.newarray .int, 2) := dk_188_10 (dk_at dksX5_init_0 15 rfl rfl)
theorem dX5_init_17 : decode cX5_init 17 = .ok (.putfield 17, 3) := dk_181 0 17 (dk_at dksX5_init_0 17 rfl rfl)
theorem dX5_init_20 : decode cX5_init 20 = .ok (.aload_n 0, 1) := dk_42 (dk_at dksX5_init_0 20 rfl rfl)
theorem dX5_init_21 : decode cX5_init 21 = .ok (.bipush 25, 2) := dk_16 25 (dk_at dksX5_init_0 21 rfl rfl)
theorem dX5_init_23 : decode cX5_init 23 = .ok (.newarray .int, 2) := dk_188_10 (dk_at dksX5_init_1 0 rfl rfl)
theorem dX5_init_25 : decode cX5_init 25 = .ok (.putfield 20, 3) := dk_181 0 20 (dk_at dksX5_init_1 2 rfl rfl)
theorem dX5_init_28 : decode cX5_init 28 = .ok (.aload_n 0, 1) := dk_42 (dk_at dksX5_init_1 5 rfl rfl)
theorem dX5_init_29 : decode cX5_init 29 = .ok (.sipush 200, 3) := dk_17 0 200 (dk_at dksX5_init_1 6 rfl rfl)
theorem dX5_init_32 : decode cX5_init 32 = .ok (.newarray .int, 2) := dk_188_10 (dk_at dksX5_init_1 9 rfl rfl)
theorem dX5_init_34 : decode cX5_init 34 = .ok (.putfield 23, 3) := dk_181 0 23 (dk_at dksX5_init_1 11 rfl rfl)
theorem dX5_init_37 : decode cX5_init 37 = .ok (.aload_n 0, 1) := dk_42 (dk_at dksX5_init_1 14 rfl rfl)
theorem dX5_init_38 : decode cX5_init 38 = .ok (.sipush 1200, 3) := dk_17 4 176 (dk_at dksX5_init_1 15 rfl rfl)
theorem dX5_init_41 : decode cX5_init 41 = .ok (.newarray .int, 2) := dk_188_10 (dk_at dksX5_init_1 18 rfl rfl)
theorem dX5_init_43 : decode cX5_init 43 = .ok (.putfield 26, 3) := dk_181 0 26 (dk_at dksX5_init_1 20 rfl rfl)
theorem dX5_init_46 : decode cX5_init 46 = .ok (.aload_n 0, 1) := dk_42 (dk_at dksX5_init_1 23 rfl rfl)
theorem dX5_init_47 : decode cX5_init 47 = .ok (.bipush 10, 2) := dk_16 10 (dk_at dksX5_init_2 0 rfl rfl)
theorem dX5_init_49 : decode cX5_init 49 = .ok (.newarray .int, 2) := dk_188_10 (dk_at dksX5_init_2 2 rfl rfl)
theorem dX5_init_51 : decode cX5_init 51 = .ok (.putfield 29, 3) := dk_181 0 29 (dk_at dksX5_init_2 4 rfl rfl)
theorem dX5_init_54 : decode cX5_init 54 = .ok (.aload_n 0, 1) := dk_42 (dk_at dksX5_init_2 7 rfl rfl)
theorem dX5_init_55 : decode cX5_init 55 = .ok (.bipush 11, 2) := dk_16 11 (dk_at dksX5_init_2 8 rfl rfl)
theorem dX5_init_57 : decode cX5_init 57 = .ok (.newarray .int, 2) := dk_188_10 (dk_at dksX5_init_2 10 rfl rfl)
theorem dX5_init_59 : decode cX5_init 59 = .ok (.putfield 32, 3) := dk_181 0 32 (dk_at dksX5_init_2 12 rfl rfl)
theorem dX5_init_62 : decode cX5_init 62 = .ok (.aload_n 0, 1) := dk_42 (dk_at dksX5_init_2 15 rfl rfl)
theorem dX5_init_63 : decode cX5_init 63 = .ok (.sipush 132, 3) := dk_17 0 132 (dk_at dksX5_init_2 16 rfl rfl)
theorem dX5_init_66 : decode cX5_init 66 = .ok (.newarray .int, 2) := dk_188_10 (dk_at dksX5_init_2 19 rfl rfl)
theorem dX5_init_68 : decode cX5_init 68 = .ok (.putfield 35, 3) := dk_181 0 35 (dk_at dksX5_init_2 21 rfl rfl)
theorem dX5_init_71 : decode cX5_init 71 = .ok (.aload_n 0, 1) := dk_42 (dk_at dksX5_init_3 0 rfl rfl)
theorem dX5_init_72 : decode cX5_init 72 = .ok (.sipush 132, 3) := dk_17 0 132 (dk_at dksX5_init_3 1 rfl rfl)
theorem dX5_init_75 : decode cX5_init 75 = .ok (.newarray .int, 2) := dk_188_10 (dk_at dksX5_init_3 4 rfl rfl)
theorem dX5_init_77 : decode cX5_init 77 = .ok (.putfield 38, 3) := dk_181 0 38 (dk_at dksX5_init_3 6 rfl rfl)
theorem dX5_init_80 : decode cX5_init 80 = .ok (.aload_n 0, 1) := dk_42 (dk_at dksX5_init_3 9 rfl rfl)
theorem dX5_init_81 : decode cX5_init 81 = .ok (.sipush 132, 3) := dk_17 0 132 (dk_at dksX5_init_3 10 rfl rfl)
theorem dX5_init_84 : decode cX5_init 84 = .ok (.newarray .int, 2) := dk_188_10 (dk_at dksX5_init_3 13 rfl rfl)
theorem dX5_init_86 : decode cX5_init 86 = .ok (.putfield 41, 3) := dk_181 0 41 (dk_at dksX5_init_3 15 rfl rfl)
theorem dX5_init_89 : decode cX5_init 89 = .ok (.aload_n 0, 1) := dk_42 (dk_at dksX5_init_3 18 rfl rfl)
theorem dX5_init_90 : decode cX5_init 90 = .ok (.sipush 132, 3) := dk_17 0 132 (dk_at dksX5_init_3 19 rfl rfl)
theorem dX5_init_93 : decode cX5_init 93 = .ok (.newarray .int, 2) := dk_188_10 (dk_at dksX5_init_3 22 rfl rfl)
theorem dX5_init_95 : decode cX5_init 95 = .ok (.putfield 44, 3) := dk_181 0 44 (dk_at dksX5_init_4 0 rfl rfl)
theorem dX5_init_98 : decode cX5_init 98 = .ok (.aload_n 0, 1) := dk_42 (dk_at dksX5_init_4 3 rfl rfl)
theorem dX5_init_99 : decode cX5_init 99 = .ok (.sipush 300, 3) := dk_17 1 44 (dk_at dksX5_init_4 4 rfl rfl)
theorem dX5_init_102 : decode cX5_init 102 = .ok (.newarray .byte, 2) := dk_188_8 (dk_at dksX5_init_4 7 rfl rfl)
theorem dX5_init_104 : decode cX5_init 104 = .ok (.putfield 47, 3) := dk_181 0 47 (dk_at dksX5_init_4 9 rfl rfl)
theorem dX5_init_107 : decode cX5_init 107 = .ok (.aload_n 0, 1) := dk_42 (dk_at dksX5_init_4 12 rfl rfl)
theorem dX5_init_108 : decode cX5_init 108 = .ok (.iconst (-1), 1) := dk_2 (dk_at dksX5_init_4 13 rfl rfl)
theorem dX5_init_109 : decode cX5_init 109 = .ok (.putfield 51, 3) := dk_181 0 51 (dk_at dksX5_init_4 14 rfl rfl)
theorem dX5_init_112 : decode cX5_init 112 = .ok (.aload_n 0, 1) := dk_42 (dk_at dksX5_init_4 17 rfl rfl)
theorem dX5_init_113 : decode cX5_init 113 = .ok (.iconst 4, 1) := dk_7 (dk_at dksX5_init_4 18 rfl rfl)
theorem dX5_init_114 : decode cX5_init 114 = .ok (.newarray .int, 2) := dk_188_10 (dk_at dksX5_init_4 19 rfl rfl)
theorem dX5_init_116 : decode cX5_init 116 = .ok (.putfield 54, 3) := dk_181 0 54 (dk_at dksX5_init_4 21 rfl rfl)
theorem dX5_init_119 : decode cX5_init 119 = .ok (.aload_n 0, 1) := dk_42 (dk_at dksX5_init_5 0 rfl rfl)
theorem dX5_init_120 : decode cX5_init 120 = .ok (.sipush 200, 3) := dk_17 0 200 (dk_at dksX5_init_5 1 rfl rfl)
theorem dX5_init_123 : decode cX5_init 123 = .ok (.newarray .int, 2) := dk_188_10 (dk_at dksX5_init_5 4 rfl rfl)
theorem dX5_init_125 : decode cX5_init 125 = .ok (.putfield 57, 3) := dk_181 0 57 (dk_at dksX5_init_5 6 rfl rfl)
theorem dX5_init_128 : decode cX5_init 128 = .ok (.aload_n 0, 1) := dk_42 (dk_at dksX5_init_5 9 rfl rfl)
theorem dX5_init_129 : decode cX5_init 129 = .ok (.sipush 200, 3) := dk_17 0 200 (dk_at dksX5_init_5 10 rfl rfl)
theorem dX5_init_132 : decode cX5_init 132 = .ok (.newarray .int, 2) := dk_188_10 (dk_at dksX5_init_5 13 rfl rfl)
theorem dX5_init_134 : decode cX5_init 134 = .ok (.putfield 60, 3) := dk_181 0 60 (dk_at dksX5_init_5 15 rfl rfl)
theorem dX5_init_137 : decode cX5_init 137 = .ok (.aload_n 0, 1) := dk_42 (dk_at dksX5_init_5 18 rfl rfl)
theorem dX5_init_138 : decode cX5_init 138 = .ok (.sipush 200, 3) := dk_17 0 200 (dk_at dksX5_init_5 19 rfl rfl)
theorem dX5_init_141 : decode cX5_init 141 = .ok (.newarray .int, 2) := dk_188_10 (dk_at dksX5_init_5 22 rfl rfl)
theorem dX5_init_143 : decode cX5_init 143 = .ok (.putfield 63, 3) := dk_181 0 63 (dk_at dksX5_init_6 0 rfl rfl)
theorem dX5_init_146 : decode cX5_init 146 = .ok (.aload_n 0, 1) := dk_42 (dk_at dksX5_init_6 3 rfl rfl)
theorem dX5_init_147 : decode cX5_init 147 = .ok (.sipush 200, 3) := dk_17 0 200 (dk_at dksX5_init_6 4 rfl rfl)
theorem dX5_init_150 : decode cX5_init 150 = .ok (.newarray .int, 2) := dk_188_10 (dk_at dksX5_init_6 7 rfl rfl)
theorem dX5_init_152 : decode cX5_init 152 = .ok (.putfield 66, 3) := dk_181 0 66 (dk_at dksX5_init_6 9 rfl rfl)
theorem dX5_init_155 : decode cX5_init 155 = .ok (.aload_n 0, 1) := dk_42 (dk_at dksX5_init_6 12 rfl rfl)
theorem dX5_init_156 : decode cX5_init 156 = .ok (.sipush 200, 3) := dk_17 0 200 (dk_at dksX5_init_6 13 rfl rfl)
theorem dX5_init_159 : decode cX5_init 159 = .ok (.newarray .int, 2) := dk_188_10 (dk_at dksX5_init_6 16 rfl rfl)
theorem dX5_init_161 : decode cX5_init 161 = .ok (.putfield 69, 3) := dk_181 0 69 (dk_at dksX5_init_6 18 rfl rfl)
theorem dX5_init_164 : decode cX5_init 164 = .ok (.aload_n 0, 1) := dk_42 (dk_at dksX5_init_6 21 rfl rfl)
theorem dX5_init_165 : decode cX5_init 165 = .ok (.bipush 40, 2) := dk_16 40 (dk_at dksX5_init_6 22 rfl rfl)
theorem dX5_init_167 : decode cX5_init 167 = .ok (.newarray .int, 2) := dk_188_10 (dk_at dksX5_init_7 0 rfl rfl)
theorem dX5_init_169 : decode cX5_init 169 = .ok (.putfield 72, 3) := dk_181 0 72 (dk_at dksX5_init_7 2 rfl rfl)
theorem dX5_init_172 : decode cX5_init 172 = .ok (.aload_n 0, 1) := dk_42 (dk_at dksX5_init_7 5 rfl rfl)
theorem dX5_init_173 : decode cX5_init 173 = .ok (.bipush 60, 2) := dk_16 60 (dk_at dksX5_init_7 6 rfl rfl)
theorem dX5_init_175 : decode cX5_init 175 = .ok (.newarray .int, 2) := dk_188_10 (dk_at dksX5_init_7 8 rfl rfl)
theorem dX5_init_177 : decode cX5_init 177 = .ok (.putfield 75, 3) := dk_181 0 75 (dk_at dksX5_init_7 10 rfl rfl)
theorem dX5_init_180 : decode cX5_init 180 = .ok (.aload_n 0, 1) := dk_42 (dk_at dksX5_init_7 13 rfl rfl)
theorem dX5_init_181 : decode cX5_init 181 = .ok (.bipush 60, 2) := dk_16 60 (dk_at dksX5_init_7 14 rfl rfl)
theorem dX5_init_183 : decode cX5_init 183 = .ok (.newarray .int, 2) := dk_188_10 (dk_at dksX5_init_7 16 rfl rfl)
theorem dX5_init_185 : decode cX5_init 185 = .ok (.putfield 78, 3) := dk_181 0 78 (dk_at dksX5_init_7 18 rfl rfl)
theorem dX5_init_188 : decode cX5_init 188 = .ok (.aload_n 0, 1) := dk_42 (dk_at dksX5_init_7 21 rfl rfl)
theorem dX5_init_189 : decode cX5_init 189 = .ok (.bipush 60, 2) := dk_16 60 (dk_at dksX5_init_7 22 rfl rfl)
theorem dX5_init_191 : decode cX5_init 191 = .ok (.newarray .int, 2) := dk_188_10 (dk_at dksX5_init_8 0 rfl rfl)
theorem dX5_init_193 : decode cX5_init 193 = .ok (.putfield 81, 3) := dk_181 0 81 (dk_at dksX5_init_8 2 rfl rfl)
theorem dX5_init_196 : decode cX5_init 196 = .ok (.aload_n 0, 1) := dk_42 (dk_at dksX5_init_8 5 rfl rfl)
theorem dX5_init_197 : decode cX5_init 197 = .ok (.bipush 60, 2) := dk_16 60 (dk_at dksX5_init_8 6 rfl rfl)
theorem dX5_init_199 : decode cX5_init 199 = .ok (.newarray .boolean, 2) := dk_188_4 (dk_at dksX5_init_8 8 rfl rfl)
theorem dX5_init_201 : decode cX5_init 201 = .ok (.putfield 84, 3) := dk_181 0 84 (dk_at dksX5_init_8 10 rfl rfl)
theorem dX5_init_204 : decode cX5_init 204 = .ok (.aload_n 0, 1) := dk_42 (dk_at dksX5_init_8 13 rfl rfl)
theorem dX5_init_205 : decode cX5_init 205 = .ok (.bipush 60, 2) := dk_16 60 (dk_at dksX5_init_8 14 rfl rfl)
theorem dX5_init_207 : decode cX5_init 207 = .ok (.newarray .int, 2) := dk_188_10 (dk_at dksX5_init_8 16 rfl rfl)
theorem dX5_init_209 : decode cX5_init 209 = .ok (.putfield 88, 3) := dk_181 0 88 (dk_at dksX5_init_8 18 rfl rfl)
theorem dX5_init_212 : decode cX5_init 212 = .ok (.aload_n 0, 1) := dk_42 (dk_at dksX5_init_8 21 rfl rfl)
theorem dX5_init_213 : decode cX5_init 213 = .ok (.bipush 60, 2) := dk_16 60 (dk_at dksX5_init_8 22 rfl rfl)
theorem dX5_init_215 : decode cX5_init 215 = .ok (.newarray .int, 2) := dk_188_10 (dk_at dksX5_init_9 0 rfl rfl)
theorem dX5_init_217 : decode cX5_init 217 = .ok (.putfield 91, 3) := dk_181 0 91 (dk_at dksX5_init_9 2 rfl rfl)
theorem dX5_init_220 : decode cX5_init 220 = .ok (.aload_n 0, 1) := dk_42 (dk_at dksX5_init_9 5 rfl rfl)
theorem dX5_init_221 : decode cX5_init 221 = .ok (.sipush 192, 3) := dk_17 0 192 (dk_at dksX5_init_9 6 rfl rfl)
theorem dX5_init_224 : decode cX5_init 224 = .ok (.newarray .int, 2) := dk_188_10 (dk_at dksX5_init_9 9 rfl rfl)
theorem dX5_init_226 : decode cX5_init 226 = .ok (.putfield 94, 3) := dk_181 0 94 (dk_at dksX5_init_9 11 rfl rfl)
theorem dX5_init_229 : decode cX5_init 229 = .ok (.aload_n 0, 1) := dk_42 (dk_at dksX5_init_9 14 rfl rfl)
theorem dX5_init_230 : decode cX5_init 230 = .ok (.sipush 1152, 3) := dk_17 4 128 (dk_at dksX5_init_9 15 rfl rfl)
theorem dX5_init_233 : decode cX5_init 233 = .ok (.newarray .int, 2) := dk_188_10 (dk_at dksX5_init_9 18 rfl rfl)
theorem dX5_init_235 : decode cX5_init 235 = .ok (.putfield 97, 3) := dk_181 0 97 (dk_at dksX5_init_9 20 rfl rfl)
theorem dX5_init_238 : decode cX5_init 238 = .ok (.aload_n 0, 1) := dk_42 (dk_at dksX5_init_9 23 rfl rfl)
theorem dX5_init_239 : decode cX5_init 239 = .ok (.sipush 3200, 3) := dk_17 12 128 (dk_at dksX5_init_10 0 rfl rfl)
theorem dX5_init_242 : decode cX5_init 242 = .ok (.newarray .boolean, 2) := dk_188_4 (dk_at dksX5_init_10 3 rfl rfl)
theorem dX5_init_244 : decode cX5_init 244 = .ok (.putfield 100, 3) := dk_181 0 100 (dk_at dksX5_init_10 5 rfl rfl)
theorem dX5_init_247 : decode cX5_init 247 = .ok (.aload_n 0, 1) := dk_42 (dk_at dksX5_init_10 8 rfl rfl)
theorem dX5_init_248 : decode cX5_init 248 = .ok (.sipush 3200, 3) := dk_17 12 128 (dk_at dksX5_init_10 9 rfl rfl)
theorem dX5_init_251 : decode cX5_init 251 = .ok (.newarray .boolean, 2) := dk_188_4 (dk_at dksX5_init_10 12 rfl rfl)
theorem dX5_init_253 : decode cX5_init 253 = .ok (.putfield 103, 3) := dk_181 0 103 (dk_at dksX5_init_10 14 rfl rfl)
theorem dX5_init_256 : decode cX5_init 256 = .ok (.aload_n 0, 1) := dk_42 (dk_at dksX5_init_10 17 rfl rfl)
theorem dX5_init_257 : decode cX5_init 257 = .ok (.bipush 80, 2) := dk_16 80 (dk_at dksX5_init_10 18 rfl rfl)
theorem dX5_init_259 : decode cX5_init 259 = .ok (.newarray .int, 2) := dk_188_10 (dk_at dksX5_init_10 20 rfl rfl)
theorem dX5_init_261 : decode cX5_init 261 = .ok (.putfield 106, 3) := dk_181 0 106 (dk_at dksX5_init_11 0 rfl rfl)
theorem dX5_init_264 : decode cX5_init 264 = .ok (.aload_n 0, 1) := dk_42 (dk_at dksX5_init_11 3 rfl rfl)
theorem dX5_init_265 : decode cX5_init 265 = .ok (.sipush 1600, 3) := dk_17 6 64 (dk_at dksX5_init_11 4 rfl rfl)
theorem dX5_init_268 : decode cX5_init 268 = .ok (.newarray .int, 2) := dk_188_10 (dk_at dksX5_init_11 7 rfl rfl)
theorem dX5_init_270 : decode cX5_init 270 = .ok (.putfield 109, 3) := dk_181 0 109 (dk_at dksX5_init_11 9 rfl rfl)
theorem dX5_init_273 : decode cX5_init 273 = .ok (.aload_n 0, 1) := dk_42 (dk_at dksX5_init_11 12 rfl rfl)
theorem dX5_init_274 : decode cX5_init 274 = .ok (.bipush 40, 2) := dk_16 40 (dk_at dksX5_init_11 13 rfl rfl)
theorem dX5_init_276 : decode cX5_init 276 = .ok (.newarray .int, 2) := dk_188_10 (dk_at dksX5_init_11 15 rfl rfl)
theorem dX5_init_278 : decode cX5_init 278 = .ok (.putfield 112, 3) := dk_181 0 112 (dk_at dksX5_init_11 17 rfl rfl)
theorem dX5_init_281 : decode cX5_init 281 = .ok (.aload_n 0, 1) := dk_42 (dk_at dksX5_init_11 20 rfl rfl)
theorem dX5_init_282 : decode cX5_init 282 = .ok (.sipush 3200, 3) := dk_17 12 128 (dk_at dksX5_init_11 21 rfl rfl)
theorem dX5_init_285 : decode cX5_init 285 = .ok (.newarray .int, 2) := dk_188_10 (dk_at dksX5_init_12 0 rfl rfl)
theorem dX5_init_287 : decode cX5_init 287 = .ok (.putfield 115, 3) := dk_181 0 115 (dk_at dksX5_init_12 2 rfl rfl)
theorem dX5_init_290 : decode cX5_init 290 = .ok (.aload_n 0, 1) := dk_42 (dk_at dksX5_init_12 5 rfl rfl)
theorem dX5_init_291 : decode cX5_init 291 = .ok (.sipush 240, 3) := dk_17 0 240 (dk_at dksX5_init_12 6 rfl rfl)
theorem dX5_init_294 : decode cX5_init 294 = .ok (.newarray .int, 2) := dk_188_10 (dk_at dksX5_init_12 9 rfl rfl)
theorem dX5_init_296 : decode cX5_init 296 = .ok (.putfield 118, 3) := dk_181 0 118 (dk_at dksX5_init_12 11 rfl rfl)
theorem dX5_init_299 : decode cX5_init 299 = .ok (.aload_n 0, 1) := dk_42 (dk_at dksX5_init_12 14 rfl rfl)
theorem dX5_init_300 : decode cX5_init 300 = .ok (.bipush 7, 2) := dk_16 7 (dk_at dksX5_init_12 15 rfl rfl)
theorem dX5_init_302 : decode cX5_init 302 = .ok (.newarray .int, 2) := dk_188_10 (dk_at dksX5_init_12 17 rfl rfl)
theorem dX5_init_304 : decode cX5_init 304 = .ok (.putfield 121, 3) := dk_181 0 121 (dk_at dksX5_init_12 19 rfl rfl)
theorem dX5_init_307 : decode cX5_init 307 = .ok (.aload_n 0, 1) := dk_42 (dk_at dksX5_init_12 22 rfl rfl)
theorem dX5_init_308 : decode cX5_init 308 = .ok (.bipush 56, 2) := dk_16 56 (dk_at dksX5_init_13 0 rfl rfl)
theorem dX5_init_310 : decode cX5_init 310 = .ok (.newarray .int, 2) := dk_188_10 (dk_at dksX5_init_13 2 rfl rfl)
theorem dX5_init_312 : decode cX5_init 312 = .ok (.putfield 124, 3) := dk_181 0 124 (dk_at dksX5_init_13 4 rfl rfl)
theorem dX5_init_315 : decode cX5_init 315 = .ok (.aload_n 0, 1) := dk_42 (dk_at dksX5_init_13 7 rfl rfl)
theorem dX5_init_316 : decode cX5_init 316 = .ok (.bipush 7, 2) := dk_16 7 (dk_at dksX5_init_13 8 rfl rfl)
theorem dX5_init_318 : decode cX5_init 318 = .ok (.newarray .int, 2) := dk_188_10 (dk_at dksX5_init_13 10 rfl rfl)
theorem dX5_init_320 : decode cX5_init 320 = .ok (.putfield 127, 3) := dk_181 0 127 (dk_at dksX5_init_13 12 rfl rfl)
theorem dX5_init_323 : decode cX5_init 323 = .ok (.aload_n 0, 1) := dk_42 (dk_at dksX5_init_13 15 rfl rfl)
theorem dX5_init_324 : decode cX5_init 324 = .ok (.bipush 6, 2) := dk_16 6 (dk_at dksX5_init_13 16 rfl rfl)
theorem dX5_init_326 : decode cX5_init 326 = .ok (.newarray .int, 2) := dk_188_10 (dk_at dksX5_init_13 18 rfl rfl)
theorem dX5_init_328 : decode cX5_init 328 = .ok (.putfield 130, 3) := dk_181 0 130 (dk_at dksX5_init_13 20 rfl rfl)
theorem dX5_init_331 : decode cX5_init 331 = .ok (.aload_n 0, 1) := dk_42 (dk_at dksX5_init_13 23 rfl rfl)
theorem dX5_init_332 : decode cX5_init 332 = .ok (.bipush 6, 2) := dk_16 6 (dk_at dksX5_init_14 0 rfl rfl)
theorem dX5_init_334 : decode cX5_init 334 = .ok (.newarray .int, 2) := dk_188_10 (dk_at dksX5_init_14 2 rfl rfl)
theorem dX5_init_336 : decode cX5_init 336 = .ok (.putfield 133, 3) := dk_181 0 133 (dk_at dksX5_init_14 4 rfl rfl)
theorem dX5_init_339 : decode cX5_init 339 = .ok (.aload_n 0, 1) := dk_42 (dk_at dksX5_init_14 7 rfl rfl)
theorem dX5_init_340 : decode cX5_init 340 = .ok (.bipush 56, 2) := dk_16 56 (dk_at dksX5_init_14 8 rfl rfl)
theorem dX5_init_342 : decode cX5_init 342 = .ok (.newarray .int, 2) := dk_188_10 (dk_at dksX5_init_14 10 rfl rfl)
theorem dX5_init_344 : decode cX5_init 344 = .ok (.putfield 136, 3) := dk_181 0 136 (dk_at dksX5_init_14 12 rfl rfl)
theorem dX5_init_347 : decode cX5_init 347 = .ok (.aload_n 0, 1) := dk_42 (dk_at dksX5_init_14 15 rfl rfl)
theorem dX5_init_348 : decode cX5_init 348 = .ok (.bipush 7, 2) := dk_16 7 (dk_at dksX5_init_14 16 rfl rfl)
theorem dX5_init_350 : decode cX5_init 350 = .ok (.newarray .int, 2) := dk_188_10 (dk_at dksX5_init_14 18 rfl rfl)
theorem dX5_init_352 : decode cX5_init 352 = .ok (.putfield 139, 3) := dk_181 0 139 (dk_at dksX5_init_14 20 rfl rfl)
theorem dX5_init_355 : decode cX5_init 355 = .ok (.aload_n 0, 1) := dk_42 (dk_at dksX5_init_14 23 rfl rfl)
theorem dX5_init_356 : decode cX5_init 356 = .ok (.bipush 8, 2) := dk_16 8 (dk_at dksX5_init_15 0 rfl rfl)
theorem dX5_init_358 : decode cX5_init 358 = .ok (.newarray .int, 2) := dk_188_10 (dk_at dksX5_init_15 2 rfl rfl)
theorem dX5_init_360 : decode cX5_init 360 = .ok (.putfield 142, 3) := dk_181 0 142 (dk_at dksX5_init_15 4 rfl rfl)
theorem dX5_init_363 : decode cX5_init 363 = .ok (.aload_n 0, 1) := dk_42 (dk_at dksX5_init_15 7 rfl rfl)
theorem dX5_init_364 : decode cX5_init 364 = .ok (.bipush 7, 2) := dk_16 7 (dk_at dksX5_init_15 8 rfl rfl)
theorem dX5_init_366 : decode cX5_init 366 = .ok (.newarray .int, 2) := dk_188_10 (dk_at dksX5_init_15 10 rfl rfl)
theorem dX5_init_368 : decode cX5_init 368 = .ok (.putfield 145, 3) := dk_181 0 145 (dk_at dksX5_init_15 12 rfl rfl)
theorem dX5_init_371 : decode cX5_init 371 = .ok (.aload_n 0, 1) := dk_42 (dk_at dksX5_init_15 15 rfl rfl)
theorem dX5_init_372 : decode cX5_init 372 = .ok (.bipush 7, 2) := dk_16 7 (dk_at dksX5_init_15 16 rfl rfl)
theorem dX5_init_374 : decode cX5_init 374 = .ok (.newarray .int, 2) := dk_188_10 (dk_at dksX5_init_15 18 rfl rfl)
theorem dX5_init_376 : decode cX5_init 376 = .ok (.putfield 148, 3) := dk_181 0 148 (dk_at dksX5_init_15 20 rfl rfl)
theorem dX5_init_379 : decode cX5_init 379 = .ok (.aload_n 0, 1) := dk_42 (dk_at dksX5_init_15 23 rfl rfl)
theorem dX5_init_380 : decode cX5_init 380 = .ok (.sipush 320, 3) := dk_17 1 64 (dk_at dksX5_init_16 0 rfl rfl)
theorem dX5_init_383 : decode cX5_init 383 = .ok (.newarray .int, 2) := dk_188_10 (dk_at dksX5_init_16 3 rfl rfl)
theorem dX5_init_385 : decode cX5_init 385 = .ok (.putfield 151, 3) := dk_181 0 151 (dk_at dksX5_init_16 5 rfl rfl)
theorem dX5_init_388 : decode cX5_init 388 = .ok (.aload_n 0, 1) := dk_42 (dk_at dksX5_init_16 8 rfl rfl)
theorem dX5_init_389 : decode cX5_init 389 = .ok (.bipush 7, 2) := dk_16 7 (dk_at dksX5_init_16 9 rfl rfl)
theorem dX5_init_391 : decode cX5_init 391 = .ok (.newarray .int, 2) := dk_188_10 (dk_at dksX5_init_16 11 rfl rfl)
theorem dX5_init_393 : decode cX5_init 393 = .ok (.putfield 154, 3) := dk_181 0 154 (dk_at dksX5_init_16 13 rfl rfl)
theorem dX5_init_396 : decode cX5_init 396 = .ok (.aload_n 0, 1) := dk_42 (dk_at dksX5_init_16 16 rfl rfl)
theorem dX5_init_397 : decode cX5_init 397 = .ok (.bipush 40, 2) := dk_16 40 (dk_at dksX5_init_16 17 rfl rfl)
theorem dX5_init_399 : decode cX5_init 399 = .ok (.newarray .int, 2) := dk_188_10 (dk_at dksX5_init_16 19 rfl rfl)
theorem dX5_init_401 : decode cX5_init 401 = .ok (.putfield 157, 3) := dk_181 0 157 (dk_at dksX5_init_16 21 rfl rfl)
theorem dX5_init_404 : decode cX5_init 404 = .ok (.aload_n 0, 1) := dk_42 (dk_at dksX5_init_17 0 rfl rfl)
theorem dX5_init_405 : decode cX5_init 405 = .ok (.sipush 5440, 3) := dk_17 21 64 (dk_at dksX5_init_17 1 rfl rfl)
theorem dX5_init_408 : decode cX5_init 408 = .ok (.newarray .int, 2) := dk_188_10 (dk_at dksX5_init_17 4 rfl rfl)
theorem dX5_init_410 : decode cX5_init 410 = .ok (.putfield 160, 3) := dk_181 0 160 (dk_at dksX5_init_17 6 rfl rfl)
theorem dX5_init_413 : decode cX5_init 413 = .ok (.aload_n 0, 1) := dk_42 (dk_at dksX5_init_17 9 rfl rfl)
theorem dX5_init_414 : decode cX5_init 414 = .ok (.sipush 192, 3) := dk_17 0 192 (dk_at dksX5_init_17 10 rfl rfl)
theorem dX5_init_417 : decode cX5_init 417 = .ok (.newarray .boolean, 2) := dk_188_4 (dk_at dksX5_init_17 13 rfl rfl)
theorem dX5_init_419 : decode cX5_init 419 = .ok (.putfield 163, 3) := dk_181 0 163 (dk_at dksX5_init_17 15 rfl rfl)
theorem dX5_init_422 : decode cX5_init 422 = .ok (.aload_n 0, 1) := dk_42 (dk_at dksX5_init_17 18 rfl rfl)
theorem dX5_init_423 : decode cX5_init 423 = .ok (.bipush 12, 2) := dk_16 12 (dk_at dksX5_init_17 19 rfl rfl)
theorem dX5_init_425 : decode cX5_init 425 = .ok (.newarray .int, 2) := dk_188_10 (dk_at dksX5_init_17 21 rfl rfl)
theorem dX5_init_427 : decode cX5_init 427 = .ok (.putfield 166, 3) := dk_181 0 166 (dk_at dksX5_init_18 0 rfl rfl)
theorem dX5_init_430 : decode cX5_init 430 = .ok (.iconst 0, 1) := dk_3 (dk_at dksX5_init_18 3 rfl rfl)
theorem dX5_init_431 : decode cX5_init 431 = .ok (.istore_n 1, 1) := dk_60 (dk_at dksX5_init_18 4 rfl rfl)
theorem dX5_init_432 : decode cX5_init 432 = .ok (.iload_n 1, 1) := dk_27 (dk_at dksX5_init_18 5 rfl rfl)
theorem dX5_init_433 : decode cX5_init 433 = .ok (.iconst 4, 1) := dk_7 (dk_at dksX5_init_18 6 rfl rfl)
theorem dX5_init_434 : decode cX5_init 434 = .ok (.if_icmp .ge 17, 3) := dk_162 0 17 (dk_at dksX5_init_18 7 rfl rfl)
theorem dX5_init_437 : decode cX5_init 437 = .ok (.aload_n 0, 1) := dk_42 (dk_at dksX5_init_18 10 rfl rfl)
theorem dX5_init_438 : decode cX5_init 438 = .ok (.getfield 54, 3) := dk_180 0 54 (dk_at dksX5_init_18 11 rfl rfl)
theorem dX5_init_441 : decode cX5_init 441 = .ok (.iload_n 1, 1) := dk_27 (dk_at dksX5_init_18 14 rfl rfl)
theorem dX5_init_442 : decode cX5_init 442 = .ok (.bipush 10, 2) := dk_16 10 (dk_at dksX5_init_18 15 rfl rfl)
theorem dX5_init_444 : decode cX5_init 444 = .ok (.iastore, 1) := dk_79 (dk_at dksX5_init_18 17 rfl rfl)
theorem dX5_init_445 : decode cX5_init 445 = .ok (.iinc 1 1, 3) := dk_132 1 1 (dk_at dksX5_init_18 18 rfl rfl)
theorem dX5_init_448 : decode cX5_init 448 = .ok (.goto (-16), 3) := dk_167 255 240 (dk_at dksX5_init_18 21 rfl rfl)
theorem dX5_init_451 : decode cX5_init 451 = .ok (.return_, 1) := dk_177 (dk_at dksX5_init_19 0 rfl rfl)
def dkwX5_day_1 : List UInt8 := [164, 0, 5, 2, 172, 42, 89, 180, 0, 173, 27, 96, 181, 0, 173, 42, 180, 0, 173, 172]
abbrev dktX5_day_1 : List UInt8 := dkwX5_day_1 ++ []
def dkwX5_day_0 : List UInt8 := [42, 3, 181, 0, 1, 27, 3, 17, 3, 232, 184, 0, 169, 153, 0, 14, 42, 180, 0, 173, 27, 96, 18, 176]
abbrev dktX5_day_0 : List UInt8 := dkwX5_day_0 ++ dktX5_day_1
theorem dksX5_day_0 : cX5_day.data.toList.drop 0 = dktX5_day_0 := by decide +kernel
theorem dksX5_day_1 : cX5_day.data.toList.drop 24 = dktX5_day_1 := dk_seg dksX5_day_0 24 rfl rfl
theorem dX5_day_0 : decode cX5_day 0 = .ok (.aload_n 0, 1) := dk_42 (dk_at dksX5_day_0 0 rfl rfl)
theorem dX5_day_1 : decode cX5_day 1 = .ok (.iconst 0, 1) := dk_3 (dk_at dksX5_day_0 1 rfl rfl)
theorem dX5_day_2 : decode cX5_day 2 = .ok (.putfield 1, 3) := dk_181 0 1 (dk_at dksX5_day_0 2 rfl rfl)
theorem dX5_day_5 : decode cX5_day 5 = .ok (.iload_n 1, 1) := dk_27 (dk_at dksX5_day_0 5 rfl rfl)
theorem dX5_day_6 : decode cX5_day 6 = .ok (.iconst 0, 1) := dk_3 (dk_at dksX5_day_0 6 rfl rfl)
theorem dX5_day_7 : decode cX5_day 7 = .ok (.sipush 1000, 3) := dk_17 3 232 (dk_at dksX5_day_0 7 rfl rfl)
theorem dX5_day_10 : decode cX5_day 10 = .ok (.invokestatic 169, 3) := dk_184 0 169 (dk_at dksX5_day_0 10 rfl rfl)
theorem dX5_day_13 : decode cX5_day 13 = .ok (.ifCond .eq 14, 3) := dk_153 0 14 (dk_at dksX5_day_0 13 rfl rfl)
theorem dX5_day_16 : decode cX5_day 16 = .ok (.aload_n 0, 1) := dk_42 (dk_at dksX5_day_0 16 rfl rfl)
theorem dX5_day_17 : decode cX5_day 17 = .ok (.getfield 173, 3) := dk_180 0 173 (dk_at dksX5_day_0 17 rfl rfl)
theorem dX5_day_20 : decode cX5_day 20 = .ok (.iload_n 1, 1) := dk_27 (dk_at dksX5_day_0 20 rfl rfl)
theorem dX5_day_21 : decode cX5_day 21 = .ok (.iadd, 1) := dk_96 (dk_at dksX5_day_0 21 rfl rfl)
theorem dX5_day_22 : decode cX5_day 22 = .ok (.ldc 176, 2) := dk_18 176 (dk_at dksX5_day_0 22 rfl rfl)
theorem dX5_day_24 : decode cX5_day 24 = .ok (.if_icmp .le 5, 3) := dk_164 0 5 (dk_at dksX5_day_1 0 rfl rfl)
theorem dX5_day_27 : decode cX5_day 27 = .ok (.iconst (-1), 1) := dk_2 (dk_at dksX5_day_1 3 rfl rfl)
theorem dX5_day_28 : decode cX5_day 28 = .ok (.ireturn, 1) := dk_172 (dk_at dksX5_day_1 4 rfl rfl)
theorem dX5_day_29 : decode cX5_day 29 = .ok (.aload_n 0, 1) := dk_42 (dk_at dksX5_day_1 5 rfl rfl)
theorem dX5_day_30 : decode cX5_day 30 = .ok (.dup, 1) := dk_89 (dk_at dksX5_day_1 6 rfl rfl)
theorem dX5_day_31 : decode cX5_day 31 = .ok (.getfield 173, 3) := dk_180 0 173 (dk_at dksX5_day_1 7 rfl rfl)
theorem dX5_day_34 : decode cX5_day 34 = .ok (.iload_n 1, 1) := dk_27 (dk_at dksX5_day_1 10 rfl rfl)
theorem dX5_day_35 : decode cX5_day 35 = .ok (.iadd, 1) := dk_96 (dk_at dksX5_day_1 11 rfl rfl)
theorem dX5_day_36 : decode cX5_day 36 = .ok (.putfield 173, 3) := dk_181 0 173 (dk_at dksX5_day_1 12 rfl rfl)
theorem dX5_day_39 : decode cX5_day 39 = .ok (.aload_n 0, 1) := dk_42 (dk_at dksX5_day_1 15 rfl rfl)
theorem dX5_day_40 : decode cX5_day 40 = .ok (.getfield 173, 3) := dk_180 0 173 (dk_at dksX5_day_1 16 rfl rfl)
theorem dX5_day_43 : decode cX5_day 43 = .ok (.ireturn, 1) := dk_172 (dk_at dksX5_day_1 19 rfl rfl)
def dkwX5_within_0 : List UInt8 := [26, 27, 161, 0, 12, 26, 28, 163, 0, 7, 4, 167, 0, 4, 3, 172]
abbrev dktX5_within_0 : List UInt8 := dkwX5_within_0 ++ []
theorem dksX5_within_0 : cX5_within.data.toList.drop 0 = dktX5_within_0 := by decide +kernel
theorem dX5_within_0 : decode cX5_within 0 = .ok (.iload_n 0, 1) := dk_26 (dk_at dksX5_within_0 0 rfl rfl)
theorem dX5_within_1 : decode cX5_within 1 = .ok (.iload_n 1, 1) := dk_27 (dk_at dksX5_within_0 1 rfl rfl)
theorem dX5_within_2 : decode cX5_within 2 = .ok (.if_icmp .lt 12, 3) := dk_161 0 12 (dk_at dksX5_within_0 2 rfl rfl)
theorem dX5_within_5 : decode cX5_within 5 = .ok (.iload_n 0, 1) := dk_26 (dk_at dksX5_within_0 5 rfl rfl)
theorem dX5_within_6 : decode cX5_within 6 = .ok (.iload_n 2, 1) := dk_28 (dk_at dksX5_within_0 6 rfl rfl)
theorem dX5_within_7 : decode cX5_within 7 = .ok (.if_icmp .gt 7, 3) := dk_163 0 7 (dk_at dksX5_within_0 7 rfl rfl)
theorem dX5_within_10 : decode cX5_within 10 = .ok (.iconst 1, 1) := dk_4 (dk_at dksX5_within_0 10 rfl rfl)
theorem dX5_within_11 : decode cX5_within 11 = .ok (.goto 4, 3) := dk_167 0 4 (dk_at dksX5_within_0 11 rfl rfl)
theorem dX5_within_14 : decode cX5_within 14 = .ok (.iconst 0, 1) := dk_3 (dk_at dksX5_within_0 14 rfl rfl)
theorem dX5_within_15 : decode cX5_within 15 = .ok (.ireturn, 1) := dk_172 (dk_at dksX5_within_0 15 rfl rfl)
def dkwX5_feed_5 : List UInt8 := [180, 0, 180, 172]
abbrev dktX5_feed_5 : List UInt8 := dkwX5_feed_5 ++ []
def dkwX5_feed_4 : List UInt8 := [112, 104, 100, 122, 145, 84, 42, 89, 180, 0, 180, 4, 96, 181, 0, 180, 132, 6, 1, 167, 255, 165, 42]
abbrev dktX5_feed_4 : List UInt8 := dkwX5_feed_4 ++ dktX5_feed_5
def dkwX5_feed_3 : List UInt8 := [167, 0, 5, 21, 5, 54, 7, 42, 180, 0, 47, 42, 180, 0, 180, 21, 7, 16, 24, 16, 8, 21, 6, 7]
abbrev dktX5_feed_3 : List UInt8 := dkwX5_feed_3 ++ dktX5_feed_4
def dkwX5_feed_2 : List UInt8 := [28, 167, 0, 28, 21, 6, 16, 12, 162, 0, 7, 29, 167, 0, 17, 21, 6, 16, 16, 162, 0, 8, 21, 4]
abbrev dktX5_feed_2 : List UInt8 := dkwX5_feed_2 ++ dktX5_feed_3
def dkwX5_feed_1 : List UInt8 := [21, 6, 16, 20, 162, 0, 90, 21, 6, 7, 162, 0, 7, 27, 167, 0, 39, 21, 6, 16, 8, 162, 0, 7]
abbrev dktX5_feed_1 : List UInt8 := dkwX5_feed_1 ++ dktX5_feed_2
def dkwX5_feed_0 : List UInt8 := [42, 3, 181, 0, 1, 42, 180, 0, 180, 16, 20, 96, 17, 1, 44, 164, 0, 5, 2, 172, 3, 54, 6]
abbrev dktX5_feed_0 : List UInt8 := dkwX5_feed_0 ++ dktX5_feed_1
theorem dksX5_feed_0 : cX5_feed.data.toList.drop 0 = dktX5_feed_0 := by decide +kernel
theorem dksX5_feed_1 : cX5_feed.data.toList.drop 23 = dktX5_feed_1 := dk_seg dksX5_feed_0 23 rfl rfl
theorem dksX5_feed_2 : cX5_feed.data.toList.drop 47 = dktX5_feed_2 := dk_seg dksX5_feed_1 24 rfl rfl
theorem dksX5_feed_3 : cX5_feed.data.toList.drop 71 = dktX5_feed_3 := dk_seg dksX5_feed_2 24 rfl rfl
theorem dksX5_feed_4 : cX5_feed.data.toList.drop 95 = dktX5_feed_4 := dk_seg dksX5_feed_3 24 rfl rfl
theorem dksX5_feed_5 : cX5_feed.data.toList.drop 118 = dktX5_feed_5 := dk_seg dksX5_feed_4 23 rfl rfl
theorem dX5_feed_0 : decode cX5_feed 0 = .ok (.aload_n 0, 1) := dk_42 (dk_at dksX5_feed_0 0 rfl rfl)
theorem dX5_feed_1 : decode cX5_feed 1 = .ok (.iconst 0, 1) := dk_3 (dk_at dksX5_feed_0 1 rfl rfl)
theorem dX5_feed_2 : decode cX5_feed 2 = .ok (.putfield 1, 3) := dk_181 0 1 (dk_at dksX5_feed_0 2 rfl rfl)
theorem dX5_feed_5 : decode cX5_feed 5 = .ok (.aload_n 0, 1) := dk_42 (dk_at dksX5_feed_0 5 rfl rfl)
theorem dX5_feed_6 : decode cX5_feed 6 = .ok (.getfield 180, 3) := dk_180 0 180 (dk_at dksX5_feed_0 6 rfl rfl)
theorem dX5_feed_9 : decode cX5_feed 9 = .ok (.bipush 20, 2) := dk_16 20 (dk_at dksX5_feed_0 9 rfl rfl)
theorem dX5_feed_11 : decode cX5_feed 11 = .ok (.iadd, 1) := dk_96 (dk_at dksX5_feed_0 11 rfl rfl)
theorem dX5_feed_12 : decode cX5_feed 12 = .ok (.sipush 300, 3) := dk_17 1 44 (dk_at dksX5_feed_0 12 rfl rfl)
theorem dX5_feed_15 : decode cX5_feed 15 = .ok (.if_icmp .le 5, 3) := dk_164 0 5 (dk_at dksX5_feed_0 15 rfl rfl)
theorem dX5_feed_18 : decode cX5_feed 18 = .ok (.iconst (-1), 1) := dk_2 (dk_at dksX5_feed_0 18 rfl rfl)
theorem dX5_feed_19 : decode cX5_feed 19 = .ok (.ireturn, 1) := dk_172 (dk_at dksX5_feed_0 19 rfl rfl)
theorem dX5_feed_20 : decode cX5_feed 20 = .ok (.iconst 0, 1) := dk_3 (dk_at dksX5_feed_0 20 rfl rfl)
theorem dX5_feed_21 : decode cX5_feed 21 = .ok (.istore 6, 2) := dk_54 6 (dk_at dksX5_feed_0 21 rfl rfl)
theorem dX5_feed_23 : decode cX5_feed 23 = .ok (.iload 6, 2) := dk_21 6 (dk_at dksX5_feed_1 0 rfl rfl)
theorem dX5_feed_25 : decode cX5_feed 25 = .ok (.bipush 20, 2) := dk_16 20 (dk_at dksX5_feed_1 2 rfl rfl)
theorem dX5_feed_27 : decode cX5_feed 27 = .ok (.if_icmp .ge 90, 3) := dk_162 0 90 (dk_at dksX5_feed_1 4 rfl rfl)
theorem dX5_feed_30 : decode cX5_feed 30 = .ok (.iload 6, 2) := dk_21 6 (dk_at dksX5_feed_1 7 rfl rfl)
theorem dX5_feed_32 : decode cX5_feed 32 = .ok (.iconst 4, 1) := dk_7 (dk_at dksX5_feed_1 9 rfl rfl)
theorem dX5_feed_33 : decode cX5_feed 33 = .ok (.if_icmp .ge 7, 3) := dk_162 0 7 (dk_at dksX5_feed_1 10 rfl rfl)
theorem dX5_feed_36 : decode cX5_feed 36 = .ok (.iload_n 1, 1) := dk_27 (dk_at dksX5_feed_1 13 rfl rfl)
theorem dX5_feed_37 : decode cX5_feed 37 = .ok (.goto 39, 3) := dk_167 0 39 (dk_at dksX5_feed_1 14 rfl rfl)
theorem dX5_feed_40 : decode cX5_feed 40 = .ok (.iload 6, 2) := dk_21 6 (dk_at dksX5_feed_1 17 rfl rfl)
theorem dX5_feed_42 : decode cX5_feed 42 = .ok (.bipush 8, 2) := dk_16 8 (dk_at dksX5_feed_1 19 rfl rfl)
theorem dX5_feed_44 : decode cX5_feed 44 = .ok (.if_icmp .ge 7, 3) := dk_162 0 7 (dk_at dksX5_feed_1 21 rfl rfl)
theorem dX5_feed_47 : decode cX5_feed 47 = .ok (.iload_n 2, 1) := dk_28 (dk_at dksX5_feed_2 0 rfl rfl)
theorem dX5_feed_48 : decode cX5_feed 48 = .ok (.goto 28, 3) := dk_167 0 28 (dk_at dksX5_feed_2 1 rfl rfl)
theorem dX5_feed_51 : decode cX5_feed 51 = .ok (.iload 6, 2) := dk_21 6 (dk_at dksX5_feed_2 4 rfl rfl)
theorem dX5_feed_53 : decode cX5_feed 53 = .ok (.bipush 12, 2) := dk_16 12 (dk_at dksX5_feed_2 6 rfl rfl)
theorem dX5_feed_55 : decode cX5_feed 55 = .ok (.if_icmp .ge 7, 3) := dk_162 0 7 (dk_at dksX5_feed_2 8 rfl rfl)
theorem dX5_feed_58 : decode cX5_feed 58 = .ok (.iload_n 3, 1) := dk_29 (dk_at dksX5_feed_2 11 rfl rfl)
theorem dX5_feed_59 : decode cX5_feed 59 = .ok (.goto 17, 3) := dk_167 0 17 (dk_at dksX5_feed_2 12 rfl rfl)
theorem dX5_feed_62 : decode cX5_feed 62 = .ok (.iload 6, 2) := dk_21 6 (dk_at dksX5_feed_2 15 rfl rfl)
theorem dX5_feed_64 : decode cX5_feed 64 = .ok (.bipush 16, 2) := dk_16 16 (dk_at dksX5_feed_2 17 rfl rfl)
theorem dX5_feed_66 : decode cX5_feed 66 = .ok (.if_icmp .ge 8, 3) := dk_162 0 8 (dk_at dksX5_feed_2 19 rfl rfl)
theorem dX5_feed_69 : decode cX5_feed 69 = .ok (.iload 4, 2) := dk_21 4 (dk_at dksX5_feed_2 22 rfl rfl)
theorem dX5_feed_71 : decode cX5_feed 71 = .ok (.goto 5, 3) := dk_167 0 5 (dk_at dksX5_feed_3 0 rfl rfl)
theorem dX5_feed_74 : decode cX5_feed 74 = .ok (.iload 5, 2) := dk_21 5 (dk_at dksX5_feed_3 3 rfl rfl)
theorem dX5_feed_76 : decode cX5_feed 76 = .ok (.istore 7, 2) := dk_54 7 (dk_at dksX5_feed_3 5 rfl rfl)
theorem dX5_feed_78 : decode cX5_feed 78 = .ok (.aload_n 0, 1) := dk_42 (dk_at dksX5_feed_3 7 rfl rfl)
theorem dX5_feed_79 : decode cX5_feed 79 = .ok (.getfield 47, 3) := dk_180 0 47 (dk_at dksX5_feed_3 8 rfl rfl)
theorem dX5_feed_82 : decode cX5_feed 82 = .ok (.aload_n 0, 1) := dk_42 (dk_at dksX5_feed_3 11 rfl rfl)
theorem dX5_feed_83 : decode cX5_feed 83 = .ok (.getfield 180, 3) := dk_180 0 180 (dk_at dksX5_feed_3 12 rfl rfl)
theorem dX5_feed_86 : decode cX5_feed 86 = .ok (.iload 7, 2) := dk_21 7 (dk_at dksX5_feed_3 15 rfl rfl)
theorem dX5_feed_88 : decode cX5_feed 88 = .ok (.bipush 24, 2) := dk_16 24 (dk_at dksX5_feed_3 17 rfl rfl)
theorem dX5_feed_90 : decode cX5_feed 90 = .ok (.bipush 8, 2) := dk_16 8 (dk_at dksX5_feed_3 19 rfl rfl)
theorem dX5_feed_92 : decode cX5_feed 92 = .ok (.iload 6, 2) := dk_21 6 (dk_at dksX5_feed_3 21 rfl rfl)
theorem dX5_feed_94 : decode cX5_feed 94 = .ok (.iconst 4, 1) := dk_7 (dk_at dksX5_feed_3 23 rfl rfl)
theorem dX5_feed_95 : decode cX5_feed 95 = .ok (.irem, 1) := dk_112 (dk_at dksX5_feed_4 0 rfl rfl)
theorem dX5_feed_96 : decode cX5_feed 96 = .ok (.imul, 1) := dk_104 (dk_at dksX5_feed_4 1 rfl rfl)
theorem dX5_feed_97 : decode cX5_feed 97 = .ok (.isub, 1) := dk_100 (dk_at dksX5_feed_4 2 rfl rfl)
theorem dX5_feed_98 : decode cX5_feed 98 = .ok (.ishr, 1) := dk_122 (dk_at dksX5_feed_4 3 rfl rfl)
theorem dX5_feed_99 : decode cX5_feed 99 = .ok (.i2b, 1) := dk_145 (dk_at dksX5_feed_4 4 rfl rfl)
theorem dX5_feed_100 : decode cX5_feed 100 = .ok (.bastore, 1) := dk_84 (dk_at dksX5_feed_4 5 rfl rfl)
theorem dX5_feed_101 : decode cX5_feed 101 = .ok (.aload_n 0, 1) := dk_42 (dk_at dksX5_feed_4 6 rfl rfl)
theorem dX5_feed_102 : decode cX5_feed 102 = .ok (.dup, 1) := dk_89 (dk_at dksX5_feed_4 7 rfl rfl)
theorem dX5_feed_103 : decode cX5_feed 103 = .ok (.getfield 180, 3) := dk_180 0 180 (dk_at dksX5_feed_4 8 rfl rfl)
theorem dX5_feed_106 : decode cX5_feed 106 = .ok (.iconst 1, 1) := dk_4 (dk_at dksX5_feed_4 11 rfl rfl)
theorem dX5_feed_107 : decode cX5_feed 107 = .ok (.iadd, 1) := dk_96 (dk_at dksX5_feed_4 12 rfl rfl)
theorem dX5_feed_108 : decode cX5_feed 108 = .ok (.putfield 180, 3) := dk_181 0 180 (dk_at dksX5_feed_4 13 rfl rfl)
theorem dX5_feed_111 : decode cX5_feed 111 = .ok (.iinc 6 1, 3) := dk_132 6 1 (dk_at dksX5_feed_4 16 rfl rfl)
theorem dX5_feed_114 : decode cX5_feed 114 = .ok (.goto (-91), 3) := dk_167 255 165 (dk_at dksX5_feed_4 19 rfl rfl)
theorem dX5_feed_117 : decode cX5_feed 117 = .ok (.aload_n 0, 1) := dk_42 (dk_at dksX5_feed_4 22 rfl rfl)
theorem dX5_feed_118 : decode cX5_feed 118 = .ok (.getfield 180, 3) := dk_180 0 180 (dk_at dksX5_feed_5 0 rfl rfl)
theorem dX5_feed_121 : decode cX5_feed 121 = .ok (.ireturn, 1) := dk_172 (dk_at dksX5_feed_5 3 rfl rfl)
def dkwX5_end_1 : List UInt8 := [27, 172]
abbrev dktX5_end_1 : List UInt8 := dkwX5_end_1 ++ []
def dkwX5_end_0 : List UInt8 := [42, 3, 181, 0, 1, 27, 155, 0, 11, 27, 42, 180, 0, 180, 164, 0, 5, 2, 172, 42, 27, 181, 0, 180]
abbrev dktX5_end_0 : List UInt8 := dkwX5_end_0 ++ dktX5_end_1
theorem dksX5_end_0 : cX5_end.data.toList.drop 0 = dktX5_end_0 := by decide +kernel
theorem dksX5_end_1 : cX5_end.data.toList.drop 24 = dktX5_end_1 := dk_seg dksX5_end_0 24 rfl rfl
theorem dX5_end_0 : decode cX5_end 0 = .ok (.aload_n 0, 1) := dk_42 (dk_at dksX5_end_0 0 rfl rfl)
theorem dX5_end_1 : decode cX5_end 1 = .ok (.iconst 0, 1) := dk_3 (dk_at dksX5_end_0 1 rfl rfl)
theorem dX5_end_2 : decode cX5_end 2 = .ok (.putfield 1, 3) := dk_181 0 1 (dk_at dksX5_end_0 2 rfl rfl)
theorem dX5_end_5 : decode cX5_end 5 = .ok (.iload_n 1, 1) := dk_27 (dk_at dksX5_end_0 5 rfl rfl)
theorem dX5_end_6 : decode cX5_end 6 = .ok (.ifCond .lt 11, 3) := dk_155 0 11 (dk_at dksX5_end_0 6 rfl rfl)
theorem dX5_end_9 : decode cX5_end 9 = .ok (.iload_n 1, 1) := dk_27 (dk_at dksX5_end_0 9 rfl rfl)
theorem dX5_end_10 : decode cX5_end 10 = .ok (.aload_n 0, 1) := dk_42 (dk_at dksX5_end_0 10 rfl rfl)
theorem dX5_end_11 : decode cX5_end 11 = .ok (.getfield 180, 3) := dk_180 0 180 (dk_at dksX5_end_0 11 rfl rfl)
theorem dX5_end_14 : decode cX5_end 14 = .ok (.if_icmp .le 5, 3) := dk_164 0 5 (dk_at dksX5_end_0 14 rfl rfl)
theorem dX5_end_17 : decode cX5_end 17 = .ok (.iconst (-1), 1) := dk_2 (dk_at dksX5_end_0 17 rfl rfl)
theorem dX5_end_18 : decode cX5_end 18 = .ok (.ireturn, 1) := dk_172 (dk_at dksX5_end_0 18 rfl rfl)
theorem dX5_end_19 : decode cX5_end 19 = .ok (.aload_n 0, 1) := dk_42 (dk_at dksX5_end_0 19 rfl rfl)
theorem dX5_end_20 : decode cX5_end 20 = .ok (.iload_n 1, 1) := dk_27 (dk_at dksX5_end_0 20 rfl rfl)
theorem dX5_end_21 : decode cX5_end 21 = .ok (.putfield 180, 3) := dk_181 0 180 (dk_at dksX5_end_0 21 rfl rfl)
theorem dX5_end_24 : decode cX5_end 24 = .ok (.iload_n 1, 1) := dk_27 (dk_at dksX5_end_1 0 rfl rfl)
theorem dX5_end_25 : decode cX5_end 25 = .ok (.ireturn, 1) := dk_172 (dk_at dksX5_end_1 1 rfl rfl)
def dkwX5_place_0 : List UInt8 := [42, 3, 181, 0, 1, 42, 180, 0, 51, 172]
abbrev dktX5_place_0 : List UInt8 := dkwX5_place_0 ++ []
theorem dksX5_place_0 : cX5_place.data.toList.drop 0 = dktX5_place_0 := by decide +kernel
theorem dX5_place_0 : decode cX5_place 0 = .ok (.aload_n 0, 1) := dk_42 (dk_at dksX5_place_0 0 rfl rfl)
theorem dX5_place_1 : decode cX5_place 1 = .ok (.iconst 0, 1) := dk_3 (dk_at dksX5_place_0 1 rfl rfl)
theorem dX5_place_2 : decode cX5_place 2 = .ok (.putfield 1, 3) := dk_181 0 1 (dk_at dksX5_place_0 2 rfl rfl)
theorem dX5_place_5 : decode cX5_place 5 = .ok (.aload_n 0, 1) := dk_42 (dk_at dksX5_place_0 5 rfl rfl)
theorem dX5_place_6 : decode cX5_place 6 = .ok (.getfield 51, 3) := dk_180 0 51 (dk_at dksX5_place_0 6 rfl rfl)
theorem dX5_place_9 : decode cX5_place 9 = .ok (.ireturn, 1) := dk_172 (dk_at dksX5_place_0 9 rfl rfl)
def dkwX5_tablet_8 : List UInt8 := [180, 0, 243, 4, 96, 181, 0, 243, 28, 172]
abbrev dktX5_tablet_8 : List UInt8 := dkwX5_tablet_8 ++ []
def dkwX5_tablet_7 : List UInt8 := [167, 255, 177, 42, 180, 0, 13, 28, 42, 180, 0, 173, 79, 42, 180, 0, 17, 28, 18, 255, 79, 42, 89]
abbrev dktX5_tablet_7 : List UInt8 := dkwX5_tablet_7 ++ dktX5_tablet_8
def dkwX5_tablet_6 : List UInt8 := [16, 6, 17, 0, 192, 29, 96, 104, 21, 4, 96, 46, 79, 132, 4, 1, 167, 255, 213, 132, 3, 1]
abbrev dktX5_tablet_6 : List UInt8 := dkwX5_tablet_6 ++ dktX5_tablet_7
def dkwX5_tablet_5 : List UInt8 := [162, 0, 42, 42, 180, 0, 26, 16, 6, 16, 8, 28, 104, 29, 96, 104, 21, 4, 96, 42, 180, 0, 26]
abbrev dktX5_tablet_5 : List UInt8 := dkwX5_tablet_5 ++ dktX5_tablet_6
def dkwX5_tablet_4 : List UInt8 := [16, 8, 28, 104, 29, 96, 42, 180, 0, 23, 17, 0, 192, 29, 96, 46, 79, 3, 54, 4, 21, 4, 16, 6]
abbrev dktX5_tablet_4 : List UInt8 := dkwX5_tablet_4 ++ dktX5_tablet_5
def dkwX5_tablet_3 : List UInt8 := [180, 0, 20, 28, 42, 180, 0, 20, 16, 24, 46, 79, 3, 62, 29, 16, 8, 162, 0, 79, 42, 180, 0, 23]
abbrev dktX5_tablet_3 : List UInt8 := dkwX5_tablet_3 ++ dktX5_tablet_4
def dkwX5_tablet_2 : List UInt8 := [182, 0, 249, 167, 255, 238, 42, 182, 0, 252, 60, 27, 156, 0, 5, 27, 172, 42, 180, 0, 243, 61, 42]
abbrev dktX5_tablet_2 : List UInt8 := dkwX5_tablet_2 ++ dktX5_tablet_3
def dkwX5_tablet_1 : List UInt8 := [16, 24, 3, 79, 42, 182, 0, 249, 42, 182, 0, 222, 153, 0, 17, 42, 180, 0, 189, 153, 0, 10, 42]
abbrev dktX5_tablet_1 : List UInt8 := dkwX5_tablet_1 ++ dktX5_tablet_2
def dkwX5_tablet_0 : List UInt8 := [42, 3, 181, 0, 1, 42, 180, 0, 243, 16, 24, 160, 0, 5, 2, 172, 42, 182, 0, 246, 42, 180, 0, 20]
abbrev dktX5_tablet_0 : List UInt8 := dkwX5_tablet_0 ++ dktX5_tablet_1
theorem dksX5_tablet_0 : cX5_tablet.data.toList.drop 0 = dktX5_tablet_0 := by decide +kernel
theorem dksX5_tablet_1 : cX5_tablet.data.toList.drop 24 = dktX5_tablet_1 := dk_seg dksX5_tablet_0 24 rfl rfl
theorem dksX5_tablet_2 : cX5_tablet.data.toList.drop 47 = dktX5_tablet_2 := dk_seg dksX5_tablet_1 23 rfl rfl
theorem dksX5_tablet_3 : cX5_tablet.data.toList.drop 70 = dktX5_tablet_3 := dk_seg dksX5_tablet_2 23 rfl rfl
theorem dksX5_tablet_4 : cX5_tablet.data.toList.drop 94 = dktX5_tablet_4 := dk_seg dksX5_tablet_3 24 rfl rfl
theorem dksX5_tablet_5 : cX5_tablet.data.toList.drop 118 = dktX5_tablet_5 := dk_seg dksX5_tablet_4 24 rfl rfl
theorem dksX5_tablet_6 : cX5_tablet.data.toList.drop 141 = dktX5_tablet_6 := dk_seg dksX5_tablet_5 23 rfl rfl
theorem dksX5_tablet_7 : cX5_tablet.data.toList.drop 163 = dktX5_tablet_7 := dk_seg dksX5_tablet_6 22 rfl rfl
theorem dksX5_tablet_8 : cX5_tablet.data.toList.drop 186 = dktX5_tablet_8 := dk_seg dksX5_tablet_7 23 rfl rfl
theorem dX5_tablet_0 : decode cX5_tablet 0 = .ok (.aload_n 0, 1) := dk_42 (dk_at dksX5_tablet_0 0 rfl rfl)
theorem dX5_tablet_1 : decode cX5_tablet 1 = .ok (.iconst 0, 1) := dk_3 (dk_at dksX5_tablet_0 1 rfl rfl)
theorem dX5_tablet_2 : decode cX5_tablet 2 = .ok (.putfield 1, 3) := dk_181 0 1 (dk_at dksX5_tablet_0 2 rfl rfl)
theorem dX5_tablet_5 : decode cX5_tablet 5 = .ok (.aload_n 0, 1) := dk_42 (dk_at dksX5_tablet_0 5 rfl rfl)
theorem dX5_tablet_6 : decode cX5_tablet 6 = .ok (.getfield 243, 3) := dk_180 0 243 (dk_at dksX5_tablet_0 6 rfl rfl)
theorem dX5_tablet_9 : decode cX5_tablet 9 = .ok (.bipush 24, 2) := dk_16 24 (dk_at dksX5_tablet_0 9 rfl rfl)
theorem dX5_tablet_11 : decode cX5_tablet 11 = .ok (.if_icmp .ne 5, 3) := dk_160 0 5 (dk_at dksX5_tablet_0 11 rfl rfl)
theorem dX5_tablet_14 : decode cX5_tablet 14 = .ok (.iconst (-1), 1) := dk_2 (dk_at dksX5_tablet_0 14 rfl rfl)
theorem dX5_tablet_15 : decode cX5_tablet 15 = .ok (.ireturn, 1) := dk_172 (dk_at dksX5_tablet_0 15 rfl rfl)
theorem dX5_tablet_16 : decode cX5_tablet 16 = .ok (.aload_n 0, 1) := dk_42 (dk_at dksX5_tablet_0 16 rfl rfl)
theorem dX5_tablet_17 : decode cX5_tablet 17 = .ok (.invokevirtual 246, 3) := dk_182 0 246 (dk_at dksX5_tablet_0 17 rfl rfl)
theorem dX5_tablet_20 : decode cX5_tablet 20 = .ok (.aload_n 0, 1) := dk_42 (dk_at dksX5_tablet_0 20 rfl rfl)
theorem dX5_tablet_21 : decode cX5_tablet 21 = .ok (.getfield 20, 3) := dk_180 0 20 (dk_at dksX5_tablet_0 21 rfl rfl)
theorem dX5_tablet_24 : decode cX5_tablet 24 = .ok (.bipush 24, 2) := dk_16 24 (dk_at dksX5_tablet_1 0 rfl rfl)
theorem dX5_tablet_26 : decode cX5_tablet 26 = .ok (.iconst 0, 1) := dk_3 (dk_at dksX5_tablet_1 2 rfl rfl)
theorem dX5_tablet_27 : decode cX5_tablet 27 = .ok (.iastore, 1) := dk_79 (dk_at dksX5_tablet_1 3 rfl rfl)
theorem dX5_tablet_28 : decode cX5_tablet 28 = .ok (.aload_n 0, 1) := dk_42 (dk_at dksX5_tablet_1 4 rfl rfl)
theorem dX5_tablet_29 : decode cX5_tablet 29 = .ok (.invokevirtual 249, 3) := dk_182 0 249 (dk_at dksX5_tablet_1 5 rfl rfl)
theorem dX5_tablet_32 : decode cX5_tablet 32 = .ok (.aload_n 0, 1) := dk_42 (dk_at dksX5_tablet_1 8 rfl rfl)
theorem dX5_tablet_33 : decode cX5_tablet 33 = .ok (.invokevirtual 222, 3) := dk_182 0 222 (dk_at dksX5_tablet_1 9 rfl rfl)
theorem dX5_tablet_36 : decode cX5_tablet 36 = .ok (.ifCond .eq 17, 3) := dk_153 0 17 (dk_at dksX5_tablet_1 12 rfl rfl)
theorem dX5_tablet_39 : decode cX5_tablet 39 = .ok (.aload_n 0, 1) := dk_42 (dk_at dksX5_tablet_1 15 rfl rfl)
theorem dX5_tablet_40 : decode cX5_tablet 40 = .ok (.getfield 189, 3) := dk_180 0 189 (dk_at dksX5_tablet_1 16 rfl rfl)
theorem dX5_tablet_43 : decode cX5_tablet 43 = .ok (.ifCond .eq 10, 3) := dk_153 0 10 (dk_at dksX5_tablet_1 19 rfl rfl)
theorem dX5_tablet_46 : decode cX5_tablet 46 = .ok (.aload_n 0, 1) := dk_42 (dk_at dksX5_tablet_1 22 rfl rfl)
theorem dX5_tablet_47 : decode cX5_tablet 47 = .ok (.invokevirtual 249, 3) := dk_182 0 249 (dk_at dksX5_tablet_2 0 rfl rfl)
theorem dX5_tablet_50 : decode cX5_tablet 50 = .ok (.goto (-18), 3) := dk_167 255 238 (dk_at dksX5_tablet_2 3 rfl rfl)
theorem dX5_tablet_53 : decode cX5_tablet 53 = .ok (.aload_n 0, 1) := dk_42 (dk_at dksX5_tablet_2 6 rfl rfl)
theorem dX5_tablet_54 : decode cX5_tablet 54 = .ok (.invokevirtual 252, 3) := dk_182 0 252 (dk_at dksX5_tablet_2 7 rfl rfl)
theorem dX5_tablet_57 : decode cX5_tablet 57 = .ok (.istore_n 1, 1) := dk_60 (dk_at dksX5_tablet_2 10 rfl rfl)
theorem dX5_tablet_58 : decode cX5_tablet 58 = .ok (.iload_n 1, 1) := dk_27 (dk_at dksX5_tablet_2 11 rfl rfl)
theorem dX5_tablet_59 : decode cX5_tablet 59 = .ok (.ifCond .ge 5, 3) := dk_156 0 5 (dk_at dksX5_tablet_2 12 rfl rfl)
theorem dX5_tablet_62 : decode cX5_tablet 62 = .ok (.iload_n 1, 1) := dk_27 (dk_at dksX5_tablet_2 15 rfl rfl)
theorem dX5_tablet_63 : decode cX5_tablet 63 = .ok (.ireturn, 1) := dk_172 (dk_at dksX5_tablet_2 16 rfl rfl)
theorem dX5_tablet_64 : decode cX5_tablet 64 = .ok (.aload_n 0, 1) := dk_42 (dk_at dksX5_tablet_2 17 rfl rfl)
theorem dX5_tablet_65 : decode cX5_tablet 65 = .ok (.getfield 243, 3) := dk_180 0 243 (dk_at dksX5_tablet_2 18 rfl rfl)
theorem dX5_tablet_68 : decode cX5_tablet 68 = .ok (.istore_n 2, 1) := dk_61 (dk_at dksX5_tablet_2 21 rfl rfl)
theorem dX5_tablet_69 : decode cX5_tablet 69 = .ok (.aload_n 0, 1) := dk_42 (dk_at dksX5_tablet_2 22 rfl rfl)
theorem dX5_tablet_70 : decode cX5_tablet 70 = .ok (.getfield 20, 3) := dk_180 0 20 (dk_at dksX5_tablet_3 0 rfl rfl)
theorem dX5_tablet_73 : decode cX5_tablet 73 = .ok (.iload_n 2, 1) := dk_28 (dk_at dksX5_tablet_3 3 rfl rfl)
theorem dX5_tablet_74 : decode cX5_tablet 74 = .ok (.aload_n 0, 1) := dk_42 (dk_at dksX5_tablet_3 4 rfl rfl)
theorem dX5_tablet_75 : decode cX5_tablet 75 = .ok (.getfield 20, 3) := dk_180 0 20 (dk_at dksX5_tablet_3 5 rfl rfl)
theorem dX5_tablet_78 : decode cX5_tablet 78 = .ok (.bipush 24, 2) := dk_16 24 (dk_at dksX5_tablet_3 8 rfl rfl)
theorem dX5_tablet_80 : decode cX5_tablet 80 = .ok (.iaload, 1) := dk_46 (dk_at dksX5_tablet_3 10 rfl rfl)
theorem dX5_tablet_81 : decode cX5_tablet 81 = .ok (.iastore, 1) := dk_79 (dk_at dksX5_tablet_3 11 rfl rfl)
theorem dX5_tablet_82 : decode cX5_tablet 82 = .ok (.iconst 0, 1) := dk_3 (dk_at dksX5_tablet_3 12 rfl rfl)
theorem dX5_tablet_83 : decode cX5_tablet 83 = .ok (.istore_n 3, 1) := dk_62 (dk_at dksX5_tablet_3 13 rfl rfl)
theorem dX5_tablet_84 : decode cX5_tablet 84 = .ok (.iload_n 3, 1) := dk_29 (dk_at dksX5_tablet_3 14 rfl rfl)
theorem dX5_tablet_85 : decode cX5_tablet 85 = .ok (.bipush 8, 2) := dk_16 8 (dk_at dksX5_tablet_3 15 rfl rfl)
theorem dX5_tablet_87 : decode cX5_tablet 87 = .ok (.if_icmp .ge 79, 3) := dk_162 0 79 (dk_at dksX5_tablet_3 17 rfl rfl)
theorem dX5_tablet_90 : decode cX5_tablet 90 = .ok (.aload_n 0, 1) := dk_42 (dk_at dksX5_tablet_3 20 rfl rfl)
theorem dX5_tablet_91 : decode cX5_tablet 91 = .ok (.getfield 23, 3) := dk_180 0 23 (dk_at dksX5_tablet_3 21 rfl rfl)
theorem dX5_tablet_94 : decode cX5_tablet 94 = .ok (.bipush 8, 2) := dk_16 8 (dk_at dksX5_tablet_4 0 rfl rfl)
theorem dX5_tablet_96 : decode cX5_tablet 96 = .ok (.iload_n 2, 1) := dk_28 (dk_at dksX5_tablet_4 2 rfl rfl)
theorem dX5_tablet_97 : decode cX5_tablet 97 = .ok (.imul, 1) := dk_104 (dk_at dksX5_tablet_4 3 rfl rfl)
theorem dX5_tablet_98 : decode cX5_tablet 98 = .ok (.iload_n 3, 1) := dk_29 (dk_at dksX5_tablet_4 4 rfl rfl)
theorem dX5_tablet_99 : decode cX5_tablet 99 = .ok (.iadd, 1) := dk_96 (dk_at dksX5_tablet_4 5 rfl rfl)
theorem dX5_tablet_100 : decode cX5_tablet 100 = .ok (.aload_n 0, 1) := dk_42 (dk_at dksX5_tablet_4 6 rfl rfl)
theorem dX5_tablet_101 : decode cX5_tablet 101 = .ok (.getfield 23, 3) := dk_180 0 23 (dk_at dksX5_tablet_4 7 rfl rfl)
theorem dX5_tablet_104 : decode cX5_tablet 104 = .ok (.sipush 192, 3) := dk_17 0 192 (dk_at dksX5_tablet_4 10 rfl rfl)
theorem dX5_tablet_107 : decode cX5_tablet 107 = .ok (.iload_n 3, 1) := dk_29 (dk_at dksX5_tablet_4 13 rfl rfl)
theorem dX5_tablet_108 : decode cX5_tablet 108 = .ok (.iadd, 1) := dk_96 (dk_at dksX5_tablet_4 14 rfl rfl)
theorem dX5_tablet_109 : decode cX5_tablet 109 = .ok (.iaload, 1) := dk_46 (dk_at dksX5_tablet_4 15 rfl rfl)
theorem dX5_tablet_110 : decode cX5_tablet 110 = .ok (.iastore, 1) := dk_79 (dk_at dksX5_tablet_4 16 rfl rfl)
theorem dX5_tablet_111 : decode cX5_tablet 111 = .ok (.iconst 0, 1) := dk_3 (dk_at dksX5_tablet_4 17 rfl rfl)
theorem dX5_tablet_112 : decode cX5_tablet 112 = .ok (.istore 4, 2) := dk_54 4 (dk_at dksX5_tablet_4 18 rfl rfl)
theorem dX5_tablet_114 : decode cX5_tablet 114 = .ok (.iload 4, 2) := dk_21 4 (dk_at dksX5_tablet_4 20 rfl rfl)
theorem dX5_tablet_116 : decode cX5_tablet 116 = .ok (.bipush 6, 2) := dk_16 6 (dk_at dksX5_tablet_4 22 rfl rfl)
theorem dX5_tablet_118 : decode cX5_tablet 118 = .ok (.if_icmp .ge 42, 3) := dk_162 0 42 (dk_at dksX5_tablet_5 0 rfl rfl)
theorem dX5_tablet_121 : decode cX5_tablet 121 = .ok (.aload_n 0, 1) := dk_42 (dk_at dksX5_tablet_5 3 rfl rfl)
theorem dX5_tablet_122 : decode cX5_tablet 122 = .ok (.getfield 26, 3) := dk_180 0 26 (dk_at dksX5_tablet_5 4 rfl rfl)
theorem dX5_tablet_125 : decode cX5_tablet 125 = .ok (.bipush 6, 2) := dk_16 6 (dk_at dksX5_tablet_5 7 rfl rfl)
theorem dX5_tablet_127 : decode cX5_tablet 127 = .ok (.bipush 8, 2) := dk_16 8 (dk_at dksX5_tablet_5 9 rfl rfl)
theorem dX5_tablet_129 : decode cX5_tablet 129 = .ok (.iload_n 2, 1) := dk_28 (dk_at dksX5_tablet_5 11 rfl rfl)
theorem dX5_tablet_130 : decode cX5_tablet 130 = .ok (.imul, 1) := dk_104 (dk_at dksX5_tablet_5 12 rfl rfl)
theorem dX5_tablet_131 : decode cX5_tablet 131 = .ok (.iload_n 3, 1) := dk_29 (dk_at dksX5_tablet_5 13 rfl rfl)
theorem dX5_tablet_132 : decode cX5_tablet 132 = .ok (.iadd, 1) := dk_96 (dk_at dksX5_tablet_5 14 rfl rfl)
theorem dX5_tablet_133 : decode cX5_tablet 133 = .ok (.imul, 1) := dk_104 (dk_at dksX5_tablet_5 15 rfl rfl)
theorem dX5_tablet_134 : decode cX5_tablet 134 = .ok (.iload 4, 2) := dk_21 4 (dk_at dksX5_tablet_5 16 rfl rfl)
theorem dX5_tablet_136 : decode cX5_tablet 136 = .ok (.iadd, 1) := dk_96 (dk_at dksX5_tablet_5 18 rfl rfl)
theorem dX5_tablet_137 : decode cX5_tablet 137 = .ok (.aload_n 0, 1) := dk_42 (dk_at dksX5_tablet_5 19 rfl rfl)
theorem dX5_tablet_138 : decode cX5_tablet 138 = .ok (.getfield 26, 3) := dk_180 0 26 (dk_at dksX5_tablet_5 20 rfl rfl)
theorem dX5_tablet_141 : decode cX5_tablet 141 = .ok (.bipush 6, 2) := dk_16 6 (dk_at dksX5_tablet_6 0 rfl rfl)
theorem dX5_tablet_143 : decode cX5_tablet 143 = .ok (.sipush 192, 3) := dk_17 0 192 (dk_at dksX5_tablet_6 2 rfl rfl)
theorem dX5_tablet_146 : decode cX5_tablet 146 = .ok (.iload_n 3, 1) := dk_29 (dk_at dksX5_tablet_6 5 rfl rfl)
theorem dX5_tablet_147 : decode cX5_tablet 147 = .ok (.iadd, 1) := dk_96 (dk_at dksX5_tablet_6 6 rfl rfl)
theorem dX5_tablet_148 : decode cX5_tablet 148 = .ok (.imul, 1) := dk_104 (dk_at dksX5_tablet_6 7 rfl rfl)
theorem dX5_tablet_149 : decode cX5_tablet 149 = .ok (.iload 4, 2) := dk_21 4 (dk_at dksX5_tablet_6 8 rfl rfl)
theorem dX5_tablet_151 : decode cX5_tablet 151 = .ok (.iadd, 1) := dk_96 (dk_at dksX5_tablet_6 10 rfl rfl)
theorem dX5_tablet_152 : decode cX5_tablet 152 = .ok (.iaload, 1) := dk_46 (dk_at dksX5_tablet_6 11 rfl rfl)
theorem dX5_tablet_153 : decode cX5_tablet 153 = .ok (.iastore, 1) := dk_79 (dk_at dksX5_tablet_6 12 rfl rfl)
theorem dX5_tablet_154 : decode cX5_tablet 154 = .ok (.iinc 4 1, 3) := dk_132 4 1 (dk_at dksX5_tablet_6 13 rfl rfl)
theorem dX5_tablet_157 : decode cX5_tablet 157 = .ok (.goto (-43), 3) := dk_167 255 213 (dk_at dksX5_tablet_6 16 rfl rfl)
theorem dX5_tablet_160 : decode cX5_tablet 160 = .ok (.iinc 3 1, 3) := dk_132 3 1 (dk_at dksX5_tablet_6 19 rfl rfl)
theorem dX5_tablet_163 : decode cX5_tablet 163 = .ok (.goto (-79), 3) := dk_167 255 177 (dk_at dksX5_tablet_7 0 rfl rfl)
theorem dX5_tablet_166 : decode cX5_tablet 166 = .ok (.aload_n 0, 1) := dk_42 (dk_at dksX5_tablet_7 3 rfl rfl)
theorem dX5_tablet_167 : decode cX5_tablet 167 = .ok (.getfield 13, 3) := dk_180 0 13 (dk_at dksX5_tablet_7 4 rfl rfl)
theorem dX5_tablet_170 : decode cX5_tablet 170 = .ok (.iload_n 2, 1) := dk_28 (dk_at dksX5_tablet_7 7 rfl rfl)
theorem dX5_tablet_171 : decode cX5_tablet 171 = .ok (.aload_n 0, 1) := dk_42 (dk_at dksX5_tablet_7 8 rfl rfl)
theorem dX5_tablet_172 : decode cX5_tablet 172 = .ok (.getfield 173, 3) := dk_180 0 173 (dk_at dksX5_tablet_7 9 rfl rfl)
theorem dX5_tablet_175 : decode cX5_tablet 175 = .ok (.iastore, 1) := dk_79 (dk_at dksX5_tablet_7 12 rfl rfl)
theorem dX5_tablet_176 : decode cX5_tablet 176 = .ok (.aload_n 0, 1) := dk_42 (dk_at dksX5_tablet_7 13 rfl rfl)
theorem dX5_tablet_177 : decode cX5_tablet 177 = .ok (.getfield 17, 3) := dk_180 0 17 (dk_at dksX5_tablet_7 14 rfl rfl)
theorem dX5_tablet_180 : decode cX5_tablet 180 = .ok (.iload_n 2, 1) := dk_28 (dk_at dksX5_tablet_7 17 rfl rfl)
theorem dX5_tablet_181 : decode cX5_tablet 181 = .ok (.ldc 255, 2) := dk_18 255 (dk_at dksX5_tablet_7 18 rfl rfl)
theorem dX5_tablet_183 : decode cX5_tablet 183 = .ok (.iastore, 1) := dk_79 (dk_at dksX5_tablet_7 20 rfl rfl)
theorem dX5_tablet_184 : decode cX5_tablet 184 = .ok (.aload_n 0, 1) := dk_42 (dk_at dksX5_tablet_7 21 rfl rfl)
theorem dX5_tablet_185 : decode cX5_tablet 185 = .ok (.dup, 1) := dk_89 (dk_at dksX5_tablet_7 22 rfl rfl)
theorem dX5_tablet_186 : decode cX5_tablet 186 = .ok (.getfield 243, 3) := dk_180 0 243 (dk_at dksX5_tablet_8 0 rfl rfl)
theorem dX5_tablet_189 : decode cX5_tablet 189 = .ok (.iconst 1, 1) := dk_4 (dk_at dksX5_tablet_8 3 rfl rfl)
theorem dX5_tablet_190 : decode cX5_tablet 190 = .ok (.iadd, 1) := dk_96 (dk_at dksX5_tablet_8 4 rfl rfl)
theorem dX5_tablet_191 : decode cX5_tablet 191 = .ok (.putfield 243, 3) := dk_181 0 243 (dk_at dksX5_tablet_8 5 rfl rfl)
theorem dX5_tablet_194 : decode cX5_tablet 194 = .ok (.iload_n 2, 1) := dk_28 (dk_at dksX5_tablet_8 8 rfl rfl)
theorem dX5_tablet_195 : decode cX5_tablet 195 = .ok (.ireturn, 1) := dk_172 (dk_at dksX5_tablet_8 9 rfl rfl)
def dkwX5_starts_0 : List UInt8 := [42, 3, 181, 0, 216, 42, 3, 181, 0, 183, 42, 182, 0, 229, 177]
abbrev dktX5_starts_0 : List UInt8 := dkwX5_starts_0 ++ []
theorem dksX5_starts_0 : cX5_starts.data.toList.drop 0 = dktX5_starts_0 := by decide +kernel
theorem dX5_starts_0 : decode cX5_starts 0 = .ok (.aload_n 0, 1) := dk_42 (dk_at dksX5_starts_0 0 rfl rfl)
theorem dX5_starts_1 : decode cX5_starts 1 = .ok (.iconst 0, 1) := dk_3 (dk_at dksX5_starts_0 1 rfl rfl)
theorem dX5_starts_2 : decode cX5_starts 2 = .ok (.putfield 216, 3) := dk_181 0 216 (dk_at dksX5_starts_0 2 rfl rfl)
theorem dX5_starts_5 : decode cX5_starts 5 = .ok (.aload_n 0, 1) := dk_42 (dk_at dksX5_starts_0 5 rfl rfl)
theorem dX5_starts_6 : decode cX5_starts 6 = .ok (.iconst 0, 1) := dk_3 (dk_at dksX5_starts_0 6 rfl rfl)
theorem dX5_starts_7 : decode cX5_starts 7 = .ok (.putfield 183, 3) := dk_181 0 183 (dk_at dksX5_starts_0 7 rfl rfl)
theorem dX5_starts_10 : decode cX5_starts 10 = .ok (.aload_n 0, 1) := dk_42 (dk_at dksX5_starts_0 10 rfl rfl)
theorem dX5_starts_11 : decode cX5_starts 11 = .ok (.invokevirtual 229, 3) := dk_182 0 229 (dk_at dksX5_starts_0 11 rfl rfl)
theorem dX5_starts_14 : decode cX5_starts 14 = .ok (.return_, 1) := dk_177 (dk_at dksX5_starts_0 14 rfl rfl)
def dkwX5_next_11 : List UInt8 := [177]
abbrev dktX5_next_11 : List UInt8 := dkwX5_next_11 ++ []
def dkwX5_next_10 : List UInt8 := [180, 0, 186, 100, 5, 164, 0, 7, 4, 167, 0, 4, 5, 181, 0, 189, 167, 0, 8, 42, 7, 181, 0, 189]
abbrev dktX5_next_10 : List UInt8 := dkwX5_next_10 ++ dktX5_next_11
def dkwX5_next_9 : List UInt8 := [181, 0, 192, 42, 89, 180, 0, 183, 4, 96, 181, 0, 183, 167, 255, 196, 42, 42, 180, 0, 183, 42]
abbrev dktX5_next_9 : List UInt8 := dkwX5_next_9 ++ dktX5_next_10
def dkwX5_next_8 : List UInt8 := [162, 0, 26, 42, 16, 10, 42, 180, 0, 192, 104, 42, 42, 180, 0, 183, 182, 0, 199, 96, 16, 48, 100]
abbrev dktX5_next_8 : List UInt8 := dkwX5_next_8 ++ dktX5_next_9
def dkwX5_next_7 : List UInt8 := [180, 0, 183, 182, 0, 199, 184, 0, 203, 153, 0, 52, 42, 180, 0, 183, 42, 180, 0, 186, 100, 5]
abbrev dktX5_next_7 : List UInt8 := dkwX5_next_7 ++ dktX5_next_8
def dkwX5_next_6 : List UInt8 := [181, 0, 189, 167, 0, 111, 27, 184, 0, 203, 153, 0, 99, 42, 27, 16, 48, 100, 181, 0, 192, 42, 42]
abbrev dktX5_next_6 : List UInt8 := dkwX5_next_6 ++ dktX5_next_7
def dkwX5_next_5 : List UInt8 := [182, 0, 199, 184, 0, 195, 153, 0, 16, 42, 89, 180, 0, 183, 4, 96, 181, 0, 183, 167, 255, 232, 42, 6]
abbrev dktX5_next_5 : List UInt8 := dkwX5_next_5 ++ dktX5_next_6
def dkwX5_next_4 : List UInt8 := [4, 96, 181, 0, 183, 42, 27, 181, 0, 192, 27, 184, 0, 195, 153, 0, 38, 42, 42, 180, 0, 183]
abbrev dktX5_next_4 : List UInt8 := dkwX5_next_4 ++ dktX5_next_5
def dkwX5_next_3 : List UInt8 := [161, 0, 9, 42, 3, 181, 0, 189, 177, 42, 180, 0, 47, 42, 180, 0, 183, 51, 60, 42, 89, 180, 0, 183]
abbrev dktX5_next_3 : List UInt8 := dkwX5_next_3 ++ dktX5_next_4
def dkwX5_next_2 : List UInt8 := [181, 0, 183, 167, 255, 207, 42, 42, 180, 0, 183, 181, 0, 186, 42, 180, 0, 183, 42, 180, 0, 180]
abbrev dktX5_next_2 : List UInt8 := dkwX5_next_2 ++ dktX5_next_3
def dkwX5_next_1 : List UInt8 := [159, 0, 17, 42, 180, 0, 47, 42, 180, 0, 183, 51, 16, 10, 160, 0, 16, 42, 89, 180, 0, 183, 4, 96]
abbrev dktX5_next_1 : List UInt8 := dkwX5_next_1 ++ dktX5_next_2
def dkwX5_next_0 : List UInt8 := [42, 180, 0, 183, 42, 180, 0, 180, 162, 0, 44, 42, 180, 0, 47, 42, 180, 0, 183, 51, 16, 32]
abbrev dktX5_next_0 : List UInt8 := dkwX5_next_0 ++ dktX5_next_1
theorem dksX5_next_0 : cX5_next.data.toList.drop 0 = dktX5_next_0 := by decide +kernel
theorem dksX5_next_1 : cX5_next.data.toList.drop 22 = dktX5_next_1 := dk_seg dksX5_next_0 22 rfl rfl
theorem dksX5_next_2 : cX5_next.data.toList.drop 46 = dktX5_next_2 := dk_seg dksX5_next_1 24 rfl rfl
theorem dksX5_next_3 : cX5_next.data.toList.drop 68 = dktX5_next_3 := dk_seg dksX5_next_2 22 rfl rfl
theorem dksX5_next_4 : cX5_next.data.toList.drop 92 = dktX5_next_4 := dk_seg dksX5_next_3 24 rfl rfl
theorem dksX5_next_5 : cX5_next.data.toList.drop 114 = dktX5_next_5 := dk_seg dksX5_next_4 22 rfl rfl
theorem dksX5_next_6 : cX5_next.data.toList.drop 138 = dktX5_next_6 := dk_seg dksX5_next_5 24 rfl rfl
theorem dksX5_next_7 : cX5_next.data.toList.drop 161 = dktX5_next_7 := dk_seg dksX5_next_6 23 rfl rfl
theorem dksX5_next_8 : cX5_next.data.toList.drop 183 = dktX5_next_8 := dk_seg dksX5_next_7 22 rfl rfl
theorem dksX5_next_9 : cX5_next.data.toList.drop 206 = dktX5_next_9 := dk_seg dksX5_next_8 23 rfl rfl
theorem dksX5_next_10 : cX5_next.data.toList.drop 228 = dktX5_next_10 := dk_seg dksX5_next_9 22 rfl rfl
theorem dksX5_next_11 : cX5_next.data.toList.drop 252 = dktX5_next_11 := dk_seg dksX5_next_10 24 rfl rfl
theorem dX5_next_0 : decode cX5_next 0 = .ok (.aload_n 0, 1) := dk_42 (dk_at dksX5_next_0 0 rfl rfl)
theorem dX5_next_1 : decode cX5_next 1 = .ok (.getfield 183, 3) := dk_180 0 183 (dk_at dksX5_next_0 1 rfl rfl)
theorem dX5_next_4 : decode cX5_next 4 = .ok (.aload_n 0, 1) := dk_42 (dk_at dksX5_next_0 4 rfl rfl)
theorem dX5_next_5 : decode cX5_next 5 = .ok (.getfield 180, 3) := dk_180 0 180 (dk_at dksX5_next_0 5 rfl rfl)
theorem dX5_next_8 : decode cX5_next 8 = .ok (.if_icmp .ge 44, 3) := dk_162 0 44 (dk_at dksX5_next_0 8 rfl rfl)
theorem dX5_next_11 : decode cX5_next 11 = .ok (.aload_n 0, 1) := dk_42 (dk_at dksX5_next_0 11 rfl rfl)
theorem dX5_next_12 : decode cX5_next 12 = .ok (.getfield 47, 3) := dk_180 0 47 (dk_at dksX5_next_0 12 rfl rfl)
theorem dX5_next_15 : decode cX5_next 15 = .ok (.aload_n 0, 1) := dk_42 (dk_at dksX5_next_0 15 rfl rfl)
theorem dX5_next_16 : decode cX5_next 16 = .ok (.getfield 183, 3) := dk_180 0 183 (dk_at dksX5_next_0 16 rfl rfl)
theorem dX5_next_19 : decode cX5_next 19 = .ok (.baload, 1) := dk_51 (dk_at dksX5_next_0 19 rfl rfl)
theorem dX5_next_20 : decode cX5_next 20 = .ok (.bipush 32, 2) := dk_16 32 (dk_at dksX5_next_0 20 rfl rfl)
theorem dX5_next_22 : decode cX5_next 22 = .ok (.if_icmp .eq 17, 3) := dk_159 0 17 (dk_at dksX5_next_1 0 rfl rfl)
theorem dX5_next_25 : decode cX5_next 25 = .ok (.aload_n 0, 1) := dk_42 (dk_at dksX5_next_1 3 rfl rfl)
theorem dX5_next_26 : decode cX5_next 26 = .ok (.getfield 47, 3) := dk_180 0 47 (dk_at dksX5_next_1 4 rfl rfl)
theorem dX5_next_29 : decode cX5_next 29 = .ok (.aload_n 0, 1) := dk_42 (dk_at dksX5_next_1 7 rfl rfl)
theorem dX5_next_30 : decode cX5_next 30 = .ok (.getfield 183, 3) := dk_180 0 183 (dk_at dksX5_next_1 8 rfl rfl)
theorem dX5_next_33 : decode cX5_next 33 = .ok (.baload, 1) := dk_51 (dk_at dksX5_next_1 11 rfl rfl)
theorem dX5_next_34 : decode cX5_next 34 = .ok (.bipush 10, 2) := dk_16 10 (dk_at dksX5_next_1 12 rfl rfl)
theorem dX5_next_36 : decode cX5_next 36 = .ok (.if_icmp .ne 16, 3) := dk_160 0 16 (dk_at dksX5_next_1 14 rfl rfl)
theorem dX5_next_39 : decode cX5_next 39 = .ok (.aload_n 0, 1) := dk_42 (dk_at dksX5_next_1 17 rfl rfl)
theorem dX5_next_40 : decode cX5_next 40 = .ok (.dup, 1) := dk_89 (dk_at dksX5_next_1 18 rfl rfl)
theorem dX5_next_41 : decode cX5_next 41 = .ok (.getfield 183, 3) := dk_180 0 183 (dk_at dksX5_next_1 19 rfl rfl)
theorem dX5_next_44 : decode cX5_next 44 = .ok (.iconst 1, 1) := dk_4 (dk_at dksX5_next_1 22 rfl rfl)
theorem dX5_next_45 : decode cX5_next 45 = .ok (.iadd, 1) := dk_96 (dk_at dksX5_next_1 23 rfl rfl)
theorem dX5_next_46 : decode cX5_next 46 = .ok (.putfield 183, 3) := dk_181 0 183 (dk_at dksX5_next_2 0 rfl rfl)
theorem dX5_next_49 : decode cX5_next 49 = .ok (.goto (-49), 3) := dk_167 255 207 (dk_at dksX5_next_2 3 rfl rfl)
theorem dX5_next_52 : decode cX5_next 52 = .ok (.aload_n 0, 1) := dk_42 (dk_at dksX5_next_2 6 rfl rfl)
theorem dX5_next_53 : decode cX5_next 53 = .ok (.aload_n 0, 1) := dk_42 (dk_at dksX5_next_2 7 rfl rfl)
theorem dX5_next_54 : decode cX5_next 54 = .ok (.getfield 183, 3) := dk_180 0 183 (dk_at dksX5_next_2 8 rfl rfl)
theorem dX5_next_57 : decode cX5_next 57 = .ok (.putfield 186, 3) := dk_181 0 186 (dk_at dksX5_next_2 11 rfl rfl)
theorem dX5_next_60 : decode cX5_next 60 = .ok (.aload_n 0, 1) := dk_42 (dk_at dksX5_next_2 14 rfl rfl)
theorem dX5_next_61 : decode cX5_next 61 = .ok (.getfield 183, 3) := dk_180 0 183 (dk_at dksX5_next_2 15 rfl rfl)
theorem dX5_next_64 : decode cX5_next 64 = .ok (.aload_n 0, 1) := dk_42 (dk_at dksX5_next_2 18 rfl rfl)
theorem dX5_next_65 : decode cX5_next 65 = .ok (.getfield 180, 3) := dk_180 0 180 (dk_at dksX5_next_2 19 rfl rfl)
theorem dX5_next_68 : decode cX5_next 68 = .ok (.if_icmp .lt 9, 3) := dk_161 0 9 (dk_at dksX5_next_3 0 rfl rfl)
theorem dX5_next_71 : decode cX5_next 71 = .ok (.aload_n 0, 1) := dk_42 (dk_at dksX5_next_3 3 rfl rfl)
theorem dX5_next_72 : decode cX5_next 72 = .ok (.iconst 0, 1) := dk_3 (dk_at dksX5_next_3 4 rfl rfl)
theorem dX5_next_73 : decode cX5_next 73 = .ok (.putfield 189, 3) := dk_181 0 189 (dk_at dksX5_next_3 5 rfl rfl)
theorem dX5_next_76 : decode cX5_next 76 = .ok (.return_, 1) := dk_177 (dk_at dksX5_next_3 8 rfl rfl)
theorem dX5_next_77 : decode cX5_next 77 = .ok (.aload_n 0, 1) := dk_42 (dk_at dksX5_next_3 9 rfl rfl)
theorem dX5_next_78 : decode cX5_next 78 = .ok (.getfield 47, 3) := dk_180 0 47 (dk_at dksX5_next_3 10 rfl rfl)
theorem dX5_next_81 : decode cX5_next 81 = .ok (.aload_n 0, 1) := dk_42 (dk_at dksX5_next_3 13 rfl rfl)
theorem dX5_next_82 : decode cX5_next 82 = .ok (.getfield 183, 3) := dk_180 0 183 (dk_at dksX5_next_3 14 rfl rfl)
theorem dX5_next_85 : decode cX5_next 85 = .ok (.baload, 1) := dk_51 (dk_at dksX5_next_3 17 rfl rfl)
theorem dX5_next_86 : decode cX5_next 86 = .ok (.istore_n 1, 1) := dk_60 (dk_at dksX5_next_3 18 rfl rfl)
theorem dX5_next_87 : decode cX5_next 87 = .ok (.aload_n 0, 1) := dk_42 (dk_at dksX5_next_3 19 rfl rfl)
theorem dX5_next_88 : decode cX5_next 88 = .ok (.dup, 1) := dk_89 (dk_at dksX5_next_3 20 rfl rfl)
theorem dX5_next_89 : decode cX5_next 89 = .ok (.getfield 183, 3) := dk_180 0 183 (dk_at dksX5_next_3 21 rfl rfl)
theorem dX5_next_92 : decode cX5_next 92 = .ok (.iconst 1, 1) := dk_4 (dk_at dksX5_next_4 0 rfl rfl)
theorem dX5_next_93 : decode cX5_next 93 = .ok (.iadd, 1) := dk_96 (dk_at dksX5_next_4 1 rfl rfl)
theorem dX5_next_94 : decode cX5_next 94 = .ok (.putfield 183, 3) := dk_181 0 183 (dk_at dksX5_next_4 2 rfl rfl)
theorem dX5_next_97 : decode cX5_next 97 = .ok (.aload_n 0, 1) := dk_42 (dk_at dksX5_next_4 5 rfl rfl)
theorem dX5_next_98 : decode cX5_next 98 = .ok (.iload_n 1, 1) := dk_27 (dk_at dksX5_next_4 6 rfl rfl)
theorem dX5_next_99 : decode cX5_next 99 = .ok (.putfield 192, 3) := dk_181 0 192 (dk_at dksX5_next_4 7 rfl rfl)
theorem dX5_next_102 : decode cX5_next 102 = .ok (.iload_n 1, 1) := dk_27 (dk_at dksX5_next_4 10 rfl rfl)
theorem dX5_next_103 : decode cX5_next 103 = .ok (.invokestatic 195, 3) := dk_184 0 195 (dk_at dksX5_next_4 11 rfl rfl)
theorem dX5_next_106 : decode cX5_next 106 = .ok (.ifCond .eq 38, 3) := dk_153 0 38 (dk_at dksX5_next_4 14 rfl rfl)
theorem dX5_next_109 : decode cX5_next 109 = .ok (.aload_n 0, 1) := dk_42 (dk_at dksX5_next_4 17 rfl rfl)
theorem dX5_next_110 : decode cX5_next 110 = .ok (.aload_n 0, 1) := dk_42 (dk_at dksX5_next_4 18 rfl rfl)
theorem dX5_next_111 : decode cX5_next 111 = .ok (.getfield 183, 3) := dk_180 0 183 (dk_at dksX5_next_4 19 rfl rfl)
theorem dX5_next_114 : decode cX5_next 114 = .ok (.invokevirtual 199, 3) := dk_182 0 199 (dk_at dksX5_next_5 0 rfl rfl)
theorem dX5_next_117 : decode cX5_next 117 = .ok (.invokestatic 195, 3) := dk_184 0 195 (dk_at dksX5_next_5 3 rfl rfl)
theorem dX5_next_120 : decode cX5_next 120 = .ok (.ifCond .eq 16, 3) := dk_153 0 16 (dk_at dksX5_next_5 6 rfl rfl)
theorem dX5_next_123 : decode cX5_next 123 = .ok (.aload_n 0, 1) := dk_42 (dk_at dksX5_next_5 9 rfl rfl)
theorem dX5_next_124 : decode cX5_next 124 = .ok (.dup, 1) := dk_89 (dk_at dksX5_next_5 10 rfl rfl)
theorem dX5_next_125 : decode cX5_next 125 = .ok (.getfield 183, 3) := dk_180 0 183 (dk_at dksX5_next_5 11 rfl rfl)
theorem dX5_next_128 : decode cX5_next 128 = .ok (.iconst 1, 1) := dk_4 (dk_at dksX5_next_5 14 rfl rfl)
theorem dX5_next_129 : decode cX5_next 129 = .ok (.iadd, 1) := dk_96 (dk_at dksX5_next_5 15 rfl rfl)
theorem dX5_next_130 : decode cX5_next 130 = .ok (.putfield 183, 3) := dk_181 0 183 (dk_at dksX5_next_5 16 rfl rfl)
theorem dX5_next_133 : decode cX5_next 133 = .ok (.goto (-24), 3) := dk_167 255 232 (dk_at dksX5_next_5 19 rfl rfl)
theorem dX5_next_136 : decode cX5_next 136 = .ok (.aload_n 0, 1) := dk_42 (dk_at dksX5_next_5 22 rfl rfl)
theorem dX5_next_137 : decode cX5_next 137 = .ok (.iconst 3, 1) := dk_6 (dk_at dksX5_next_5 23 rfl rfl)
theorem dX5_next_138 : decode cX5_next 138 = .ok (.putfield 189, 3) := dk_181 0 189 (dk_at dksX5_next_6 0 rfl rfl)
theorem dX5_next_141 : decode cX5_next 141 = .ok (.goto 111, 3) := dk_167 0 111 (dk_at dksX5_next_6 3 rfl rfl)
theorem dX5_next_144 : decode cX5_next 144 = .ok (.iload_n 1, 1) := dk_27 (dk_at dksX5_next_6 6 rfl rfl)
theorem dX5_next_145 : decode cX5_next 145 = .ok (.invokestatic 203, 3) := dk_184 0 203 (dk_at dksX5_next_6 7 rfl rfl)
theorem dX5_next_148 : decode cX5_next 148 = .ok (.ifCond .eq 99, 3) := dk_153 0 99 (dk_at dksX5_next_6 10 rfl rfl)
theorem dX5_next_151 : decode cX5_next 151 = .ok (.aload_n 0, 1) := dk_42 (dk_at dksX5_next_6 13 rfl rfl)
theorem dX5_next_152 : decode cX5_next 152 = .ok (.iload_n 1, 1) := dk_27 (dk_at dksX5_next_6 14 rfl rfl)
theorem dX5_next_153 : decode cX5_next 153 = .ok (.bipush 48, 2) := dk_16 48 (dk_at dksX5_next_6 15 rfl rfl)
theorem dX5_next_155 : decode cX5_next 155 = .ok (.isub, 1) := dk_100 (dk_at dksX5_next_6 17 rfl rfl)
theorem dX5_next_156 : decode cX5_next 156 = .ok (.putfield 192, 3) := dk_181 0 192 (dk_at dksX5_next_6 18 rfl rfl)
theorem dX5_next_159 : decode cX5_next 159 = .ok (.aload_n 0, 1) := dk_42 (dk_at dksX5_next_6 21 rfl rfl)
theorem dX5_next_160 : decode cX5_next 160 = .ok (.aload_n 0, 1) := dk_42 (dk_at dksX5_next_6 22 rfl rfl)
theorem dX5_next_161 : decode cX5_next 161 = .ok (.getfield 183, 3) := dk_180 0 183 (dk_at dksX5_next_7 0 rfl rfl)
theorem dX5_next_164 : decode cX5_next 164 = .ok (.invokevirtual 199, 3) := dk_182 0 199 (dk_at dksX5_next_7 3 rfl rfl)
theorem dX5_next_167 : decode cX5_next 167 = .ok (.invokestatic 203, 3) := dk_184 0 203 (dk_at dksX5_next_7 6 rfl rfl)
theorem dX5_next_170 : decode cX5_next 170 = .ok (.ifCond .eq 52, 3) := dk_153 0 52 (dk_at dksX5_next_7 9 rfl rfl)
theorem dX5_next_173 : decode cX5_next 173 = .ok (.aload_n 0, 1) := dk_42 (dk_at dksX5_next_7 12 rfl rfl)
theorem dX5_next_174 : decode cX5_next 174 = .ok (.getfield 183, 3) := dk_180 0 183 (dk_at dksX5_next_7 13 rfl rfl)
theorem dX5_next_177 : decode cX5_next 177 = .ok (.aload_n 0, 1) := dk_42 (dk_at dksX5_next_7 16 rfl rfl)
theorem dX5_next_178 : decode cX5_next 178 = .ok (.getfield 186, 3) := dk_180 0 186 (dk_at dksX5_next_7 17 rfl rfl)
theorem dX5_next_181 : decode cX5_next 181 = .ok (.isub, 1) := dk_100 (dk_at dksX5_next_7 20 rfl rfl)
theorem dX5_next_182 : decode cX5_next 182 = .ok (.iconst 2, 1) := dk_5 (dk_at dksX5_next_7 21 rfl rfl)
theorem dX5_next_183 : decode cX5_next 183 = .ok (.if_icmp .ge 26, 3) := dk_162 0 26 (dk_at dksX5_next_8 0 rfl rfl)
theorem dX5_next_186 : decode cX5_next 186 = .ok (.aload_n 0, 1) := dk_42 (dk_at dksX5_next_8 3 rfl rfl)
theorem dX5_next_187 : decode cX5_next 187 = .ok (.bipush 10, 2) := dk_16 10 (dk_at dksX5_next_8 4 rfl rfl)
theorem dX5_next_189 : decode cX5_next 189 = .ok (.aload_n 0, 1) := dk_42 (dk_at dksX5_next_8 6 rfl rfl)
theorem dX5_next_190 : decode cX5_next 190 = .ok (.getfield 192, 3) := dk_180 0 192 (dk_at dksX5_next_8 7 rfl rfl)
theorem dX5_next_193 : decode cX5_next 193 = .ok (.imul, 1) := dk_104 (dk_at dksX5_next_8 10 rfl rfl)
theorem dX5_next_194 : decode cX5_next 194 = .ok (.aload_n 0, 1) := dk_42 (dk_at dksX5_next_8 11 rfl rfl)
theorem dX5_next_195 : decode cX5_next 195 = .ok (.aload_n 0, 1) := dk_42 (dk_at dksX5_next_8 12 rfl rfl)
theorem dX5_next_196 : decode cX5_next 196 = .ok (.getfield 183, 3) := dk_180 0 183 (dk_at dksX5_next_8 13 rfl rfl)
theorem dX5_next_199 : decode cX5_next 199 = .ok (.invokevirtual 199, 3) := dk_182 0 199 (dk_at dksX5_next_8 16 rfl rfl)
theorem dX5_next_202 : decode cX5_next 202 = .ok (.iadd, 1) := dk_96 (dk_at dksX5_next_8 19 rfl rfl)
theorem dX5_next_203 : decode cX5_next 203 = .ok (.bipush 48, 2) := dk_16 48 (dk_at dksX5_next_8 20 rfl rfl)
theorem dX5_next_205 : decode cX5_next 205 = .ok (.isub, 1) := dk_100 (dk_at dksX5_next_8 22 rfl rfl)
theorem dX5_next_206 : decode cX5_next 206 = .ok (.putfield 192, 3) := dk_181 0 192 (dk_at dksX5_next_9 0 rfl rfl)
theorem dX5_next_209 : decode cX5_next 209 = .ok (.aload_n 0, 1) := dk_42 (dk_at dksX5_next_9 3 rfl rfl)
theorem dX5_next_210 : decode cX5_next 210 = .ok (.dup, 1) := dk_89 (dk_at dksX5_next_9 4 rfl rfl)
theorem dX5_next_211 : decode cX5_next 211 = .ok (.getfield 183, 3) := dk_180 0 183 (dk_at dksX5_next_9 5 rfl rfl)
theorem dX5_next_214 : decode cX5_next 214 = .ok (.iconst 1, 1) := dk_4 (dk_at dksX5_next_9 8 rfl rfl)
theorem dX5_next_215 : decode cX5_next 215 = .ok (.iadd, 1) := dk_96 (dk_at dksX5_next_9 9 rfl rfl)
theorem dX5_next_216 : decode cX5_next 216 = .ok (.putfield 183, 3) := dk_181 0 183 (dk_at dksX5_next_9 10 rfl rfl)
theorem dX5_next_219 : decode cX5_next 219 = .ok (.goto (-60), 3) := dk_167 255 196 (dk_at dksX5_next_9 13 rfl rfl)
theorem dX5_next_222 : decode cX5_next 222 = .ok (.aload_n 0, 1) := dk_42 (dk_at dksX5_next_9 16 rfl rfl)
theorem dX5_next_223 : decode cX5_next 223 = .ok (.aload_n 0, 1) := dk_42 (dk_at dksX5_next_9 17 rfl rfl)
theorem dX5_next_224 : decode cX5_next 224 = .ok (.getfield 183, 3) := dk_180 0 183 (dk_at dksX5_next_9 18 rfl rfl)
theorem dX5_next_227 : decode cX5_next 227 = .ok (.aload_n 0, 1) := dk_42 (dk_at dksX5_next_9 21 rfl rfl)
theorem dX5_next_228 : decode cX5_next 228 = .ok (.getfield 186, 3) := dk_180 0 186 (dk_at dksX5_next_10 0 rfl rfl)
theorem dX5_next_231 : decode cX5_next 231 = .ok (.isub, 1) := dk_100 (dk_at dksX5_next_10 3 rfl rfl)
theorem dX5_next_232 : decode cX5_next 232 = .ok (.iconst 2, 1) := dk_5 (dk_at dksX5_next_10 4 rfl rfl)
theorem dX5_next_233 : decode cX5_next 233 = .ok (.if_icmp .le 7, 3) := dk_164 0 7 (dk_at dksX5_next_10 5 rfl rfl)
theorem dX5_next_236 : decode cX5_next 236 = .ok (.iconst 1, 1) := dk_4 (dk_at dksX5_next_10 8 rfl rfl)
theorem dX5_next_237 : decode cX5_next 237 = .ok (.goto 4, 3) := dk_167 0 4 (dk_at dksX5_next_10 9 rfl rfl)
theorem dX5_next_240 : decode cX5_next 240 = .ok (.iconst 2, 1) := dk_5 (dk_at dksX5_next_10 12 rfl rfl)
theorem dX5_next_241 : decode cX5_next 241 = .ok (.putfield 189, 3) := dk_181 0 189 (dk_at dksX5_next_10 13 rfl rfl)
theorem dX5_next_244 : decode cX5_next 244 = .ok (.goto 8, 3) := dk_167 0 8 (dk_at dksX5_next_10 16 rfl rfl)
theorem dX5_next_247 : decode cX5_next 247 = .ok (.aload_n 0, 1) := dk_42 (dk_at dksX5_next_10 19 rfl rfl)
theorem dX5_next_248 : decode cX5_next 248 = .ok (.iconst 4, 1) := dk_7 (dk_at dksX5_next_10 20 rfl rfl)
theorem dX5_next_249 : decode cX5_next 249 = .ok (.putfield 189, 3) := dk_181 0 189 (dk_at dksX5_next_10 21 rfl rfl)
theorem dX5_next_252 : decode cX5_next 252 = .ok (.return_, 1) := dk_177 (dk_at dksX5_next_11 0 rfl rfl)
def dkwX5_isSmall_0 : List UInt8 := [26, 16, 97, 161, 0, 13, 26, 16, 122, 163, 0, 7, 4, 167, 0, 4, 3, 172]
abbrev dktX5_isSmall_0 : List UInt8 := dkwX5_isSmall_0 ++ []
theorem dksX5_isSmall_0 : cX5_isSmall.data.toList.drop 0 = dktX5_isSmall_0 := by decide +kernel
theorem dX5_isSmall_0 : decode cX5_isSmall 0 = .ok (.iload_n 0, 1) := dk_26 (dk_at dksX5_isSmall_0 0 rfl rfl)
theorem dX5_isSmall_1 : decode cX5_isSmall 1 = .ok (.bipush 97, 2) := dk_16 97 (dk_at dksX5_isSmall_0 1 rfl rfl)
theorem dX5_isSmall_3 : decode cX5_isSmall 3 = .ok (.if_icmp .lt 13, 3) := dk_161 0 13 (dk_at dksX5_isSmall_0 3 rfl rfl)
theorem dX5_isSmall_6 : decode cX5_isSmall 6 = .ok (.iload_n 0, 1) := dk_26 (dk_at dksX5_isSmall_0 6 rfl rfl)
theorem dX5_isSmall_7 : decode cX5_isSmall 7 = .ok (.bipush 122, 2) := dk_16 122 (dk_at dksX5_isSmall_0 7 rfl rfl)
theorem dX5_isSmall_9 : decode cX5_isSmall 9 = .ok (.if_icmp .gt 7, 3) := dk_163 0 7 (dk_at dksX5_isSmall_0 9 rfl rfl)
theorem dX5_isSmall_12 : decode cX5_isSmall 12 = .ok (.iconst 1, 1) := dk_4 (dk_at dksX5_isSmall_0 12 rfl rfl)
theorem dX5_isSmall_13 : decode cX5_isSmall 13 = .ok (.goto 4, 3) := dk_167 0 4 (dk_at dksX5_isSmall_0 13 rfl rfl)
theorem dX5_isSmall_16 : decode cX5_isSmall 16 = .ok (.iconst 0, 1) := dk_3 (dk_at dksX5_isSmall_0 16 rfl rfl)
theorem dX5_isSmall_17 : decode cX5_isSmall 17 = .ok (.ireturn, 1) := dk_172 (dk_at dksX5_isSmall_0 17 rfl rfl)
def dkwX5_see_0 : List UInt8 := [27, 42, 180, 0, 180, 162, 0, 12, 42, 180, 0, 47, 27, 51, 167, 0, 4, 3, 172]
abbrev dktX5_see_0 : List UInt8 := dkwX5_see_0 ++ []
theorem dksX5_see_0 : cX5_see.data.toList.drop 0 = dktX5_see_0 := by decide +kernel
theorem dX5_see_0 : decode cX5_see 0 = .ok (.iload_n 1, 1) := dk_27 (dk_at dksX5_see_0 0 rfl rfl)
theorem dX5_see_1 : decode cX5_see 1 = .ok (.aload_n 0, 1) := dk_42 (dk_at dksX5_see_0 1 rfl rfl)
theorem dX5_see_2 : decode cX5_see 2 = .ok (.getfield 180, 3) := dk_180 0 180 (dk_at dksX5_see_0 2 rfl rfl)
theorem dX5_see_5 : decode cX5_see 5 = .ok (.if_icmp .ge 12, 3) := dk_162 0 12 (dk_at dksX5_see_0 5 rfl rfl)
theorem dX5_see_8 : decode cX5_see 8 = .ok (.aload_n 0, 1) := dk_42 (dk_at dksX5_see_0 8 rfl rfl)
theorem dX5_see_9 : decode cX5_see 9 = .ok (.getfield 47, 3) := dk_180 0 47 (dk_at dksX5_see_0 9 rfl rfl)
theorem dX5_see_12 : decode cX5_see 12 = .ok (.iload_n 1, 1) := dk_27 (dk_at dksX5_see_0 12 rfl rfl)
theorem dX5_see_13 : decode cX5_see 13 = .ok (.baload, 1) := dk_51 (dk_at dksX5_see_0 13 rfl rfl)
theorem dX5_see_14 : decode cX5_see 14 = .ok (.goto 4, 3) := dk_167 0 4 (dk_at dksX5_see_0 14 rfl rfl)
theorem dX5_see_17 : decode cX5_see 17 = .ok (.iconst 0, 1) := dk_3 (dk_at dksX5_see_0 17 rfl rfl)
theorem dX5_see_18 : decode cX5_see 18 = .ok (.ireturn, 1) := dk_172 (dk_at dksX5_see_0 18 rfl rfl)
def dkwX5_isDigit_0 : List UInt8 := [26, 16, 48, 161, 0, 13, 26, 16, 57, 163, 0, 7, 4, 167, 0, 4, 3, 172]
abbrev dktX5_isDigit_0 : List UInt8 := dkwX5_isDigit_0 ++ []
theorem dksX5_isDigit_0 : cX5_isDigit.data.toList.drop 0 = dktX5_isDigit_0 := by decide +kernel
theorem dX5_isDigit_0 : decode cX5_isDigit 0 = .ok (.iload_n 0, 1) := dk_26 (dk_at dksX5_isDigit_0 0 rfl rfl)
theorem dX5_isDigit_1 : decode cX5_isDigit 1 = .ok (.bipush 48, 2) := dk_16 48 (dk_at dksX5_isDigit_0 1 rfl rfl)
theorem dX5_isDigit_3 : decode cX5_isDigit 3 = .ok (.if_icmp .lt 13, 3) := dk_161 0 13 (dk_at dksX5_isDigit_0 3 rfl rfl)
theorem dX5_isDigit_6 : decode cX5_isDigit 6 = .ok (.iload_n 0, 1) := dk_26 (dk_at dksX5_isDigit_0 6 rfl rfl)
theorem dX5_isDigit_7 : decode cX5_isDigit 7 = .ok (.bipush 57, 2) := dk_16 57 (dk_at dksX5_isDigit_0 7 rfl rfl)
theorem dX5_isDigit_9 : decode cX5_isDigit 9 = .ok (.if_icmp .gt 7, 3) := dk_163 0 7 (dk_at dksX5_isDigit_0 9 rfl rfl)
theorem dX5_isDigit_12 : decode cX5_isDigit 12 = .ok (.iconst 1, 1) := dk_4 (dk_at dksX5_isDigit_0 12 rfl rfl)
theorem dX5_isDigit_13 : decode cX5_isDigit 13 = .ok (.goto 4, 3) := dk_167 0 4 (dk_at dksX5_isDigit_0 13 rfl rfl)
theorem dX5_isDigit_16 : decode cX5_isDigit 16 = .ok (.iconst 0, 1) := dk_3 (dk_at dksX5_isDigit_0 16 rfl rfl)
theorem dX5_isDigit_17 : decode cX5_isDigit 17 = .ok (.ireturn, 1) := dk_172 (dk_at dksX5_isDigit_0 17 rfl rfl)
def dkwX5_readRow_7 : List UInt8 := [167, 0, 14, 42, 180, 0, 26, 28, 2, 79, 42, 182, 0, 229, 167, 255, 158, 42, 16, 46, 182, 0, 240, 177]
abbrev dktX5_readRow_7 : List UInt8 := dkwX5_readRow_7 ++ []
def dkwX5_readRow_6 : List UInt8 := [4, 96, 79, 42, 180, 0, 189, 5, 160, 0, 19, 42, 180, 0, 26, 28, 42, 3, 16, 39, 182, 0, 236, 79]
abbrev dktX5_readRow_6 : List UInt8 := dkwX5_readRow_6 ++ dktX5_readRow_7
def dkwX5_readRow_5 : List UInt8 := [6, 182, 0, 232, 177, 16, 6, 27, 104, 42, 180, 0, 23, 27, 46, 96, 61, 42, 180, 0, 23, 27, 92, 46]
abbrev dktX5_readRow_5 : List UInt8 := dkwX5_readRow_5 ++ dktX5_readRow_6
def dkwX5_readRow_4 : List UInt8 := [159, 0, 12, 42, 16, 63, 182, 0, 226, 153, 0, 80, 42, 180, 0, 23, 27, 46, 16, 6, 160, 0, 9, 42]
abbrev dktX5_readRow_4 : List UInt8 := dkwX5_readRow_4 ++ dktX5_readRow_5
def dkwX5_readRow_3 : List UInt8 := [4, 96, 79, 42, 180, 0, 23, 27, 3, 79, 42, 182, 0, 222, 153, 0, 97, 42, 180, 0, 189, 5]
abbrev dktX5_readRow_3 : List UInt8 := dkwX5_readRow_3 ++ dktX5_readRow_4
def dkwX5_readRow_2 : List UInt8 := [154, 0, 4, 177, 17, 0, 192, 42, 180, 0, 20, 16, 24, 46, 96, 60, 42, 180, 0, 20, 16, 24, 92, 46]
abbrev dktX5_readRow_2 : List UInt8 := dkwX5_readRow_2 ++ dktX5_readRow_3
def dkwX5_readRow_1 : List UInt8 := [167, 0, 20, 42, 180, 0, 20, 16, 24, 46, 16, 8, 160, 0, 8, 42, 6, 182, 0, 232, 42, 182, 0, 222]
abbrev dktX5_readRow_1 : List UInt8 := dkwX5_readRow_1 ++ dktX5_readRow_2
def dkwX5_readRow_0 : List UInt8 := [42, 180, 0, 189, 5, 159, 0, 20, 42, 16, 63, 182, 0, 226, 154, 0, 11, 42, 4, 182, 0, 232]
abbrev dktX5_readRow_0 : List UInt8 := dkwX5_readRow_0 ++ dktX5_readRow_1
theorem dksX5_readRow_0 : cX5_readRow.data.toList.drop 0 = dktX5_readRow_0 := by decide +kernel
theorem dksX5_readRow_1 : cX5_readRow.data.toList.drop 22 = dktX5_readRow_1 := dk_seg dksX5_readRow_0 22 rfl rfl
theorem dksX5_readRow_2 : cX5_readRow.data.toList.drop 46 = dktX5_readRow_2 := dk_seg dksX5_readRow_1 24 rfl rfl
theorem dksX5_readRow_3 : cX5_readRow.data.toList.drop 70 = dktX5_readRow_3 := dk_seg dksX5_readRow_2 24 rfl rfl
theorem dksX5_readRow_4 : cX5_readRow.data.toList.drop 92 = dktX5_readRow_4 := dk_seg dksX5_readRow_3 22 rfl rfl
theorem dksX5_readRow_5 : cX5_readRow.data.toList.drop 116 = dktX5_readRow_5 := dk_seg dksX5_readRow_4 24 rfl rfl
theorem dksX5_readRow_6 : cX5_readRow.data.toList.drop 140 = dktX5_readRow_6 := dk_seg dksX5_readRow_5 24 rfl rfl
theorem dksX5_readRow_7 : cX5_readRow.data.toList.drop 164 = dktX5_readRow_7 := dk_seg dksX5_readRow_6 24 rfl rfl
theorem dX5_readRow_0 : decode cX5_readRow 0 = .ok (.aload_n 0, 1) := dk_42 (dk_at dksX5_readRow_0 0 rfl rfl)
theorem dX5_readRow_1 : decode cX5_readRow 1 = .ok (.getfield 189, 3) := dk_180 0 189 (dk_at dksX5_readRow_0 1 rfl rfl)
theorem dX5_readRow_4 : decode cX5_readRow 4 = .ok (.iconst 2, 1) := dk_5 (dk_at dksX5_readRow_0 4 rfl rfl)
theorem dX5_readRow_5 : decode cX5_readRow 5 = .ok (.if_icmp .eq 20, 3) := dk_159 0 20 (dk_at dksX5_readRow_0 5 rfl rfl)
theorem dX5_readRow_8 : decode cX5_readRow 8 = .ok (.aload_n 0, 1) := dk_42 (dk_at dksX5_readRow_0 8 rfl rfl)
theorem dX5_readRow_9 : decode cX5_readRow 9 = .ok (.bipush 63, 2) := dk_16 63 (dk_at dksX5_readRow_0 9 rfl rfl)
theorem dX5_readRow_11 : decode cX5_readRow 11 = .ok (.invokevirtual 226, 3) := dk_182 0 226 (dk_at dksX5_readRow_0 11 rfl rfl)
theorem dX5_readRow_14 : decode cX5_readRow 14 = .ok (.ifCond .ne 11, 3) := dk_154 0 11 (dk_at dksX5_readRow_0 14 rfl rfl)
theorem dX5_readRow_17 : decode cX5_readRow 17 = .ok (.aload_n 0, 1) := dk_42 (dk_at dksX5_readRow_0 17 rfl rfl)
theorem dX5_readRow_18 : decode cX5_readRow 18 = .ok (.iconst 1, 1) := dk_4 (dk_at dksX5_readRow_0 18 rfl rfl)
theorem dX5_readRow_19 : decode cX5_readRow 19 = .ok (.invokevirtual 232, 3) := dk_182 0 232 (dk_at dksX5_readRow_0 19 rfl rfl)
theorem dX5_readRow_22 : decode cX5_readRow 22 = .ok (.goto 20, 3) := dk_167 0 20 (dk_at dksX5_readRow_1 0 rfl rfl)
theorem dX5_readRow_25 : decode cX5_readRow 25 = .ok (.aload_n 0, 1) := dk_42 (dk_at dksX5_readRow_1 3 rfl rfl)
theorem dX5_readRow_26 : decode cX5_readRow 26 = .ok (.getfield 20, 3) := dk_180 0 20 (dk_at dksX5_readRow_1 4 rfl rfl)
theorem dX5_readRow_29 : decode cX5_readRow 29 = .ok (.bipush 24, 2) := dk_16 24 (dk_at dksX5_readRow_1 7 rfl rfl)
theorem dX5_readRow_31 : decode cX5_readRow 31 = .ok (.iaload, 1) := dk_46 (dk_at dksX5_readRow_1 9 rfl rfl)
theorem dX5_readRow_32 : decode cX5_readRow 32 = .ok (.bipush 8, 2) := dk_16 8 (dk_at dksX5_readRow_1 10 rfl rfl)
theorem dX5_readRow_34 : decode cX5_readRow 34 = .ok (.if_icmp .ne 8, 3) := dk_160 0 8 (dk_at dksX5_readRow_1 12 rfl rfl)
theorem dX5_readRow_37 : decode cX5_readRow 37 = .ok (.aload_n 0, 1) := dk_42 (dk_at dksX5_readRow_1 15 rfl rfl)
theorem dX5_readRow_38 : decode cX5_readRow 38 = .ok (.iconst 3, 1) := dk_6 (dk_at dksX5_readRow_1 16 rfl rfl)
theorem dX5_readRow_39 : decode cX5_readRow 39 = .ok (.invokevirtual 232, 3) := dk_182 0 232 (dk_at dksX5_readRow_1 17 rfl rfl)
theorem dX5_readRow_42 : decode cX5_readRow 42 = .ok (.aload_n 0, 1) := dk_42 (dk_at dksX5_readRow_1 20 rfl rfl)
theorem dX5_readRow_43 : decode cX5_readRow 43 = .ok (.invokevirtual 222, 3) := dk_182 0 222 (dk_at dksX5_readRow_1 21 rfl rfl)
theorem dX5_readRow_46 : decode cX5_readRow 46 = .ok (.ifCond .ne 4, 3) := dk_154 0 4 (dk_at dksX5_readRow_2 0 rfl rfl)
theorem dX5_readRow_49 : decode cX5_readRow 49 = .ok (.return_, 1) := dk_177 (dk_at dksX5_readRow_2 3 rfl rfl)
theorem dX5_readRow_50 : decode cX5_readRow 50 = .ok (.sipush 192, 3) := dk_17 0 192 (dk_at dksX5_readRow_2 4 rfl rfl)
theorem dX5_readRow_53 : decode cX5_readRow 53 = .ok (.aload_n 0, 1) := dk_42 (dk_at dksX5_readRow_2 7 rfl rfl)
theorem dX5_readRow_54 : decode cX5_readRow 54 = .ok (.getfield 20, 3) := dk_180 0 20 (dk_at dksX5_readRow_2 8 rfl rfl)
theorem dX5_readRow_57 : decode cX5_readRow 57 = .ok (.bipush 24, 2) := dk_16 24 (dk_at dksX5_readRow_2 11 rfl rfl)
theorem dX5_readRow_59 : decode cX5_readRow 59 = .ok (.iaload, 1) := dk_46 (dk_at dksX5_readRow_2 13 rfl rfl)
theorem dX5_readRow_60 : decode cX5_readRow 60 = .ok (.iadd, 1) := dk_96 (dk_at dksX5_readRow_2 14 rfl rfl)
theorem dX5_readRow_61 : decode cX5_readRow 61 = .ok (.istore_n 1, 1) := dk_60 (dk_at dksX5_readRow_2 15 rfl rfl)
theorem dX5_readRow_62 : decode cX5_readRow 62 = .ok (.aload_n 0, 1) := dk_42 (dk_at dksX5_readRow_2 16 rfl rfl)
theorem dX5_readRow_63 : decode cX5_readRow 63 = .ok (.getfield 20, 3) := dk_180 0 20 (dk_at dksX5_readRow_2 17 rfl rfl)
theorem dX5_readRow_66 : decode cX5_readRow 66 = .ok (.bipush 24, 2) := dk_16 24 (dk_at dksX5_readRow_2 20 rfl rfl)
theorem dX5_readRow_68 : decode cX5_readRow 68 = .ok (.dup2, 1) := dk_92 (dk_at dksX5_readRow_2 22 rfl rfl)
theorem dX5_readRow_69 : decode cX5_readRow 69 = .ok (.iaload, 1) := dk_46 (dk_at dksX5_readRow_2 23 rfl rfl)
theorem dX5_readRow_70 : decode cX5_readRow 70 = .ok (.iconst 1, 1) := dk_4 (dk_at dksX5_readRow_3 0 rfl rfl)
theorem dX5_readRow_71 : decode cX5_readRow 71 = .ok (.iadd, 1) := dk_96 (dk_at dksX5_readRow_3 1 rfl rfl)
theorem dX5_readRow_72 : decode cX5_readRow 72 = .ok (.iastore, 1) := dk_79 (dk_at dksX5_readRow_3 2 rfl rfl)
theorem dX5_readRow_73 : decode cX5_readRow 73 = .ok (.aload_n 0, 1) := dk_42 (dk_at dksX5_readRow_3 3 rfl rfl)
theorem dX5_readRow_74 : decode cX5_readRow 74 = .ok (.getfield 23, 3) := dk_180 0 23 (dk_at dksX5_readRow_3 4 rfl rfl)
theorem dX5_readRow_77 : decode cX5_readRow 77 = .ok (.iload_n 1, 1) := dk_27 (dk_at dksX5_readRow_3 7 rfl rfl)
theorem dX5_readRow_78 : decode cX5_readRow 78 = .ok (.iconst 0, 1) := dk_3 (dk_at dksX5_readRow_3 8 rfl rfl)
theorem dX5_readRow_79 : decode cX5_readRow 79 = .ok (.iastore, 1) := dk_79 (dk_at dksX5_readRow_3 9 rfl rfl)
theorem dX5_readRow_80 : decode cX5_readRow 80 = .ok (.aload_n 0, 1) := dk_42 (dk_at dksX5_readRow_3 10 rfl rfl)
theorem dX5_readRow_81 : decode cX5_readRow 81 = .ok (.invokevirtual 222, 3) := dk_182 0 222 (dk_at dksX5_readRow_3 11 rfl rfl)
theorem dX5_readRow_84 : decode cX5_readRow 84 = .ok (.ifCond .eq 97, 3) := dk_153 0 97 (dk_at dksX5_readRow_3 14 rfl rfl)
theorem dX5_readRow_87 : decode cX5_readRow 87 = .ok (.aload_n 0, 1) := dk_42 (dk_at dksX5_readRow_3 17 rfl rfl)
theorem dX5_readRow_88 : decode cX5_readRow 88 = .ok (.getfield 189, 3) := dk_180 0 189 (dk_at dksX5_readRow_3 18 rfl rfl)
theorem dX5_readRow_91 : decode cX5_readRow 91 = .ok (.iconst 2, 1) := dk_5 (dk_at dksX5_readRow_3 21 rfl rfl)
theorem dX5_readRow_92 : decode cX5_readRow 92 = .ok (.if_icmp .eq 12, 3) := dk_159 0 12 (dk_at dksX5_readRow_4 0 rfl rfl)
theorem dX5_readRow_95 : decode cX5_readRow 95 = .ok (.aload_n 0, 1) := dk_42 (dk_at dksX5_readRow_4 3 rfl rfl)
theorem dX5_readRow_96 : decode cX5_readRow 96 = .ok (.bipush 63, 2) := dk_16 63 (dk_at dksX5_readRow_4 4 rfl rfl)
theorem dX5_readRow_98 : decode cX5_readRow 98 = .ok (.invokevirtual 226, 3) := dk_182 0 226 (dk_at dksX5_readRow_4 6 rfl rfl)
theorem dX5_readRow_101 : decode cX5_readRow 101 = .ok (.ifCond .eq 80, 3) := dk_153 0 80 (dk_at dksX5_readRow_4 9 rfl rfl)
theorem dX5_readRow_104 : decode cX5_readRow 104 = .ok (.aload_n 0, 1) := dk_42 (dk_at dksX5_readRow_4 12 rfl rfl)
theorem dX5_readRow_105 : decode cX5_readRow 105 = .ok (.getfield 23, 3) := dk_180 0 23 (dk_at dksX5_readRow_4 13 rfl rfl)
theorem dX5_readRow_108 : decode cX5_readRow 108 = .ok (.iload_n 1, 1) := dk_27 (dk_at dksX5_readRow_4 16 rfl rfl)
theorem dX5_readRow_109 : decode cX5_readRow 109 = .ok (.iaload, 1) := dk_46 (dk_at dksX5_readRow_4 17 rfl rfl)
theorem dX5_readRow_110 : decode cX5_readRow 110 = .ok (.bipush 6, 2) := dk_16 6 (dk_at dksX5_readRow_4 18 rfl rfl)
theorem dX5_readRow_112 : decode cX5_readRow 112 = .ok (.if_icmp .ne 9, 3) := dk_160 0 9 (dk_at dksX5_readRow_4 20 rfl rfl)
theorem dX5_readRow_115 : decode cX5_readRow 115 = .ok (.aload_n 0, 1) := dk_42 (dk_at dksX5_readRow_4 23 rfl rfl)
theorem dX5_readRow_116 : decode cX5_readRow 116 = .ok (.iconst 3, 1) := dk_6 (dk_at dksX5_readRow_5 0 rfl rfl)
theorem dX5_readRow_117 : decode cX5_readRow 117 = .ok (.invokevirtual 232, 3) := dk_182 0 232 (dk_at dksX5_readRow_5 1 rfl rfl)
theorem dX5_readRow_120 : decode cX5_readRow 120 = .ok (.return_, 1) := dk_177 (dk_at dksX5_readRow_5 4 rfl rfl)
theorem dX5_readRow_121 : decode cX5_readRow 121 = .ok (.bipush 6, 2) := dk_16 6 (dk_at dksX5_readRow_5 5 rfl rfl)
theorem dX5_readRow_123 : decode cX5_readRow 123 = .ok (.iload_n 1, 1) := dk_27 (dk_at dksX5_readRow_5 7 rfl rfl)
theorem dX5_readRow_124 : decode cX5_readRow 124 = .ok (.imul, 1) := dk_104 (dk_at dksX5_readRow_5 8 rfl rfl)
theorem dX5_readRow_125 : decode cX5_readRow 125 = .ok (.aload_n 0, 1) := dk_42 (dk_at dksX5_readRow_5 9 rfl rfl)
theorem dX5_readRow_126 : decode cX5_readRow 126 = .ok (.getfield 23, 3) := dk_180 0 23 (dk_at dksX5_readRow_5 10 rfl rfl)
theorem dX5_readRow_129 : decode cX5_readRow 129 = .ok (.iload_n 1, 1) := dk_27 (dk_at dksX5_readRow_5 13 rfl rfl)
theorem dX5_readRow_130 : decode cX5_readRow 130 = .ok (.iaload, 1) := dk_46 (dk_at dksX5_readRow_5 14 rfl rfl)
theorem dX5_readRow_131 : decode cX5_readRow 131 = .ok (.iadd, 1) := dk_96 (dk_at dksX5_readRow_5 15 rfl rfl)
theorem dX5_readRow_132 : decode cX5_readRow 132 = .ok (.istore_n 2, 1) := dk_61 (dk_at dksX5_readRow_5 16 rfl rfl)
theorem dX5_readRow_133 : decode cX5_readRow 133 = .ok (.aload_n 0, 1) := dk_42 (dk_at dksX5_readRow_5 17 rfl rfl)
theorem dX5_readRow_134 : decode cX5_readRow 134 = .ok (.getfield 23, 3) := dk_180 0 23 (dk_at dksX5_readRow_5 18 rfl rfl)
theorem dX5_readRow_137 : decode cX5_readRow 137 = .ok (.iload_n 1, 1) := dk_27 (dk_at dksX5_readRow_5 21 rfl rfl)
theorem dX5_readRow_138 : decode cX5_readRow 138 = .ok (.dup2, 1) := dk_92 (dk_at dksX5_readRow_5 22 rfl rfl)
theorem dX5_readRow_139 : decode cX5_readRow 139 = .ok (.iaload, 1) := dk_46 (dk_at dksX5_readRow_5 23 rfl rfl)
theorem dX5_readRow_140 : decode cX5_readRow 140 = .ok (.iconst 1, 1) := dk_4 (dk_at dksX5_readRow_6 0 rfl rfl)
theorem dX5_readRow_141 : decode cX5_readRow 141 = .ok (.iadd, 1) := dk_96 (dk_at dksX5_readRow_6 1 rfl rfl)
theorem dX5_readRow_142 : decode cX5_readRow 142 = .ok (.iastore, 1) := dk_79 (dk_at dksX5_readRow_6 2 rfl rfl)
theorem dX5_readRow_143 : decode cX5_readRow 143 = .ok (.aload_n 0, 1) := dk_42 (dk_at dksX5_readRow_6 3 rfl rfl)
theorem dX5_readRow_144 : decode cX5_readRow 144 = .ok (.getfield 189, 3) := dk_180 0 189 (dk_at dksX5_readRow_6 4 rfl rfl)
theorem dX5_readRow_147 : decode cX5_readRow 147 = .ok (.iconst 2, 1) := dk_5 (dk_at dksX5_readRow_6 7 rfl rfl)
theorem dX5_readRow_148 : decode cX5_readRow 148 = .ok (.if_icmp .ne 19, 3) := dk_160 0 19 (dk_at dksX5_readRow_6 8 rfl rfl)
theorem dX5_readRow_151 : decode cX5_readRow 151 = .ok (.aload_n 0, 1) := dk_42 (dk_at dksX5_readRow_6 11 rfl rfl)
theorem dX5_readRow_152 : decode cX5_readRow 152 = .ok (.getfield 26, 3) := dk_180 0 26 (dk_at dksX5_readRow_6 12 rfl rfl)
theorem dX5_readRow_155 : decode cX5_readRow 155 = .ok (.iload_n 2, 1) := dk_28 (dk_at dksX5_readRow_6 15 rfl rfl)
theorem dX5_readRow_156 : decode cX5_readRow 156 = .ok (.aload_n 0, 1) := dk_42 (dk_at dksX5_readRow_6 16 rfl rfl)
theorem dX5_readRow_157 : decode cX5_readRow 157 = .ok (.iconst 0, 1) := dk_3 (dk_at dksX5_readRow_6 17 rfl rfl)
theorem dX5_readRow_158 : decode cX5_readRow 158 = .ok (.bipush 39, 2) := dk_16 39 (dk_at dksX5_readRow_6 18 rfl rfl)
theorem dX5_readRow_160 : decode cX5_readRow 160 = .ok (.invokevirtual 236, 3) := dk_182 0 236 (dk_at dksX5_readRow_6 20 rfl rfl)
theorem dX5_readRow_163 : decode cX5_readRow 163 = .ok (.iastore, 1) := dk_79 (dk_at dksX5_readRow_6 23 rfl rfl)
theorem dX5_readRow_164 : decode cX5_readRow 164 = .ok (.goto 14, 3) := dk_167 0 14 (dk_at dksX5_readRow_7 0 rfl rfl)
theorem dX5_readRow_167 : decode cX5_readRow 167 = .ok (.aload_n 0, 1) := dk_42 (dk_at dksX5_readRow_7 3 rfl rfl)
theorem dX5_readRow_168 : decode cX5_readRow 168 = .ok (.getfield 26, 3) := dk_180 0 26 (dk_at dksX5_readRow_7 4 rfl rfl)
theorem dX5_readRow_171 : decode cX5_readRow 171 = .ok (.iload_n 2, 1) := dk_28 (dk_at dksX5_readRow_7 7 rfl rfl)
theorem dX5_readRow_172 : decode cX5_readRow 172 = .ok (.iconst (-1), 1) := dk_2 (dk_at dksX5_readRow_7 8 rfl rfl)
theorem dX5_readRow_173 : decode cX5_readRow 173 = .ok (.iastore, 1) := dk_79 (dk_at dksX5_readRow_7 9 rfl rfl)
theorem dX5_readRow_174 : decode cX5_readRow 174 = .ok (.aload_n 0, 1) := dk_42 (dk_at dksX5_readRow_7 10 rfl rfl)
theorem dX5_readRow_175 : decode cX5_readRow 175 = .ok (.invokevirtual 229, 3) := dk_182 0 229 (dk_at dksX5_readRow_7 11 rfl rfl)
theorem dX5_readRow_178 : decode cX5_readRow 178 = .ok (.goto (-98), 3) := dk_167 255 158 (dk_at dksX5_readRow_7 14 rfl rfl)
theorem dX5_readRow_181 : decode cX5_readRow 181 = .ok (.aload_n 0, 1) := dk_42 (dk_at dksX5_readRow_7 17 rfl rfl)
theorem dX5_readRow_182 : decode cX5_readRow 182 = .ok (.bipush 46, 2) := dk_16 46 (dk_at dksX5_readRow_7 18 rfl rfl)
theorem dX5_readRow_184 : decode cX5_readRow 184 = .ok (.invokevirtual 240, 3) := dk_182 0 240 (dk_at dksX5_readRow_7 20 rfl rfl)
theorem dX5_readRow_187 : decode cX5_readRow 187 = .ok (.return_, 1) := dk_177 (dk_at dksX5_readRow_7 23 rfl rfl)
def dkwX5_isSign_0 : List UInt8 := [42, 180, 0, 189, 7, 160, 0, 15, 42, 180, 0, 192, 27, 160, 0, 7, 4, 167, 0, 4, 3, 172]
abbrev dktX5_isSign_0 : List UInt8 := dkwX5_isSign_0 ++ []
theorem dksX5_isSign_0 : cX5_isSign.data.toList.drop 0 = dktX5_isSign_0 := by decide +kernel
theorem dX5_isSign_0 : decode cX5_isSign 0 = .ok (.aload_n 0, 1) := dk_42 (dk_at dksX5_isSign_0 0 rfl rfl)
theorem dX5_isSign_1 : decode cX5_isSign 1 = .ok (.getfield 189, 3) := dk_180 0 189 (dk_at dksX5_isSign_0 1 rfl rfl)
theorem dX5_isSign_4 : decode cX5_isSign 4 = .ok (.iconst 4, 1) := dk_7 (dk_at dksX5_isSign_0 4 rfl rfl)
theorem dX5_isSign_5 : decode cX5_isSign 5 = .ok (.if_icmp .ne 15, 3) := dk_160 0 15 (dk_at dksX5_isSign_0 5 rfl rfl)
theorem dX5_isSign_8 : decode cX5_isSign 8 = .ok (.aload_n 0, 1) := dk_42 (dk_at dksX5_isSign_0 8 rfl rfl)
theorem dX5_isSign_9 : decode cX5_isSign 9 = .ok (.getfield 192, 3) := dk_180 0 192 (dk_at dksX5_isSign_0 9 rfl rfl)
theorem dX5_isSign_12 : decode cX5_isSign 12 = .ok (.iload_n 1, 1) := dk_27 (dk_at dksX5_isSign_0 12 rfl rfl)
theorem dX5_isSign_13 : decode cX5_isSign 13 = .ok (.if_icmp .ne 7, 3) := dk_160 0 7 (dk_at dksX5_isSign_0 13 rfl rfl)
theorem dX5_isSign_16 : decode cX5_isSign 16 = .ok (.iconst 1, 1) := dk_4 (dk_at dksX5_isSign_0 16 rfl rfl)
theorem dX5_isSign_17 : decode cX5_isSign 17 = .ok (.goto 4, 3) := dk_167 0 4 (dk_at dksX5_isSign_0 17 rfl rfl)
theorem dX5_isSign_20 : decode cX5_isSign 20 = .ok (.iconst 0, 1) := dk_3 (dk_at dksX5_isSign_0 20 rfl rfl)
theorem dX5_isSign_21 : decode cX5_isSign 21 = .ok (.ireturn, 1) := dk_172 (dk_at dksX5_isSign_0 21 rfl rfl)
def dkwX5_fails_0 : List UInt8 := [42, 180, 0, 216, 153, 0, 4, 177, 42, 27, 181, 0, 216, 42, 42, 180, 0, 186, 181, 0, 219, 177]
abbrev dktX5_fails_0 : List UInt8 := dkwX5_fails_0 ++ []
theorem dksX5_fails_0 : cX5_fails.data.toList.drop 0 = dktX5_fails_0 := by decide +kernel
theorem dX5_fails_0 : decode cX5_fails 0 = .ok (.aload_n 0, 1) := dk_42 (dk_at dksX5_fails_0 0 rfl rfl)
theorem dX5_fails_1 : decode cX5_fails 1 = .ok (.getfield 216, 3) := dk_180 0 216 (dk_at dksX5_fails_0 1 rfl rfl)
theorem dX5_fails_4 : decode cX5_fails 4 = .ok (.ifCond .eq 4, 3) := dk_153 0 4 (dk_at dksX5_fails_0 4 rfl rfl)
theorem dX5_fails_7 : decode cX5_fails 7 = .ok (.return_, 1) := dk_177 (dk_at dksX5_fails_0 7 rfl rfl)
theorem dX5_fails_8 : decode cX5_fails 8 = .ok (.aload_n 0, 1) := dk_42 (dk_at dksX5_fails_0 8 rfl rfl)
theorem dX5_fails_9 : decode cX5_fails 9 = .ok (.iload_n 1, 1) := dk_27 (dk_at dksX5_fails_0 9 rfl rfl)
theorem dX5_fails_10 : decode cX5_fails 10 = .ok (.putfield 216, 3) := dk_181 0 216 (dk_at dksX5_fails_0 10 rfl rfl)
theorem dX5_fails_13 : decode cX5_fails 13 = .ok (.aload_n 0, 1) := dk_42 (dk_at dksX5_fails_0 13 rfl rfl)
theorem dX5_fails_14 : decode cX5_fails 14 = .ok (.aload_n 0, 1) := dk_42 (dk_at dksX5_fails_0 14 rfl rfl)
theorem dX5_fails_15 : decode cX5_fails 15 = .ok (.getfield 186, 3) := dk_180 0 186 (dk_at dksX5_fails_0 15 rfl rfl)
theorem dX5_fails_18 : decode cX5_fails 18 = .ok (.putfield 219, 3) := dk_181 0 219 (dk_at dksX5_fails_0 18 rfl rfl)
theorem dX5_fails_21 : decode cX5_fails 21 = .ok (.return_, 1) := dk_177 (dk_at dksX5_fails_0 21 rfl rfl)
def dkwX5_isWell_0 : List UInt8 := [42, 180, 0, 216, 154, 0, 7, 4, 167, 0, 4, 3, 172]
abbrev dktX5_isWell_0 : List UInt8 := dkwX5_isWell_0 ++ []
theorem dksX5_isWell_0 : cX5_isWell.data.toList.drop 0 = dktX5_isWell_0 := by decide +kernel
theorem dX5_isWell_0 : decode cX5_isWell 0 = .ok (.aload_n 0, 1) := dk_42 (dk_at dksX5_isWell_0 0 rfl rfl)
theorem dX5_isWell_1 : decode cX5_isWell 1 = .ok (.getfield 216, 3) := dk_180 0 216 (dk_at dksX5_isWell_0 1 rfl rfl)
theorem dX5_isWell_4 : decode cX5_isWell 4 = .ok (.ifCond .ne 7, 3) := dk_154 0 7 (dk_at dksX5_isWell_0 4 rfl rfl)
theorem dX5_isWell_7 : decode cX5_isWell 7 = .ok (.iconst 1, 1) := dk_4 (dk_at dksX5_isWell_0 7 rfl rfl)
theorem dX5_isWell_8 : decode cX5_isWell 8 = .ok (.goto 4, 3) := dk_167 0 4 (dk_at dksX5_isWell_0 8 rfl rfl)
theorem dX5_isWell_11 : decode cX5_isWell 11 = .ok (.iconst 0, 1) := dk_3 (dk_at dksX5_isWell_0 11 rfl rfl)
theorem dX5_isWell_12 : decode cX5_isWell 12 = .ok (.ireturn, 1) := dk_172 (dk_at dksX5_isWell_0 12 rfl rfl)
def dkwX5_number_2 : List UInt8 := [154, 0, 5, 3, 172, 42, 180, 0, 192, 62, 42, 182, 0, 229, 29, 172]
abbrev dktX5_number_2 : List UInt8 := dkwX5_number_2 ++ []
def dkwX5_number_1 : List UInt8 := [153, 0, 20, 42, 180, 0, 192, 27, 28, 184, 0, 169, 154, 0, 8, 42, 5, 182, 0, 232, 42, 182, 0, 222]
abbrev dktX5_number_1 : List UInt8 := dkwX5_number_1 ++ dktX5_number_2
def dkwX5_number_0 : List UInt8 := [42, 182, 0, 222, 153, 0, 16, 42, 180, 0, 189, 5, 159, 0, 8, 42, 4, 182, 0, 232, 42, 182, 0, 222]
abbrev dktX5_number_0 : List UInt8 := dkwX5_number_0 ++ dktX5_number_1
theorem dksX5_number_0 : cX5_number.data.toList.drop 0 = dktX5_number_0 := by decide +kernel
theorem dksX5_number_1 : cX5_number.data.toList.drop 24 = dktX5_number_1 := dk_seg dksX5_number_0 24 rfl rfl
theorem dksX5_number_2 : cX5_number.data.toList.drop 48 = dktX5_number_2 := dk_seg dksX5_number_1 24 rfl rfl
theorem dX5_number_0 : decode cX5_number 0 = .ok (.aload_n 0, 1) := dk_42 (dk_at dksX5_number_0 0 rfl rfl)
theorem dX5_number_1 : decode cX5_number 1 = .ok (.invokevirtual 222, 3) := dk_182 0 222 (dk_at dksX5_number_0 1 rfl rfl)
theorem dX5_number_4 : decode cX5_number 4 = .ok (.ifCond .eq 16, 3) := dk_153 0 16 (dk_at dksX5_number_0 4 rfl rfl)
theorem dX5_number_7 : decode cX5_number 7 = .ok (.aload_n 0, 1) := dk_42 (dk_at dksX5_number_0 7 rfl rfl)
theorem dX5_number_8 : decode cX5_number 8 = .ok (.getfield 189, 3) := dk_180 0 189 (dk_at dksX5_number_0 8 rfl rfl)
theorem dX5_number_11 : decode cX5_number 11 = .ok (.iconst 2, 1) := dk_5 (dk_at dksX5_number_0 11 rfl rfl)
theorem dX5_number_12 : decode cX5_number 12 = .ok (.if_icmp .eq 8, 3) := dk_159 0 8 (dk_at dksX5_number_0 12 rfl rfl)
theorem dX5_number_15 : decode cX5_number 15 = .ok (.aload_n 0, 1) := dk_42 (dk_at dksX5_number_0 15 rfl rfl)
theorem dX5_number_16 : decode cX5_number 16 = .ok (.iconst 1, 1) := dk_4 (dk_at dksX5_number_0 16 rfl rfl)
theorem dX5_number_17 : decode cX5_number 17 = .ok (.invokevirtual 232, 3) := dk_182 0 232 (dk_at dksX5_number_0 17 rfl rfl)
theorem dX5_number_20 : decode cX5_number 20 = .ok (.aload_n 0, 1) := dk_42 (dk_at dksX5_number_0 20 rfl rfl)
theorem dX5_number_21 : decode cX5_number 21 = .ok (.invokevirtual 222, 3) := dk_182 0 222 (dk_at dksX5_number_0 21 rfl rfl)
theorem dX5_number_24 : decode cX5_number 24 = .ok (.ifCond .eq 20, 3) := dk_153 0 20 (dk_at dksX5_number_1 0 rfl rfl)
theorem dX5_number_27 : decode cX5_number 27 = .ok (.aload_n 0, 1) := dk_42 (dk_at dksX5_number_1 3 rfl rfl)
theorem dX5_number_28 : decode cX5_number 28 = .ok (.getfield 192, 3) := dk_180 0 192 (dk_at dksX5_number_1 4 rfl rfl)
theorem dX5_number_31 : decode cX5_number 31 = .ok (.iload_n 1, 1) := dk_27 (dk_at dksX5_number_1 7 rfl rfl)
theorem dX5_number_32 : decode cX5_number 32 = .ok (.iload_n 2, 1) := dk_28 (dk_at dksX5_number_1 8 rfl rfl)
theorem dX5_number_33 : decode cX5_number 33 = .ok (.invokestatic 169, 3) := dk_184 0 169 (dk_at dksX5_number_1 9 rfl rfl)
theorem dX5_number_36 : decode cX5_number 36 = .ok (.ifCond .ne 8, 3) := dk_154 0 8 (dk_at dksX5_number_1 12 rfl rfl)
theorem dX5_number_39 : decode cX5_number 39 = .ok (.aload_n 0, 1) := dk_42 (dk_at dksX5_number_1 15 rfl rfl)
theorem dX5_number_40 : decode cX5_number 40 = .ok (.iconst 2, 1) := dk_5 (dk_at dksX5_number_1 16 rfl rfl)
theorem dX5_number_41 : decode cX5_number 41 = .ok (.invokevirtual 232, 3) := dk_182 0 232 (dk_at dksX5_number_1 17 rfl rfl)
theorem dX5_number_44 : decode cX5_number 44 = .ok (.aload_n 0, 1) := dk_42 (dk_at dksX5_number_1 20 rfl rfl)
theorem dX5_number_45 : decode cX5_number 45 = .ok (.invokevirtual 222, 3) := dk_182 0 222 (dk_at dksX5_number_1 21 rfl rfl)
theorem dX5_number_48 : decode cX5_number 48 = .ok (.ifCond .ne 5, 3) := dk_154 0 5 (dk_at dksX5_number_2 0 rfl rfl)
theorem dX5_number_51 : decode cX5_number 51 = .ok (.iconst 0, 1) := dk_3 (dk_at dksX5_number_2 3 rfl rfl)
theorem dX5_number_52 : decode cX5_number 52 = .ok (.ireturn, 1) := dk_172 (dk_at dksX5_number_2 4 rfl rfl)
theorem dX5_number_53 : decode cX5_number 53 = .ok (.aload_n 0, 1) := dk_42 (dk_at dksX5_number_2 5 rfl rfl)
theorem dX5_number_54 : decode cX5_number 54 = .ok (.getfield 192, 3) := dk_180 0 192 (dk_at dksX5_number_2 6 rfl rfl)
theorem dX5_number_57 : decode cX5_number 57 = .ok (.istore_n 3, 1) := dk_62 (dk_at dksX5_number_2 9 rfl rfl)
theorem dX5_number_58 : decode cX5_number 58 = .ok (.aload_n 0, 1) := dk_42 (dk_at dksX5_number_2 10 rfl rfl)
theorem dX5_number_59 : decode cX5_number 59 = .ok (.invokevirtual 229, 3) := dk_182 0 229 (dk_at dksX5_number_2 11 rfl rfl)
theorem dX5_number_62 : decode cX5_number 62 = .ok (.iload_n 3, 1) := dk_29 (dk_at dksX5_number_2 14 rfl rfl)
theorem dX5_number_63 : decode cX5_number 63 = .ok (.ireturn, 1) := dk_172 (dk_at dksX5_number_2 15 rfl rfl)
def dkwX5_wantSign_1 : List UInt8 := [4, 182, 0, 232, 177]
abbrev dktX5_wantSign_1 : List UInt8 := dkwX5_wantSign_1 ++ []
def dkwX5_wantSign_0 : List UInt8 := [42, 182, 0, 222, 154, 0, 4, 177, 42, 27, 182, 0, 226, 153, 0, 10, 42, 182, 0, 229, 167, 0, 8, 42]
abbrev dktX5_wantSign_0 : List UInt8 := dkwX5_wantSign_0 ++ dktX5_wantSign_1
theorem dksX5_wantSign_0 : cX5_wantSign.data.toList.drop 0 = dktX5_wantSign_0 := by decide +kernel
theorem dksX5_wantSign_1 : cX5_wantSign.data.toList.drop 24 = dktX5_wantSign_1 := dk_seg dksX5_wantSign_0 24 rfl rfl
theorem dX5_wantSign_0 : decode cX5_wantSign 0 = .ok (.aload_n 0, 1) := dk_42 (dk_at dksX5_wantSign_0 0 rfl rfl)
theorem dX5_wantSign_1 : decode cX5_wantSign 1 = .ok (.invokevirtual 222, 3) := dk_182 0 222 (dk_at dksX5_wantSign_0 1 rfl rfl)
theorem dX5_wantSign_4 : decode cX5_wantSign 4 = .ok (.ifCond .ne 4, 3) := dk_154 0 4 (dk_at dksX5_wantSign_0 4 rfl rfl)
theorem dX5_wantSign_7 : decode cX5_wantSign 7 = .ok (.return_, 1) := dk_177 (dk_at dksX5_wantSign_0 7 rfl rfl)
theorem dX5_wantSign_8 : decode cX5_wantSign 8 = .ok (.aload_n 0, 1) := dk_42 (dk_at dksX5_wantSign_0 8 rfl rfl)
theorem dX5_wantSign_9 : decode cX5_wantSign 9 = .ok (.iload_n 1, 1) := dk_27 (dk_at dksX5_wantSign_0 9 rfl rfl)
theorem dX5_wantSign_10 : decode cX5_wantSign 10 = .ok (.invokevirtual 226, 3) := dk_182 0 226 (dk_at dksX5_wantSign_0 10 rfl rfl)
theorem dX5_wantSign_13 : decode cX5_wantSign 13 = .ok (.ifCond .eq 10, 3) := dk_153 0 10 (dk_at dksX5_wantSign_0 13 rfl rfl)
theorem dX5_wantSign_16 : decode cX5_wantSign 16 = .ok (.aload_n 0, 1) := dk_42 (dk_at dksX5_wantSign_0 16 rfl rfl)
theorem dX5_wantSign_17 : decode cX5_wantSign 17 = .ok (.invokevirtual 229, 3) := dk_182 0 229 (dk_at dksX5_wantSign_0 17 rfl rfl)
theorem dX5_wantSign_20 : decode cX5_wantSign 20 = .ok (.goto 8, 3) := dk_167 0 8 (dk_at dksX5_wantSign_0 20 rfl rfl)
theorem dX5_wantSign_23 : decode cX5_wantSign 23 = .ok (.aload_n 0, 1) := dk_42 (dk_at dksX5_wantSign_0 23 rfl rfl)
theorem dX5_wantSign_24 : decode cX5_wantSign 24 = .ok (.iconst 1, 1) := dk_4 (dk_at dksX5_wantSign_1 0 rfl rfl)
theorem dX5_wantSign_25 : decode cX5_wantSign 25 = .ok (.invokevirtual 232, 3) := dk_182 0 232 (dk_at dksX5_wantSign_1 1 rfl rfl)
theorem dX5_wantSign_28 : decode cX5_wantSign 28 = .ok (.return_, 1) := dk_177 (dk_at dksX5_wantSign_1 4 rfl rfl)
def dkwX5_stops_1 : List UInt8 := [42, 182, 0, 222, 153, 0, 7, 3, 167, 0, 9, 2, 42, 180, 0, 216, 100, 172]
abbrev dktX5_stops_1 : List UInt8 := dkwX5_stops_1 ++ []
def dkwX5_stops_0 : List UInt8 := [42, 3, 181, 0, 180, 42, 42, 182, 0, 222, 153, 0, 7, 2, 167, 0, 7, 42, 180, 0, 219, 181, 0, 51]
abbrev dktX5_stops_0 : List UInt8 := dkwX5_stops_0 ++ dktX5_stops_1
theorem dksX5_stops_0 : cX5_stops.data.toList.drop 0 = dktX5_stops_0 := by decide +kernel
theorem dksX5_stops_1 : cX5_stops.data.toList.drop 24 = dktX5_stops_1 := dk_seg dksX5_stops_0 24 rfl rfl
theorem dX5_stops_0 : decode cX5_stops 0 = .ok (.aload_n 0, 1) := dk_42 (dk_at dksX5_stops_0 0 rfl rfl)
theorem dX5_stops_1 : decode cX5_stops 1 = .ok (.iconst 0, 1) := dk_3 (dk_at dksX5_stops_0 1 rfl rfl)
theorem dX5_stops_2 : decode cX5_stops 2 = .ok (.putfield 180, 3) := dk_181 0 180 (dk_at dksX5_stops_0 2 rfl rfl)
theorem dX5_stops_5 : decode cX5_stops 5 = .ok (.aload_n 0, 1) := dk_42 (dk_at dksX5_stops_0 5 rfl rfl)
theorem dX5_stops_6 : decode cX5_stops 6 = .ok (.aload_n 0, 1) := dk_42 (dk_at dksX5_stops_0 6 rfl rfl)
theorem dX5_stops_7 : decode cX5_stops 7 = .ok (.invokevirtual 222, 3) := dk_182 0 222 (dk_at dksX5_stops_0 7 rfl rfl)
theorem dX5_stops_10 : decode cX5_stops 10 = .ok (.ifCond .eq 7, 3) := dk_153 0 7 (dk_at dksX5_stops_0 10 rfl rfl)
theorem dX5_stops_13 : decode cX5_stops 13 = .ok (.iconst (-1), 1) := dk_2 (dk_at dksX5_stops_0 13 rfl rfl)
theorem dX5_stops_14 : decode cX5_stops 14 = .ok (.goto 7, 3) := dk_167 0 7 (dk_at dksX5_stops_0 14 rfl rfl)
theorem dX5_stops_17 : decode cX5_stops 17 = .ok (.aload_n 0, 1) := dk_42 (dk_at dksX5_stops_0 17 rfl rfl)
theorem dX5_stops_18 : decode cX5_stops 18 = .ok (.getfield 219, 3) := dk_180 0 219 (dk_at dksX5_stops_0 18 rfl rfl)
theorem dX5_stops_21 : decode cX5_stops 21 = .ok (.putfield 51, 3) := dk_181 0 51 (dk_at dksX5_stops_0 21 rfl rfl)
theorem dX5_stops_24 : decode cX5_stops 24 = .ok (.aload_n 0, 1) := dk_42 (dk_at dksX5_stops_1 0 rfl rfl)
theorem dX5_stops_25 : decode cX5_stops 25 = .ok (.invokevirtual 222, 3) := dk_182 0 222 (dk_at dksX5_stops_1 1 rfl rfl)
theorem dX5_stops_28 : decode cX5_stops 28 = .ok (.ifCond .eq 7, 3) := dk_153 0 7 (dk_at dksX5_stops_1 4 rfl rfl)
theorem dX5_stops_31 : decode cX5_stops 31 = .ok (.iconst 0, 1) := dk_3 (dk_at dksX5_stops_1 7 rfl rfl)
theorem dX5_stops_32 : decode cX5_stops 32 = .ok (.goto 9, 3) := dk_167 0 9 (dk_at dksX5_stops_1 8 rfl rfl)
theorem dX5_stops_35 : decode cX5_stops 35 = .ok (.iconst (-1), 1) := dk_2 (dk_at dksX5_stops_1 11 rfl rfl)
theorem dX5_stops_36 : decode cX5_stops 36 = .ok (.aload_n 0, 1) := dk_42 (dk_at dksX5_stops_1 12 rfl rfl)
theorem dX5_stops_37 : decode cX5_stops 37 = .ok (.getfield 216, 3) := dk_180 0 216 (dk_at dksX5_stops_1 13 rfl rfl)
theorem dX5_stops_40 : decode cX5_stops 40 = .ok (.isub, 1) := dk_100 (dk_at dksX5_stops_1 16 rfl rfl)
theorem dX5_stops_41 : decode cX5_stops 41 = .ok (.ireturn, 1) := dk_172 (dk_at dksX5_stops_1 17 rfl rfl)
def dkwX5_rules_9 : List UInt8 := [180, 0, 32, 42, 180, 1, 26, 4, 100, 46, 172]
abbrev dktX5_rules_9 : List UInt8 := dkwX5_rules_9 ++ []
def dkwX5_rules_8 : List UInt8 := [180, 0, 29, 42, 180, 1, 26, 42, 180, 0, 173, 79, 42, 89, 180, 1, 26, 4, 96, 181, 1, 26, 42]
abbrev dktX5_rules_8 : List UInt8 := dkwX5_rules_8 ++ dktX5_rules_9
def dkwX5_rules_7 : List UInt8 := [180, 1, 26, 104, 28, 96, 42, 180, 0, 44, 16, 120, 28, 96, 46, 79, 132, 2, 1, 167, 255, 155, 42]
abbrev dktX5_rules_7 : List UInt8 := dkwX5_rules_7 ++ dktX5_rules_8
def dkwX5_rules_6 : List UInt8 := [180, 1, 26, 104, 28, 96, 42, 180, 0, 41, 16, 120, 28, 96, 46, 79, 42, 180, 0, 44, 16, 12, 42]
abbrev dktX5_rules_6 : List UInt8 := dkwX5_rules_6 ++ dktX5_rules_7
def dkwX5_rules_5 : List UInt8 := [180, 1, 26, 104, 28, 96, 42, 180, 0, 38, 16, 120, 28, 96, 46, 79, 42, 180, 0, 41, 16, 12, 42]
abbrev dktX5_rules_5 : List UInt8 := dkwX5_rules_5 ++ dktX5_rules_6
def dkwX5_rules_4 : List UInt8 := [180, 1, 26, 104, 28, 96, 42, 180, 0, 35, 16, 120, 28, 96, 46, 79, 42, 180, 0, 38, 16, 12, 42]
abbrev dktX5_rules_4 : List UInt8 := dkwX5_rules_4 ++ dktX5_rules_5
def dkwX5_rules_3 : List UInt8 := [180, 0, 32, 16, 10, 46, 79, 3, 61, 28, 16, 12, 162, 0, 101, 42, 180, 0, 35, 16, 12, 42]
abbrev dktX5_rules_3 : List UInt8 := dkwX5_rules_3 ++ dktX5_rules_4
def dkwX5_rules_2 : List UInt8 := [167, 255, 238, 42, 182, 0, 252, 60, 27, 156, 0, 5, 27, 172, 42, 180, 0, 32, 42, 180, 1, 26, 42]
abbrev dktX5_rules_2 : List UInt8 := dkwX5_rules_2 ++ dktX5_rules_3
def dkwX5_rules_1 : List UInt8 := [16, 10, 3, 79, 42, 182, 0, 222, 153, 0, 17, 42, 180, 0, 189, 153, 0, 10, 42, 182, 1, 29]
abbrev dktX5_rules_1 : List UInt8 := dkwX5_rules_1 ++ dktX5_rules_2
def dkwX5_rules_0 : List UInt8 := [42, 3, 181, 0, 1, 42, 180, 1, 26, 16, 10, 160, 0, 5, 2, 172, 42, 182, 0, 246, 42, 180, 0, 32]
abbrev dktX5_rules_0 : List UInt8 := dkwX5_rules_0 ++ dktX5_rules_1
theorem dksX5_rules_0 : cX5_rules.data.toList.drop 0 = dktX5_rules_0 := by decide +kernel
theorem dksX5_rules_1 : cX5_rules.data.toList.drop 24 = dktX5_rules_1 := dk_seg dksX5_rules_0 24 rfl rfl
theorem dksX5_rules_2 : cX5_rules.data.toList.drop 46 = dktX5_rules_2 := dk_seg dksX5_rules_1 22 rfl rfl
theorem dksX5_rules_3 : cX5_rules.data.toList.drop 69 = dktX5_rules_3 := dk_seg dksX5_rules_2 23 rfl rfl
theorem dksX5_rules_4 : cX5_rules.data.toList.drop 91 = dktX5_rules_4 := dk_seg dksX5_rules_3 22 rfl rfl
theorem dksX5_rules_5 : cX5_rules.data.toList.drop 114 = dktX5_rules_5 := dk_seg dksX5_rules_4 23 rfl rfl
theorem dksX5_rules_6 : cX5_rules.data.toList.drop 137 = dktX5_rules_6 := dk_seg dksX5_rules_5 23 rfl rfl
theorem dksX5_rules_7 : cX5_rules.data.toList.drop 160 = dktX5_rules_7 := dk_seg dksX5_rules_6 23 rfl rfl
theorem dksX5_rules_8 : cX5_rules.data.toList.drop 183 = dktX5_rules_8 := dk_seg dksX5_rules_7 23 rfl rfl
theorem dksX5_rules_9 : cX5_rules.data.toList.drop 206 = dktX5_rules_9 := dk_seg dksX5_rules_8 23 rfl rfl
theorem dX5_rules_0 : decode cX5_rules 0 = .ok (.aload_n 0, 1) := dk_42 (dk_at dksX5_rules_0 0 rfl rfl)
theorem dX5_rules_1 : decode cX5_rules 1 = .ok (.iconst 0, 1) := dk_3 (dk_at dksX5_rules_0 1 rfl rfl)
theorem dX5_rules_2 : decode cX5_rules 2 = .ok (.putfield 1, 3) := dk_181 0 1 (dk_at dksX5_rules_0 2 rfl rfl)
theorem dX5_rules_5 : decode cX5_rules 5 = .ok (.aload_n 0, 1) := dk_42 (dk_at dksX5_rules_0 5 rfl rfl)
theorem dX5_rules_6 : decode cX5_rules 6 = .ok (.getfield 282, 3) := dk_180 1 26 (dk_at dksX5_rules_0 6 rfl rfl)
theorem dX5_rules_9 : decode cX5_rules 9 = .ok (.bipush 10, 2) := dk_16 10 (dk_at dksX5_rules_0 9 rfl rfl)
theorem dX5_rules_11 : decode cX5_rules 11 = .ok (.if_icmp .ne 5, 3) := dk_160 0 5 (dk_at dksX5_rules_0 11 rfl rfl)
theorem dX5_rules_14 : decode cX5_rules 14 = .ok (.iconst (-1), 1) := dk_2 (dk_at dksX5_rules_0 14 rfl rfl)
theorem dX5_rules_15 : decode cX5_rules 15 = .ok (.ireturn, 1) := dk_172 (dk_at dksX5_rules_0 15 rfl rfl)
theorem dX5_rules_16 : decode cX5_rules 16 = .ok (.aload_n 0, 1) := dk_42 (dk_at dksX5_rules_0 16 rfl rfl)
theorem dX5_rules_17 : decode cX5_rules 17 = .ok (.invokevirtual 246, 3) := dk_182 0 246 (dk_at dksX5_rules_0 17 rfl rfl)
theorem dX5_rules_20 : decode cX5_rules 20 = .ok (.aload_n 0, 1) := dk_42 (dk_at dksX5_rules_0 20 rfl rfl)
theorem dX5_rules_21 : decode cX5_rules 21 = .ok (.getfield 32, 3) := dk_180 0 32 (dk_at dksX5_rules_0 21 rfl rfl)
theorem dX5_rules_24 : decode cX5_rules 24 = .ok (.bipush 10, 2) := dk_16 10 (dk_at dksX5_rules_1 0 rfl rfl)
theorem dX5_rules_26 : decode cX5_rules 26 = .ok (.iconst 0, 1) := dk_3 (dk_at dksX5_rules_1 2 rfl rfl)
theorem dX5_rules_27 : decode cX5_rules 27 = .ok (.iastore, 1) := dk_79 (dk_at dksX5_rules_1 3 rfl rfl)
theorem dX5_rules_28 : decode cX5_rules 28 = .ok (.aload_n 0, 1) := dk_42 (dk_at dksX5_rules_1 4 rfl rfl)
theorem dX5_rules_29 : decode cX5_rules 29 = .ok (.invokevirtual 222, 3) := dk_182 0 222 (dk_at dksX5_rules_1 5 rfl rfl)
theorem dX5_rules_32 : decode cX5_rules 32 = .ok (.ifCond .eq 17, 3) := dk_153 0 17 (dk_at dksX5_rules_1 8 rfl rfl)
theorem dX5_rules_35 : decode cX5_rules 35 = .ok (.aload_n 0, 1) := dk_42 (dk_at dksX5_rules_1 11 rfl rfl)
theorem dX5_rules_36 : decode cX5_rules 36 = .ok (.getfield 189, 3) := dk_180 0 189 (dk_at dksX5_rules_1 12 rfl rfl)
theorem dX5_rules_39 : decode cX5_rules 39 = .ok (.ifCond .eq 10, 3) := dk_153 0 10 (dk_at dksX5_rules_1 15 rfl rfl)
theorem dX5_rules_42 : decode cX5_rules 42 = .ok (.aload_n 0, 1) := dk_42 (dk_at dksX5_rules_1 18 rfl rfl)
theorem dX5_rules_43 : decode cX5_rules 43 = .ok (.invokevirtual 285, 3) := dk_182 1 29 (dk_at dksX5_rules_1 19 rfl rfl)
theorem dX5_rules_46 : decode cX5_rules 46 = .ok (.goto (-18), 3) := dk_167 255 238 (dk_at dksX5_rules_2 0 rfl rfl)
theorem dX5_rules_49 : decode cX5_rules 49 = .ok (.aload_n 0, 1) := dk_42 (dk_at dksX5_rules_2 3 rfl rfl)
theorem dX5_rules_50 : decode cX5_rules 50 = .ok (.invokevirtual 252, 3) := dk_182 0 252 (dk_at dksX5_rules_2 4 rfl rfl)
theorem dX5_rules_53 : decode cX5_rules 53 = .ok (.istore_n 1, 1) := dk_60 (dk_at dksX5_rules_2 7 rfl rfl)
theorem dX5_rules_54 : decode cX5_rules 54 = .ok (.iload_n 1, 1) := dk_27 (dk_at dksX5_rules_2 8 rfl rfl)
theorem dX5_rules_55 : decode cX5_rules 55 = .ok (.ifCond .ge 5, 3) := dk_156 0 5 (dk_at dksX5_rules_2 9 rfl rfl)
theorem dX5_rules_58 : decode cX5_rules 58 = .ok (.iload_n 1, 1) := dk_27 (dk_at dksX5_rules_2 12 rfl rfl)
theorem dX5_rules_59 : decode cX5_rules 59 = .ok (.ireturn, 1) := dk_172 (dk_at dksX5_rules_2 13 rfl rfl)
theorem dX5_rules_60 : decode cX5_rules 60 = .ok (.aload_n 0, 1) := dk_42 (dk_at dksX5_rules_2 14 rfl rfl)
theorem dX5_rules_61 : decode cX5_rules 61 = .ok (.getfield 32, 3) := dk_180 0 32 (dk_at dksX5_rules_2 15 rfl rfl)
theorem dX5_rules_64 : decode cX5_rules 64 = .ok (.aload_n 0, 1) := dk_42 (dk_at dksX5_rules_2 18 rfl rfl)
theorem dX5_rules_65 : decode cX5_rules 65 = .ok (.getfield 282, 3) := dk_180 1 26 (dk_at dksX5_rules_2 19 rfl rfl)
theorem dX5_rules_68 : decode cX5_rules 68 = .ok (.aload_n 0, 1) := dk_42 (dk_at dksX5_rules_2 22 rfl rfl)
theorem dX5_rules_69 : decode cX5_rules 69 = .ok (.getfield 32, 3) := dk_180 0 32 (dk_at dksX5_rules_3 0 rfl rfl)
theorem dX5_rules_72 : decode cX5_rules 72 = .ok (.bipush 10, 2) := dk_16 10 (dk_at dksX5_rules_3 3 rfl rfl)
theorem dX5_rules_74 : decode cX5_rules 74 = .ok (.iaload, 1) := dk_46 (dk_at dksX5_rules_3 5 rfl rfl)
theorem dX5_rules_75 : decode cX5_rules 75 = .ok (.iastore, 1) := dk_79 (dk_at dksX5_rules_3 6 rfl rfl)
theorem dX5_rules_76 : decode cX5_rules 76 = .ok (.iconst 0, 1) := dk_3 (dk_at dksX5_rules_3 7 rfl rfl)
theorem dX5_rules_77 : decode cX5_rules 77 = .ok (.istore_n 2, 1) := dk_61 (dk_at dksX5_rules_3 8 rfl rfl)
theorem dX5_rules_78 : decode cX5_rules 78 = .ok (.iload_n 2, 1) := dk_28 (dk_at dksX5_rules_3 9 rfl rfl)
theorem dX5_rules_79 : decode cX5_rules 79 = .ok (.bipush 12, 2) := dk_16 12 (dk_at dksX5_rules_3 10 rfl rfl)
theorem dX5_rules_81 : decode cX5_rules 81 = .ok (.if_icmp .ge 101, 3) := dk_162 0 101 (dk_at dksX5_rules_3 12 rfl rfl)
theorem dX5_rules_84 : decode cX5_rules 84 = .ok (.aload_n 0, 1) := dk_42 (dk_at dksX5_rules_3 15 rfl rfl)
theorem dX5_rules_85 : decode cX5_rules 85 = .ok (.getfield 35, 3) := dk_180 0 35 (dk_at dksX5_rules_3 16 rfl rfl)
theorem dX5_rules_88 : decode cX5_rules 88 = .ok (.bipush 12, 2) := dk_16 12 (dk_at dksX5_rules_3 19 rfl rfl)
theorem dX5_rules_90 : decode cX5_rules 90 = .ok (.aload_n 0, 1) := dk_42 (dk_at dksX5_rules_3 21 rfl rfl)
theorem dX5_rules_91 : decode cX5_rules 91 = .ok (.getfield 282, 3) := dk_180 1 26 (dk_at dksX5_rules_4 0 rfl rfl)
theorem dX5_rules_94 : decode cX5_rules 94 = .ok (.imul, 1) := dk_104 (dk_at dksX5_rules_4 3 rfl rfl)
theorem dX5_rules_95 : decode cX5_rules 95 = .ok (.iload_n 2, 1) := dk_28 (dk_at dksX5_rules_4 4 rfl rfl)
theorem dX5_rules_96 : decode cX5_rules 96 = .ok (.iadd, 1) := dk_96 (dk_at dksX5_rules_4 5 rfl rfl)
theorem dX5_rules_97 : decode cX5_rules 97 = .ok (.aload_n 0, 1) := dk_42 (dk_at dksX5_rules_4 6 rfl rfl)
theorem dX5_rules_98 : decode cX5_rules 98 = .ok (.getfield 35, 3) := dk_180 0 35 (dk_at dksX5_rules_4 7 rfl rfl)
theorem dX5_rules_101 : decode cX5_rules 101 = .ok (.bipush 120, 2) := dk_16 120 (dk_at dksX5_rules_4 10 rfl rfl)
theorem dX5_rules_103 : decode cX5_rules 103 = .ok (.iload_n 2, 1) := dk_28 (dk_at dksX5_rules_4 12 rfl rfl)
theorem dX5_rules_104 : decode cX5_rules 104 = .ok (.iadd, 1) := dk_96 (dk_at dksX5_rules_4 13 rfl rfl)
theorem dX5_rules_105 : decode cX5_rules 105 = .ok (.iaload, 1) := dk_46 (dk_at dksX5_rules_4 14 rfl rfl)
theorem dX5_rules_106 : decode cX5_rules 106 = .ok (.iastore, 1) := dk_79 (dk_at dksX5_rules_4 15 rfl rfl)
theorem dX5_rules_107 : decode cX5_rules 107 = .ok (.aload_n 0, 1) := dk_42 (dk_at dksX5_rules_4 16 rfl rfl)
theorem dX5_rules_108 : decode cX5_rules 108 = .ok (.getfield 38, 3) := dk_180 0 38 (dk_at dksX5_rules_4 17 rfl rfl)
theorem dX5_rules_111 : decode cX5_rules 111 = .ok (.bipush 12, 2) := dk_16 12 (dk_at dksX5_rules_4 20 rfl rfl)
theorem dX5_rules_113 : decode cX5_rules 113 = .ok (.aload_n 0, 1) := dk_42 (dk_at dksX5_rules_4 22 rfl rfl)
theorem dX5_rules_114 : decode cX5_rules 114 = .ok (.getfield 282, 3) := dk_180 1 26 (dk_at dksX5_rules_5 0 rfl rfl)
theorem dX5_rules_117 : decode cX5_rules 117 = .ok (.imul, 1) := dk_104 (dk_at dksX5_rules_5 3 rfl rfl)
theorem dX5_rules_118 : decode cX5_rules 118 = .ok (.iload_n 2, 1) := dk_28 (dk_at dksX5_rules_5 4 rfl rfl)
theorem dX5_rules_119 : decode cX5_rules 119 = .ok (.iadd, 1) := dk_96 (dk_at dksX5_rules_5 5 rfl rfl)
theorem dX5_rules_120 : decode cX5_rules 120 = .ok (.aload_n 0, 1) := dk_42 (dk_at dksX5_rules_5 6 rfl rfl)
theorem dX5_rules_121 : decode cX5_rules 121 = .ok (.getfield 38, 3) := dk_180 0 38 (dk_at dksX5_rules_5 7 rfl rfl)
theorem dX5_rules_124 : decode cX5_rules 124 = .ok (.bipush 120, 2) := dk_16 120 (dk_at dksX5_rules_5 10 rfl rfl)
theorem dX5_rules_126 : decode cX5_rules 126 = .ok (.iload_n 2, 1) := dk_28 (dk_at dksX5_rules_5 12 rfl rfl)
theorem dX5_rules_127 : decode cX5_rules 127 = .ok (.iadd, 1) := dk_96 (dk_at dksX5_rules_5 13 rfl rfl)
theorem dX5_rules_128 : decode cX5_rules 128 = .ok (.iaload, 1) := dk_46 (dk_at dksX5_rules_5 14 rfl rfl)
theorem dX5_rules_129 : decode cX5_rules 129 = .ok (.iastore, 1) := dk_79 (dk_at dksX5_rules_5 15 rfl rfl)
theorem dX5_rules_130 : decode cX5_rules 130 = .ok (.aload_n 0, 1) := dk_42 (dk_at dksX5_rules_5 16 rfl rfl)
theorem dX5_rules_131 : decode cX5_rules 131 = .ok (.getfield 41, 3) := dk_180 0 41 (dk_at dksX5_rules_5 17 rfl rfl)
theorem dX5_rules_134 : decode cX5_rules 134 = .ok (.bipush 12, 2) := dk_16 12 (dk_at dksX5_rules_5 20 rfl rfl)
theorem dX5_rules_136 : decode cX5_rules 136 = .ok (.aload_n 0, 1) := dk_42 (dk_at dksX5_rules_5 22 rfl rfl)
theorem dX5_rules_137 : decode cX5_rules 137 = .ok (.getfield 282, 3) := dk_180 1 26 (dk_at dksX5_rules_6 0 rfl rfl)
theorem dX5_rules_140 : decode cX5_rules 140 = .ok (.imul, 1) := dk_104 (dk_at dksX5_rules_6 3 rfl rfl)
theorem dX5_rules_141 : decode cX5_rules 141 = .ok (.iload_n 2, 1) := dk_28 (dk_at dksX5_rules_6 4 rfl rfl)
theorem dX5_rules_142 : decode cX5_rules 142 = .ok (.iadd, 1) := dk_96 (dk_at dksX5_rules_6 5 rfl rfl)
theorem dX5_rules_143 : decode cX5_rules 143 = .ok (.aload_n 0, 1) := dk_42 (dk_at dksX5_rules_6 6 rfl rfl)
theorem dX5_rules_144 : decode cX5_rules 144 = .ok (.getfield 41, 3) := dk_180 0 41 (dk_at dksX5_rules_6 7 rfl rfl)
theorem dX5_rules_147 : decode cX5_rules 147 = .ok (.bipush 120, 2) := dk_16 120 (dk_at dksX5_rules_6 10 rfl rfl)
theorem dX5_rules_149 : decode cX5_rules 149 = .ok (.iload_n 2, 1) := dk_28 (dk_at dksX5_rules_6 12 rfl rfl)
theorem dX5_rules_150 : decode cX5_rules 150 = .ok (.iadd, 1) := dk_96 (dk_at dksX5_rules_6 13 rfl rfl)
theorem dX5_rules_151 : decode cX5_rules 151 = .ok (.iaload, 1) := dk_46 (dk_at dksX5_rules_6 14 rfl rfl)
theorem dX5_rules_152 : decode cX5_rules 152 = .ok (.iastore, 1) := dk_79 (dk_at dksX5_rules_6 15 rfl rfl)
theorem dX5_rules_153 : decode cX5_rules 153 = .ok (.aload_n 0, 1) := dk_42 (dk_at dksX5_rules_6 16 rfl rfl)
theorem dX5_rules_154 : decode cX5_rules 154 = .ok (.getfield 44, 3) := dk_180 0 44 (dk_at dksX5_rules_6 17 rfl rfl)
theorem dX5_rules_157 : decode cX5_rules 157 = .ok (.bipush 12, 2) := dk_16 12 (dk_at dksX5_rules_6 20 rfl rfl)
theorem dX5_rules_159 : decode cX5_rules 159 = .ok (.aload_n 0, 1) := dk_42 (dk_at dksX5_rules_6 22 rfl rfl)
theorem dX5_rules_160 : decode cX5_rules 160 = .ok (.getfield 282, 3) := dk_180 1 26 (dk_at dksX5_rules_7 0 rfl rfl)
theorem dX5_rules_163 : decode cX5_rules 163 = .ok (.imul, 1) := dk_104 (dk_at dksX5_rules_7 3 rfl rfl)
theorem dX5_rules_164 : decode cX5_rules 164 = .ok (.iload_n 2, 1) := dk_28 (dk_at dksX5_rules_7 4 rfl rfl)
theorem dX5_rules_165 : decode cX5_rules 165 = .ok (.iadd, 1) := dk_96 (dk_at dksX5_rules_7 5 rfl rfl)
theorem dX5_rules_166 : decode cX5_rules 166 = .ok (.aload_n 0, 1) := dk_42 (dk_at dksX5_rules_7 6 rfl rfl)
theorem dX5_rules_167 : decode cX5_rules 167 = .ok (.getfield 44, 3) := dk_180 0 44 (dk_at dksX5_rules_7 7 rfl rfl)
theorem dX5_rules_170 : decode cX5_rules 170 = .ok (.bipush 120, 2) := dk_16 120 (dk_at dksX5_rules_7 10 rfl rfl)
theorem dX5_rules_172 : decode cX5_rules 172 = .ok (.iload_n 2, 1) := dk_28 (dk_at dksX5_rules_7 12 rfl rfl)
theorem dX5_rules_173 : decode cX5_rules 173 = .ok (.iadd, 1) := dk_96 (dk_at dksX5_rules_7 13 rfl rfl)
theorem dX5_rules_174 : decode cX5_rules 174 = .ok (.iaload, 1) := dk_46 (dk_at dksX5_rules_7 14 rfl rfl)
theorem dX5_rules_175 : decode cX5_rules 175 = .ok (.iastore, 1) := dk_79 (dk_at dksX5_rules_7 15 rfl rfl)
theorem dX5_rules_176 : decode cX5_rules 176 = .ok (.iinc 2 1, 3) := dk_132 2 1 (dk_at dksX5_rules_7 16 rfl rfl)
theorem dX5_rules_179 : decode cX5_rules 179 = .ok (.goto (-101), 3) := dk_167 255 155 (dk_at dksX5_rules_7 19 rfl rfl)
theorem dX5_rules_182 : decode cX5_rules 182 = .ok (.aload_n 0, 1) := dk_42 (dk_at dksX5_rules_7 22 rfl rfl)
theorem dX5_rules_183 : decode cX5_rules 183 = .ok (.getfield 29, 3) := dk_180 0 29 (dk_at dksX5_rules_8 0 rfl rfl)
theorem dX5_rules_186 : decode cX5_rules 186 = .ok (.aload_n 0, 1) := dk_42 (dk_at dksX5_rules_8 3 rfl rfl)
theorem dX5_rules_187 : decode cX5_rules 187 = .ok (.getfield 282, 3) := dk_180 1 26 (dk_at dksX5_rules_8 4 rfl rfl)
theorem dX5_rules_190 : decode cX5_rules 190 = .ok (.aload_n 0, 1) := dk_42 (dk_at dksX5_rules_8 7 rfl rfl)
theorem dX5_rules_191 : decode cX5_rules 191 = .ok (.getfield 173, 3) := dk_180 0 173 (dk_at dksX5_rules_8 8 rfl rfl)
theorem dX5_rules_194 : decode cX5_rules 194 = .ok (.iastore, 1) := dk_79 (dk_at dksX5_rules_8 11 rfl rfl)
theorem dX5_rules_195 : decode cX5_rules 195 = .ok (.aload_n 0, 1) := dk_42 (dk_at dksX5_rules_8 12 rfl rfl)
theorem dX5_rules_196 : decode cX5_rules 196 = .ok (.dup, 1) := dk_89 (dk_at dksX5_rules_8 13 rfl rfl)
theorem dX5_rules_197 : decode cX5_rules 197 = .ok (.getfield 282, 3) := dk_180 1 26 (dk_at dksX5_rules_8 14 rfl rfl)
theorem dX5_rules_200 : decode cX5_rules 200 = .ok (.iconst 1, 1) := dk_4 (dk_at dksX5_rules_8 17 rfl rfl)
theorem dX5_rules_201 : decode cX5_rules 201 = .ok (.iadd, 1) := dk_96 (dk_at dksX5_rules_8 18 rfl rfl)
theorem dX5_rules_202 : decode cX5_rules 202 = .ok (.putfield 282, 3) := dk_181 1 26 (dk_at dksX5_rules_8 19 rfl rfl)
theorem dX5_rules_205 : decode cX5_rules 205 = .ok (.aload_n 0, 1) := dk_42 (dk_at dksX5_rules_8 22 rfl rfl)
theorem dX5_rules_206 : decode cX5_rules 206 = .ok (.getfield 32, 3) := dk_180 0 32 (dk_at dksX5_rules_9 0 rfl rfl)
theorem dX5_rules_209 : decode cX5_rules 209 = .ok (.aload_n 0, 1) := dk_42 (dk_at dksX5_rules_9 3 rfl rfl)
theorem dX5_rules_210 : decode cX5_rules 210 = .ok (.getfield 282, 3) := dk_180 1 26 (dk_at dksX5_rules_9 4 rfl rfl)
theorem dX5_rules_213 : decode cX5_rules 213 = .ok (.iconst 1, 1) := dk_4 (dk_at dksX5_rules_9 7 rfl rfl)
theorem dX5_rules_214 : decode cX5_rules 214 = .ok (.isub, 1) := dk_100 (dk_at dksX5_rules_9 8 rfl rfl)
theorem dX5_rules_215 : decode cX5_rules 215 = .ok (.iaload, 1) := dk_46 (dk_at dksX5_rules_9 9 rfl rfl)
theorem dX5_rules_216 : decode cX5_rules 216 = .ok (.ireturn, 1) := dk_172 (dk_at dksX5_rules_9 10 rfl rfl)
def dkwX5_readClause_19 : List UInt8 := [182, 0, 229, 42, 16, 59, 182, 0, 240, 177]
abbrev dktX5_readClause_19 : List UInt8 := dkwX5_readClause_19 ++ []
def dkwX5_readClause_18 : List UInt8 := [159, 0, 7, 4, 167, 0, 4, 3, 159, 0, 8, 42, 5, 182, 0, 232, 42, 182, 0, 222, 153, 0, 7, 42]
abbrev dktX5_readClause_18 : List UInt8 := dkwX5_readClause_18 ++ dktX5_readClause_19
def dkwX5_readClause_17 : List UInt8 := [28, 46, 184, 1, 22, 2, 159, 0, 7, 4, 167, 0, 4, 3, 42, 180, 0, 41, 28, 46, 184, 1, 22, 2]
abbrev dktX5_readClause_17 : List UInt8 := dkwX5_readClause_17 ++ dktX5_readClause_18
def dkwX5_readClause_16 : List UInt8 := [182, 0, 229, 42, 180, 0, 41, 28, 42, 182, 1, 19, 79, 42, 182, 0, 222, 153, 0, 47, 42, 180, 0, 38]
abbrev dktX5_readClause_16 : List UInt8 := dkwX5_readClause_16 ++ dktX5_readClause_17
def dkwX5_readClause_15 : List UInt8 := [19, 1, 24, 182, 1, 2, 154, 0, 8, 42, 4, 182, 0, 232, 42, 182, 0, 222, 153, 0, 7, 42]
abbrev dktX5_readClause_15 : List UInt8 := dkwX5_readClause_15 ++ dktX5_readClause_16
def dkwX5_readClause_14 : List UInt8 := [182, 0, 222, 153, 0, 7, 42, 182, 0, 229, 27, 5, 160, 0, 108, 42, 182, 0, 222, 153, 0, 18, 42]
abbrev dktX5_readClause_14 : List UInt8 := dkwX5_readClause_14 ++ dktX5_readClause_15
def dkwX5_readClause_13 : List UInt8 := [27, 6, 160, 0, 21, 42, 180, 0, 38, 28, 46, 184, 1, 22, 2, 159, 0, 8, 42, 5, 182, 0, 232, 42]
abbrev dktX5_readClause_13 : List UInt8 := dkwX5_readClause_13 ++ dktX5_readClause_14
def dkwX5_readClause_12 : List UInt8 := [182, 0, 236, 79, 167, 0, 164, 42, 180, 0, 38, 28, 42, 182, 1, 19, 79, 42, 182, 0, 222, 153, 0, 26]
abbrev dktX5_readClause_12 : List UInt8 := dkwX5_readClause_12 ++ dktX5_readClause_13
def dkwX5_readClause_11 : List UInt8 := [19, 1, 17, 182, 1, 2, 153, 0, 184, 42, 182, 0, 229, 42, 180, 0, 44, 28, 42, 4, 16, 99]
abbrev dktX5_readClause_11 : List UInt8 := dkwX5_readClause_11 ++ dktX5_readClause_12
def dkwX5_readClause_10 : List UInt8 := [182, 0, 229, 42, 180, 0, 41, 28, 42, 5, 16, 6, 182, 0, 236, 79, 42, 182, 0, 222, 153, 0, 194, 42]
abbrev dktX5_readClause_10 : List UInt8 := dkwX5_readClause_10 ++ dktX5_readClause_11
def dkwX5_readClause_9 : List UInt8 := [182, 0, 236, 79, 42, 182, 0, 222, 153, 0, 30, 42, 19, 1, 16, 182, 1, 2, 153, 0, 20, 42]
abbrev dktX5_readClause_9 : List UInt8 := dkwX5_readClause_9 ++ dktX5_readClause_10
def dkwX5_readClause_8 : List UInt8 := [167, 0, 5, 16, 7, 79, 42, 182, 0, 229, 167, 0, 16, 42, 180, 0, 38, 28, 42, 4, 16, 6]
abbrev dktX5_readClause_8 : List UInt8 := dkwX5_readClause_8 ++ dktX5_readClause_9
def dkwX5_readClause_7 : List UInt8 := [182, 1, 2, 153, 0, 32, 42, 180, 0, 38, 28, 42, 19, 1, 12, 182, 1, 2, 153, 0, 7, 3]
abbrev dktX5_readClause_7 : List UInt8 := dkwX5_readClause_7 ++ dktX5_readClause_8
def dkwX5_readClause_6 : List UInt8 := [79, 42, 180, 0, 44, 28, 4, 79, 42, 19, 1, 12, 182, 1, 2, 154, 0, 13, 42, 19, 1, 14]
abbrev dktX5_readClause_6 : List UInt8 := dkwX5_readClause_6 ++ dktX5_readClause_7
def dkwX5_readClause_5 : List UInt8 := [96, 79, 42, 180, 0, 35, 28, 27, 79, 42, 182, 0, 229, 27, 5, 162, 0, 150, 42, 180, 0, 41, 28, 6]
abbrev dktX5_readClause_5 : List UInt8 := dkwX5_readClause_5 ++ dktX5_readClause_6
def dkwX5_readClause_4 : List UInt8 := [154, 0, 4, 177, 16, 120, 42, 180, 0, 32, 16, 10, 46, 96, 61, 42, 180, 0, 32, 16, 10, 92, 46, 4]
abbrev dktX5_readClause_4 : List UInt8 := dkwX5_readClause_4 ++ dktX5_readClause_5
def dkwX5_readClause_3 : List UInt8 := [167, 0, 20, 42, 180, 0, 32, 16, 10, 46, 16, 12, 160, 0, 8, 42, 6, 182, 0, 232, 42, 182, 0, 222]
abbrev dktX5_readClause_3 : List UInt8 := dkwX5_readClause_3 ++ dktX5_readClause_4
def dkwX5_readClause_2 : List UInt8 := [182, 1, 2, 153, 0, 7, 6, 167, 0, 4, 2, 60, 27, 2, 160, 0, 11, 42, 4, 182, 0, 232]
abbrev dktX5_readClause_2 : List UInt8 := dkwX5_readClause_2 ++ dktX5_readClause_3
def dkwX5_readClause_1 : List UInt8 := [4, 167, 0, 32, 42, 19, 1, 8, 182, 1, 2, 153, 0, 7, 5, 167, 0, 18, 42, 19, 1, 10]
abbrev dktX5_readClause_1 : List UInt8 := dkwX5_readClause_1 ++ dktX5_readClause_2
def dkwX5_readClause_0 : List UInt8 := [42, 19, 1, 0, 182, 1, 2, 153, 0, 7, 3, 167, 0, 46, 42, 19, 1, 6, 182, 1, 2, 153, 0, 7]
abbrev dktX5_readClause_0 : List UInt8 := dkwX5_readClause_0 ++ dktX5_readClause_1
theorem dksX5_readClause_0 : cX5_readClause.data.toList.drop 0 = dktX5_readClause_0 := by decide +kernel
theorem dksX5_readClause_1 : cX5_readClause.data.toList.drop 24 = dktX5_readClause_1 := dk_seg dksX5_readClause_0 24 rfl rfl
theorem dksX5_readClause_2 : cX5_readClause.data.toList.drop 46 = dktX5_readClause_2 := dk_seg dksX5_readClause_1 22 rfl rfl
theorem dksX5_readClause_3 : cX5_readClause.data.toList.drop 68 = dktX5_readClause_3 := dk_seg dksX5_readClause_2 22 rfl rfl
theorem dksX5_readClause_4 : cX5_readClause.data.toList.drop 92 = dktX5_readClause_4 := dk_seg dksX5_readClause_3 24 rfl rfl
theorem dksX5_readClause_5 : cX5_readClause.data.toList.drop 116 = dktX5_readClause_5 := dk_seg dksX5_readClause_4 24 rfl rfl
theorem dksX5_readClause_6 : cX5_readClause.data.toList.drop 140 = dktX5_readClause_6 := dk_seg dksX5_readClause_5 24 rfl rfl
theorem dksX5_readClause_7 : cX5_readClause.data.toList.drop 162 = dktX5_readClause_7 := dk_seg dksX5_readClause_6 22 rfl rfl
theorem dksX5_readClause_8 : cX5_readClause.data.toList.drop 184 = dktX5_readClause_8 := dk_seg dksX5_readClause_7 22 rfl rfl
theorem dksX5_readClause_9 : cX5_readClause.data.toList.drop 206 = dktX5_readClause_9 := dk_seg dksX5_readClause_8 22 rfl rfl
theorem dksX5_readClause_10 : cX5_readClause.data.toList.drop 228 = dktX5_readClause_10 := dk_seg dksX5_readClause_9 22 rfl rfl
theorem dksX5_readClause_11 : cX5_readClause.data.toList.drop 252 = dktX5_readClause_11 := dk_seg dksX5_readClause_10 24 rfl rfl
theorem dksX5_readClause_12 : cX5_readClause.data.toList.drop 274 = dktX5_readClause_12 := dk_seg dksX5_readClause_11 22 rfl rfl
theorem dksX5_readClause_13 : cX5_readClause.data.toList.drop 298 = dktX5_readClause_13 := dk_seg dksX5_readClause_12 24 rfl rfl
theorem dksX5_readClause_14 : cX5_readClause.data.toList.drop 322 = dktX5_readClause_14 := dk_seg dksX5_readClause_13 24 rfl rfl
theorem dksX5_readClause_15 : cX5_readClause.data.toList.drop 345 = dktX5_readClause_15 := dk_seg dksX5_readClause_14 23 rfl rfl
theorem dksX5_readClause_16 : cX5_readClause.data.toList.drop 367 = dktX5_readClause_16 := dk_seg dksX5_readClause_15 22 rfl rfl
theorem dksX5_readClause_17 : cX5_readClause.data.toList.drop 391 = dktX5_readClause_17 := dk_seg dksX5_readClause_16 24 rfl rfl
theorem dksX5_readClause_18 : cX5_readClause.data.toList.drop 415 = dktX5_readClause_18 := dk_seg dksX5_readClause_17 24 rfl rfl
theorem dksX5_readClause_19 : cX5_readClause.data.toList.drop 439 = dktX5_readClause_19 := dk_seg dksX5_readClause_18 24 rfl rfl
theorem dX5_readClause_0 : decode cX5_readClause 0 = .ok (.aload_n 0, 1) := dk_42 (dk_at dksX5_readClause_0 0 rfl rfl)
theorem dX5_readClause_1 : decode cX5_readClause 1 = .ok (.ldc_w 256, 3) := dk_19 1 0 (dk_at dksX5_readClause_0 1 rfl rfl)
theorem dX5_readClause_4 : decode cX5_readClause 4 = .ok (.invokevirtual 258, 3) := dk_182 1 2 (dk_at dksX5_readClause_0 4 rfl rfl)
theorem dX5_readClause_7 : decode cX5_readClause 7 = .ok (.ifCond .eq 7, 3) := dk_153 0 7 (dk_at dksX5_readClause_0 7 rfl rfl)
theorem dX5_readClause_10 : decode cX5_readClause 10 = .ok (.iconst 0, 1) := dk_3 (dk_at dksX5_readClause_0 10 rfl rfl)
theorem dX5_readClause_11 : decode cX5_readClause 11 = .ok (.goto 46, 3) := dk_167 0 46 (dk_at dksX5_readClause_0 11 rfl rfl)
theorem dX5_readClause_14 : decode cX5_readClause 14 = .ok (.aload_n 0, 1) := dk_42 (dk_at dksX5_readClause_0 14 rfl rfl)
theorem dX5_readClause_15 : decode cX5_readClause 15 = .ok (.ldc_w 262, 3) := dk_19 1 6 (dk_at dksX5_readClause_0 15 rfl rfl)
theorem dX5_readClause_18 : decode cX5_readClause 18 = .ok (.invokevirtual 258, 3) := dk_182 1 2 (dk_at dksX5_readClause_0 18 rfl rfl)
theorem dX5_readClause_21 : decode cX5_readClause 21 = .ok (.ifCond .eq 7, 3) := dk_153 0 7 (dk_at dksX5_readClause_0 21 rfl rfl)
theorem dX5_readClause_24 : decode cX5_readClause 24 = .ok (.iconst 1, 1) := dk_4 (dk_at dksX5_readClause_1 0 rfl rfl)
theorem dX5_readClause_25 : decode cX5_readClause 25 = .ok (.goto 32, 3) := dk_167 0 32 (dk_at dksX5_readClause_1 1 rfl rfl)
theorem dX5_readClause_28 : decode cX5_readClause 28 = .ok (.aload_n 0, 1) := dk_42 (dk_at dksX5_readClause_1 4 rfl rfl)
theorem dX5_readClause_29 : decode cX5_readClause 29 = .ok (.ldc_w 264, 3) := dk_19 1 8 (dk_at dksX5_readClause_1 5 rfl rfl)
theorem dX5_readClause_32 : decode cX5_readClause 32 = .ok (.invokevirtual 258, 3) := dk_182 1 2 (dk_at dksX5_readClause_1 8 rfl rfl)
theorem dX5_readClause_35 : decode cX5_readClause 35 = .ok (.ifCond .eq 7, 3) := dk_153 0 7 (dk_at dksX5_readClause_1 11 rfl rfl)
theorem dX5_readClause_38 : decode cX5_readClause 38 = .ok (.iconst 2, 1) := dk_5 (dk_at dksX5_readClause_1 14 rfl rfl)
theorem dX5_readClause_39 : decode cX5_readClause 39 = .ok (.goto 18, 3) := dk_167 0 18 (dk_at dksX5_readClause_1 15 rfl rfl)
theorem dX5_readClause_42 : decode cX5_readClause 42 = .ok (.aload_n 0, 1) := dk_42 (dk_at dksX5_readClause_1 18 rfl rfl)
theorem dX5_readClause_43 : decode cX5_readClause 43 = .ok (.ldc_w 266, 3) := dk_19 1 10 (dk_at dksX5_readClause_1 19 rfl rfl)
theorem dX5_readClause_46 : decode cX5_readClause 46 = .ok (.invokevirtual 258, 3) := dk_182 1 2 (dk_at dksX5_readClause_2 0 rfl rfl)
theorem dX5_readClause_49 : decode cX5_readClause 49 = .ok (.ifCond .eq 7, 3) := dk_153 0 7 (dk_at dksX5_readClause_2 3 rfl rfl)
theorem dX5_readClause_52 : decode cX5_readClause 52 = .ok (.iconst 3, 1) := dk_6 (dk_at dksX5_readClause_2 6 rfl rfl)
theorem dX5_readClause_53 : decode cX5_readClause 53 = .ok (.goto 4, 3) := dk_167 0 4 (dk_at dksX5_readClause_2 7 rfl rfl)
theorem dX5_readClause_56 : decode cX5_readClause 56 = .ok (.iconst (-1), 1) := dk_2 (dk_at dksX5_readClause_2 10 rfl rfl)
theorem dX5_readClause_57 : decode cX5_readClause 57 = .ok (.istore_n 1, 1) := dk_60 (dk_at dksX5_readClause_2 11 rfl rfl)
theorem dX5_readClause_58 : decode cX5_readClause 58 = .ok (.iload_n 1, 1) := dk_27 (dk_at dksX5_readClause_2 12 rfl rfl)
theorem dX5_readClause_59 : decode cX5_readClause 59 = .ok (.iconst (-1), 1) := dk_2 (dk_at dksX5_readClause_2 13 rfl rfl)
theorem dX5_readClause_60 : decode cX5_readClause 60 = .ok (.if_icmp .ne 11, 3) := dk_160 0 11 (dk_at dksX5_readClause_2 14 rfl rfl)
theorem dX5_readClause_63 : decode cX5_readClause 63 = .ok (.aload_n 0, 1) := dk_42 (dk_at dksX5_readClause_2 17 rfl rfl)
theorem dX5_readClause_64 : decode cX5_readClause 64 = .ok (.iconst 1, 1) := dk_4 (dk_at dksX5_readClause_2 18 rfl rfl)
theorem dX5_readClause_65 : decode cX5_readClause 65 = .ok (.invokevirtual 232, 3) := dk_182 0 232 (dk_at dksX5_readClause_2 19 rfl rfl)
theorem dX5_readClause_68 : decode cX5_readClause 68 = .ok (.goto 20, 3) := dk_167 0 20 (dk_at dksX5_readClause_3 0 rfl rfl)
theorem dX5_readClause_71 : decode cX5_readClause 71 = .ok (.aload_n 0, 1) := dk_42 (dk_at dksX5_readClause_3 3 rfl rfl)
theorem dX5_readClause_72 : decode cX5_readClause 72 = .ok (.getfield 32, 3) := dk_180 0 32 (dk_at dksX5_readClause_3 4 rfl rfl)
theorem dX5_readClause_75 : decode cX5_readClause 75 = .ok (.bipush 10, 2) := dk_16 10 (dk_at dksX5_readClause_3 7 rfl rfl)
theorem dX5_readClause_77 : decode cX5_readClause 77 = .ok (.iaload, 1) := dk_46 (dk_at dksX5_readClause_3 9 rfl rfl)
theorem dX5_readClause_78 : decode cX5_readClause 78 = .ok (.bipush 12, 2) := dk_16 12 (dk_at dksX5_readClause_3 10 rfl rfl)
theorem dX5_readClause_80 : decode cX5_readClause 80 = .ok (.if_icmp .ne 8, 3) := dk_160 0 8 (dk_at dksX5_readClause_3 12 rfl rfl)
theorem dX5_readClause_83 : decode cX5_readClause 83 = .ok (.aload_n 0, 1) := dk_42 (dk_at dksX5_readClause_3 15 rfl rfl)
theorem dX5_readClause_84 : decode cX5_readClause 84 = .ok (.iconst 3, 1) := dk_6 (dk_at dksX5_readClause_3 16 rfl rfl)
theorem dX5_readClause_85 : decode cX5_readClause 85 = .ok (.invokevirtual 232, 3) := dk_182 0 232 (dk_at dksX5_readClause_3 17 rfl rfl)
theorem dX5_readClause_88 : decode cX5_readClause 88 = .ok (.aload_n 0, 1) := dk_42 (dk_at dksX5_readClause_3 20 rfl rfl)
theorem dX5_readClause_89 : decode cX5_readClause 89 = .ok (.invokevirtual 222, 3) := dk_182 0 222 (dk_at dksX5_readClause_3 21 rfl rfl)
theorem dX5_readClause_92 : decode cX5_readClause 92 = .ok (.ifCond .ne 4, 3) := dk_154 0 4 (dk_at dksX5_readClause_4 0 rfl rfl)
theorem dX5_readClause_95 : decode cX5_readClause 95 = .ok (.return_, 1) := dk_177 (dk_at dksX5_readClause_4 3 rfl rfl)
theorem dX5_readClause_96 : decode cX5_readClause 96 = .ok (.bipush 120, 2) := dk_16 120 (dk_at dksX5_readClause_4 4 rfl rfl)
theorem dX5_readClause_98 : decode cX5_readClause 98 = .ok (.aload_n 0, 1) := dk_42 (dk_at dksX5_readClause_4 6 rfl rfl)
theorem dX5_readClause_99 : decode cX5_readClause 99 = .ok (.getfield 32, 3) := dk_180 0 32 (dk_at dksX5_readClause_4 7 rfl rfl)
theorem dX5_readClause_102 : decode cX5_readClause 102 = .ok (.bipush 10, 2) := dk_16 10 (dk_at dksX5_readClause_4 10 rfl rfl)
theorem dX5_readClause_104 : decode cX5_readClause 104 = .ok (.iaload, 1) := dk_46 (dk_at dksX5_readClause_4 12 rfl rfl)
theorem dX5_readClause_105 : decode cX5_readClause 105 = .ok (.iadd, 1) := dk_96 (dk_at dksX5_readClause_4 13 rfl rfl)
theorem dX5_readClause_106 : decode cX5_readClause 106 = .ok (.istore_n 2, 1) := dk_61 (dk_at dksX5_readClause_4 14 rfl rfl)
theorem dX5_readClause_107 : decode cX5_readClause 107 = .ok (.aload_n 0, 1) := dk_42 (dk_at dksX5_readClause_4 15 rfl rfl)
theorem dX5_readClause_108 : decode cX5_readClause 108 = .ok (.getfield 32, 3) := dk_180 0 32 (dk_at dksX5_readClause_4 16 rfl rfl)
theorem dX5_readClause_111 : decode cX5_readClause 111 = .ok (.bipush 10, 2) := dk_16 10 (dk_at dksX5_readClause_4 19 rfl rfl)
theorem dX5_readClause_113 : decode cX5_readClause 113 = .ok (.dup2, 1) := dk_92 (dk_at dksX5_readClause_4 21 rfl rfl)
theorem dX5_readClause_114 : decode cX5_readClause 114 = .ok (.iaload, 1) := dk_46 (dk_at dksX5_readClause_4 22 rfl rfl)
theorem dX5_readClause_115 : decode cX5_readClause 115 = .ok (.iconst 1, 1) := dk_4 (dk_at dksX5_readClause_4 23 rfl rfl)
theorem dX5_readClause_116 : decode cX5_readClause 116 = .ok (.iadd, 1) := dk_96 (dk_at dksX5_readClause_5 0 rfl rfl)
theorem dX5_readClause_117 : decode cX5_readClause 117 = .ok (.iastore, 1) := dk_79 (dk_at dksX5_readClause_5 1 rfl rfl)
theorem dX5_readClause_118 : decode cX5_readClause 118 = .ok (.aload_n 0, 1) := dk_42 (dk_at dksX5_readClause_5 2 rfl rfl)
theorem dX5_readClause_119 : decode cX5_readClause 119 = .ok (.getfield 35, 3) := dk_180 0 35 (dk_at dksX5_readClause_5 3 rfl rfl)
theorem dX5_readClause_122 : decode cX5_readClause 122 = .ok (.iload_n 2, 1) := dk_28 (dk_at dksX5_readClause_5 6 rfl rfl)
theorem dX5_readClause_123 : decode cX5_readClause 123 = .ok (.iload_n 1, 1) := dk_27 (dk_at dksX5_readClause_5 7 rfl rfl)
theorem dX5_readClause_124 : decode cX5_readClause 124 = .ok (.iastore, 1) := dk_79 (dk_at dksX5_readClause_5 8 rfl rfl)
theorem dX5_readClause_125 : decode cX5_readClause 125 = .ok (.aload_n 0, 1) := dk_42 (dk_at dksX5_readClause_5 9 rfl rfl)
theorem dX5_readClause_126 : decode cX5_readClause 126 = .ok (.invokevirtual 229, 3) := dk_182 0 229 (dk_at dksX5_readClause_5 10 rfl rfl)
theorem dX5_readClause_129 : decode cX5_readClause 129 = .ok (.iload_n 1, 1) := dk_27 (dk_at dksX5_readClause_5 13 rfl rfl)
theorem dX5_readClause_130 : decode cX5_readClause 130 = .ok (.iconst 2, 1) := dk_5 (dk_at dksX5_readClause_5 14 rfl rfl)
theorem dX5_readClause_131 : decode cX5_readClause 131 = .ok (.if_icmp .ge 150, 3) := dk_162 0 150 (dk_at dksX5_readClause_5 15 rfl rfl)
theorem dX5_readClause_134 : decode cX5_readClause 134 = .ok (.aload_n 0, 1) := dk_42 (dk_at dksX5_readClause_5 18 rfl rfl)
theorem dX5_readClause_135 : decode cX5_readClause 135 = .ok (.getfield 41, 3) := dk_180 0 41 (dk_at dksX5_readClause_5 19 rfl rfl)
theorem dX5_readClause_138 : decode cX5_readClause 138 = .ok (.iload_n 2, 1) := dk_28 (dk_at dksX5_readClause_5 22 rfl rfl)
theorem dX5_readClause_139 : decode cX5_readClause 139 = .ok (.iconst 3, 1) := dk_6 (dk_at dksX5_readClause_5 23 rfl rfl)
theorem dX5_readClause_140 : decode cX5_readClause 140 = .ok (.iastore, 1) := dk_79 (dk_at dksX5_readClause_6 0 rfl rfl)
theorem dX5_readClause_141 : decode cX5_readClause 141 = .ok (.aload_n 0, 1) := dk_42 (dk_at dksX5_readClause_6 1 rfl rfl)
theorem dX5_readClause_142 : decode cX5_readClause 142 = .ok (.getfield 44, 3) := dk_180 0 44 (dk_at dksX5_readClause_6 2 rfl rfl)
theorem dX5_readClause_145 : decode cX5_readClause 145 = .ok (.iload_n 2, 1) := dk_28 (dk_at dksX5_readClause_6 5 rfl rfl)
theorem dX5_readClause_146 : decode cX5_readClause 146 = .ok (.iconst 1, 1) := dk_4 (dk_at dksX5_readClause_6 6 rfl rfl)
theorem dX5_readClause_147 : decode cX5_readClause 147 = .ok (.iastore, 1) := dk_79 (dk_at dksX5_readClause_6 7 rfl rfl)
theorem dX5_readClause_148 : decode cX5_readClause 148 = .ok (.aload_n 0, 1) := dk_42 (dk_at dksX5_readClause_6 8 rfl rfl)
theorem dX5_readClause_149 : decode cX5_readClause 149 = .ok (.ldc_w 268, 3) := dk_19 1 12 (dk_at dksX5_readClause_6 9 rfl rfl)
theorem dX5_readClause_152 : decode cX5_readClause 152 = .ok (.invokevirtual 258, 3) := dk_182 1 2 (dk_at dksX5_readClause_6 12 rfl rfl)
theorem dX5_readClause_155 : decode cX5_readClause 155 = .ok (.ifCond .ne 13, 3) := dk_154 0 13 (dk_at dksX5_readClause_6 15 rfl rfl)
theorem dX5_readClause_158 : decode cX5_readClause 158 = .ok (.aload_n 0, 1) := dk_42 (dk_at dksX5_readClause_6 18 rfl rfl)
theorem dX5_readClause_159 : decode cX5_readClause 159 = .ok (.ldc_w 270, 3) := dk_19 1 14 (dk_at dksX5_readClause_6 19 rfl rfl)
theorem dX5_readClause_162 : decode cX5_readClause 162 = .ok (.invokevirtual 258, 3) := dk_182 1 2 (dk_at dksX5_readClause_7 0 rfl rfl)
theorem dX5_readClause_165 : decode cX5_readClause 165 = .ok (.ifCond .eq 32, 3) := dk_153 0 32 (dk_at dksX5_readClause_7 3 rfl rfl)
theorem dX5_readClause_168 : decode cX5_readClause 168 = .ok (.aload_n 0, 1) := dk_42 (dk_at dksX5_readClause_7 6 rfl rfl)
theorem dX5_readClause_169 : decode cX5_readClause 169 = .ok (.getfield 38, 3) := dk_180 0 38 (dk_at dksX5_readClause_7 7 rfl rfl)
theorem dX5_readClause_172 : decode cX5_readClause 172 = .ok (.iload_n 2, 1) := dk_28 (dk_at dksX5_readClause_7 10 rfl rfl)
theorem dX5_readClause_173 : decode cX5_readClause 173 = .ok (.aload_n 0, 1) := dk_42 (dk_at dksX5_readClause_7 11 rfl rfl)
theorem dX5_readClause_174 : decode cX5_readClause 174 = .ok (.ldc_w 268, 3) := dk_19 1 12 (dk_at dksX5_readClause_7 12 rfl rfl)
theorem dX5_readClause_177 : decode cX5_readClause 177 = .ok (.invokevirtual 258, 3) := dk_182 1 2 (dk_at dksX5_readClause_7 15 rfl rfl)
theorem dX5_readClause_180 : decode cX5_readClause 180 = .ok (.ifCond .eq 7, 3) := dk_153 0 7 (dk_at dksX5_readClause_7 18 rfl rfl)
theorem dX5_readClause_183 : decode cX5_readClause 183 = .ok (.iconst 0, 1) := dk_3 (dk_at dksX5_readClause_7 21 rfl rfl)
theorem dX5_readClause_184 : decode cX5_readClause 184 = .ok (.goto 5, 3) := dk_167 0 5 (dk_at dksX5_readClause_8 0 rfl rfl)
theorem dX5_readClause_187 : decode cX5_readClause 187 = .ok (.bipush 7, 2) := dk_16 7 (dk_at dksX5_readClause_8 3 rfl rfl)
theorem dX5_readClause_189 : decode cX5_readClause 189 = .ok (.iastore, 1) := dk_79 (dk_at dksX5_readClause_8 5 rfl rfl)
theorem dX5_readClause_190 : decode cX5_readClause 190 = .ok (.aload_n 0, 1) := dk_42 (dk_at dksX5_readClause_8 6 rfl rfl)
theorem dX5_readClause_191 : decode cX5_readClause 191 = .ok (.invokevirtual 229, 3) := dk_182 0 229 (dk_at dksX5_readClause_8 7 rfl rfl)
theorem dX5_readClause_194 : decode cX5_readClause 194 = .ok (.goto 16, 3) := dk_167 0 16 (dk_at dksX5_readClause_8 10 rfl rfl)
theorem dX5_readClause_197 : decode cX5_readClause 197 = .ok (.aload_n 0, 1) := dk_42 (dk_at dksX5_readClause_8 13 rfl rfl)
theorem dX5_readClause_198 : decode cX5_readClause 198 = .ok (.getfield 38, 3) := dk_180 0 38 (dk_at dksX5_readClause_8 14 rfl rfl)
theorem dX5_readClause_201 : decode cX5_readClause 201 = .ok (.iload_n 2, 1) := dk_28 (dk_at dksX5_readClause_8 17 rfl rfl)
theorem dX5_readClause_202 : decode cX5_readClause 202 = .ok (.aload_n 0, 1) := dk_42 (dk_at dksX5_readClause_8 18 rfl rfl)
theorem dX5_readClause_203 : decode cX5_readClause 203 = .ok (.iconst 1, 1) := dk_4 (dk_at dksX5_readClause_8 19 rfl rfl)
theorem dX5_readClause_204 : decode cX5_readClause 204 = .ok (.bipush 6, 2) := dk_16 6 (dk_at dksX5_readClause_8 20 rfl rfl)
theorem dX5_readClause_206 : decode cX5_readClause 206 = .ok (.invokevirtual 236, 3) := dk_182 0 236 (dk_at dksX5_readClause_9 0 rfl rfl)
theorem dX5_readClause_209 : decode cX5_readClause 209 = .ok (.iastore, 1) := dk_79 (dk_at dksX5_readClause_9 3 rfl rfl)
theorem dX5_readClause_210 : decode cX5_readClause 210 = .ok (.aload_n 0, 1) := dk_42 (dk_at dksX5_readClause_9 4 rfl rfl)
theorem dX5_readClause_211 : decode cX5_readClause 211 = .ok (.invokevirtual 222, 3) := dk_182 0 222 (dk_at dksX5_readClause_9 5 rfl rfl)
theorem dX5_readClause_214 : decode cX5_readClause 214 = .ok (.ifCond .eq 30, 3) := dk_153 0 30 (dk_at dksX5_readClause_9 8 rfl rfl)
theorem dX5_readClause_217 : decode cX5_readClause 217 = .ok (.aload_n 0, 1) := dk_42 (dk_at dksX5_readClause_9 11 rfl rfl)
theorem dX5_readClause_218 : decode cX5_readClause 218 = .ok (.ldc_w 272, 3) := dk_19 1 16 (dk_at dksX5_readClause_9 12 rfl rfl)
theorem dX5_readClause_221 : decode cX5_readClause 221 = .ok (.invokevirtual 258, 3) := dk_182 1 2 (dk_at dksX5_readClause_9 15 rfl rfl)
theorem dX5_readClause_224 : decode cX5_readClause 224 = .ok (.ifCond .eq 20, 3) := dk_153 0 20 (dk_at dksX5_readClause_9 18 rfl rfl)
theorem dX5_readClause_227 : decode cX5_readClause 227 = .ok (.aload_n 0, 1) := dk_42 (dk_at dksX5_readClause_9 21 rfl rfl)
theorem dX5_readClause_228 : decode cX5_readClause 228 = .ok (.invokevirtual 229, 3) := dk_182 0 229 (dk_at dksX5_readClause_10 0 rfl rfl)
theorem dX5_readClause_231 : decode cX5_readClause 231 = .ok (.aload_n 0, 1) := dk_42 (dk_at dksX5_readClause_10 3 rfl rfl)
theorem dX5_readClause_232 : decode cX5_readClause 232 = .ok (.getfield 41, 3) := dk_180 0 41 (dk_at dksX5_readClause_10 4 rfl rfl)
theorem dX5_readClause_235 : decode cX5_readClause 235 = .ok (.iload_n 2, 1) := dk_28 (dk_at dksX5_readClause_10 7 rfl rfl)
theorem dX5_readClause_236 : decode cX5_readClause 236 = .ok (.aload_n 0, 1) := dk_42 (dk_at dksX5_readClause_10 8 rfl rfl)
theorem dX5_readClause_237 : decode cX5_readClause 237 = .ok (.iconst 2, 1) := dk_5 (dk_at dksX5_readClause_10 9 rfl rfl)
theorem dX5_readClause_238 : decode cX5_readClause 238 = .ok (.bipush 6, 2) := dk_16 6 (dk_at dksX5_readClause_10 10 rfl rfl)
theorem dX5_readClause_240 : decode cX5_readClause 240 = .ok (.invokevirtual 236, 3) := dk_182 0 236 (dk_at dksX5_readClause_10 12 rfl rfl)
theorem dX5_readClause_243 : decode cX5_readClause 243 = .ok (.iastore, 1) := dk_79 (dk_at dksX5_readClause_10 15 rfl rfl)
theorem dX5_readClause_244 : decode cX5_readClause 244 = .ok (.aload_n 0, 1) := dk_42 (dk_at dksX5_readClause_10 16 rfl rfl)
theorem dX5_readClause_245 : decode cX5_readClause 245 = .ok (.invokevirtual 222, 3) := dk_182 0 222 (dk_at dksX5_readClause_10 17 rfl rfl)
theorem dX5_readClause_248 : decode cX5_readClause 248 = .ok (.ifCond .eq 194, 3) := dk_153 0 194 (dk_at dksX5_readClause_10 20 rfl rfl)
theorem dX5_readClause_251 : decode cX5_readClause 251 = .ok (.aload_n 0, 1) := dk_42 (dk_at dksX5_readClause_10 23 rfl rfl)
theorem dX5_readClause_252 : decode cX5_readClause 252 = .ok (.ldc_w 273, 3) := dk_19 1 17 (dk_at dksX5_readClause_11 0 rfl rfl)
theorem dX5_readClause_255 : decode cX5_readClause 255 = .ok (.invokevirtual 258, 3) := dk_182 1 2 (dk_at dksX5_readClause_11 3 rfl rfl)
theorem dX5_readClause_258 : decode cX5_readClause 258 = .ok (.ifCond .eq 184, 3) := dk_153 0 184 (dk_at dksX5_readClause_11 6 rfl rfl)
theorem dX5_readClause_261 : decode cX5_readClause 261 = .ok (.aload_n 0, 1) := dk_42 (dk_at dksX5_readClause_11 9 rfl rfl)
theorem dX5_readClause_262 : decode cX5_readClause 262 = .ok (.invokevirtual 229, 3) := dk_182 0 229 (dk_at dksX5_readClause_11 10 rfl rfl)
theorem dX5_readClause_265 : decode cX5_readClause 265 = .ok (.aload_n 0, 1) := dk_42 (dk_at dksX5_readClause_11 13 rfl rfl)
theorem dX5_readClause_266 : decode cX5_readClause 266 = .ok (.getfield 44, 3) := dk_180 0 44 (dk_at dksX5_readClause_11 14 rfl rfl)
theorem dX5_readClause_269 : decode cX5_readClause 269 = .ok (.iload_n 2, 1) := dk_28 (dk_at dksX5_readClause_11 17 rfl rfl)
theorem dX5_readClause_270 : decode cX5_readClause 270 = .ok (.aload_n 0, 1) := dk_42 (dk_at dksX5_readClause_11 18 rfl rfl)
theorem dX5_readClause_271 : decode cX5_readClause 271 = .ok (.iconst 1, 1) := dk_4 (dk_at dksX5_readClause_11 19 rfl rfl)
theorem dX5_readClause_272 : decode cX5_readClause 272 = .ok (.bipush 99, 2) := dk_16 99 (dk_at dksX5_readClause_11 20 rfl rfl)
theorem dX5_readClause_274 : decode cX5_readClause 274 = .ok (.invokevirtual 236, 3) := dk_182 0 236 (dk_at dksX5_readClause_12 0 rfl rfl)
theorem dX5_readClause_277 : decode cX5_readClause 277 = .ok (.iastore, 1) := dk_79 (dk_at dksX5_readClause_12 3 rfl rfl)
theorem dX5_readClause_278 : decode cX5_readClause 278 = .ok (.goto 164, 3) := dk_167 0 164 (dk_at dksX5_readClause_12 4 rfl rfl)
theorem dX5_readClause_281 : decode cX5_readClause 281 = .ok (.aload_n 0, 1) := dk_42 (dk_at dksX5_readClause_12 7 rfl rfl)
theorem dX5_readClause_282 : decode cX5_readClause 282 = .ok (.getfield 38, 3) := dk_180 0 38 (dk_at dksX5_readClause_12 8 rfl rfl)
theorem dX5_readClause_285 : decode cX5_readClause 285 = .ok (.iload_n 2, 1) := dk_28 (dk_at dksX5_readClause_12 11 rfl rfl)
theorem dX5_readClause_286 : decode cX5_readClause 286 = .ok (.aload_n 0, 1) := dk_42 (dk_at dksX5_readClause_12 12 rfl rfl)
theorem dX5_readClause_287 : decode cX5_readClause 287 = .ok (.invokevirtual 275, 3) := dk_182 1 19 (dk_at dksX5_readClause_12 13 rfl rfl)
theorem dX5_readClause_290 : decode cX5_readClause 290 = .ok (.iastore, 1) := dk_79 (dk_at dksX5_readClause_12 16 rfl rfl)
theorem dX5_readClause_291 : decode cX5_readClause 291 = .ok (.aload_n 0, 1) := dk_42 (dk_at dksX5_readClause_12 17 rfl rfl)
theorem dX5_readClause_292 : decode cX5_readClause 292 = .ok (.invokevirtual 222, 3) := dk_182 0 222 (dk_at dksX5_readClause_12 18 rfl rfl)
theorem dX5_readClause_295 : decode cX5_readClause 295 = .ok (.ifCond .eq 26, 3) := dk_153 0 26 (dk_at dksX5_readClause_12 21 rfl rfl)
theorem dX5_readClause_298 : decode cX5_readClause 298 = .ok (.iload_n 1, 1) := dk_27 (dk_at dksX5_readClause_13 0 rfl rfl)
theorem dX5_readClause_299 : decode cX5_readClause 299 = .ok (.iconst 3, 1) := dk_6 (dk_at dksX5_readClause_13 1 rfl rfl)
theorem dX5_readClause_300 : decode cX5_readClause 300 = .ok (.if_icmp .ne 21, 3) := dk_160 0 21 (dk_at dksX5_readClause_13 2 rfl rfl)
theorem dX5_readClause_303 : decode cX5_readClause 303 = .ok (.aload_n 0, 1) := dk_42 (dk_at dksX5_readClause_13 5 rfl rfl)
theorem dX5_readClause_304 : decode cX5_readClause 304 = .ok (.getfield 38, 3) := dk_180 0 38 (dk_at dksX5_readClause_13 6 rfl rfl)
theorem dX5_readClause_307 : decode cX5_readClause 307 = .ok (.iload_n 2, 1) := dk_28 (dk_at dksX5_readClause_13 9 rfl rfl)
theorem dX5_readClause_308 : decode cX5_readClause 308 = .ok (.iaload, 1) := dk_46 (dk_at dksX5_readClause_13 10 rfl rfl)
theorem dX5_readClause_309 : decode cX5_readClause 309 = .ok (.invokestatic 278, 3) := dk_184 1 22 (dk_at dksX5_readClause_13 11 rfl rfl)
theorem dX5_readClause_312 : decode cX5_readClause 312 = .ok (.iconst (-1), 1) := dk_2 (dk_at dksX5_readClause_13 14 rfl rfl)
theorem dX5_readClause_313 : decode cX5_readClause 313 = .ok (.if_icmp .eq 8, 3) := dk_159 0 8 (dk_at dksX5_readClause_13 15 rfl rfl)
theorem dX5_readClause_316 : decode cX5_readClause 316 = .ok (.aload_n 0, 1) := dk_42 (dk_at dksX5_readClause_13 18 rfl rfl)
theorem dX5_readClause_317 : decode cX5_readClause 317 = .ok (.iconst 2, 1) := dk_5 (dk_at dksX5_readClause_13 19 rfl rfl)
theorem dX5_readClause_318 : decode cX5_readClause 318 = .ok (.invokevirtual 232, 3) := dk_182 0 232 (dk_at dksX5_readClause_13 20 rfl rfl)
theorem dX5_readClause_321 : decode cX5_readClause 321 = .ok (.aload_n 0, 1) := dk_42 (dk_at dksX5_readClause_13 23 rfl rfl)
theorem dX5_readClause_322 : decode cX5_readClause 322 = .ok (.invokevirtual 222, 3) := dk_182 0 222 (dk_at dksX5_readClause_14 0 rfl rfl)
theorem dX5_readClause_325 : decode cX5_readClause 325 = .ok (.ifCond .eq 7, 3) := dk_153 0 7 (dk_at dksX5_readClause_14 3 rfl rfl)
theorem dX5_readClause_328 : decode cX5_readClause 328 = .ok (.aload_n 0, 1) := dk_42 (dk_at dksX5_readClause_14 6 rfl rfl)
theorem dX5_readClause_329 : decode cX5_readClause 329 = .ok (.invokevirtual 229, 3) := dk_182 0 229 (dk_at dksX5_readClause_14 7 rfl rfl)
theorem dX5_readClause_332 : decode cX5_readClause 332 = .ok (.iload_n 1, 1) := dk_27 (dk_at dksX5_readClause_14 10 rfl rfl)
theorem dX5_readClause_333 : decode cX5_readClause 333 = .ok (.iconst 2, 1) := dk_5 (dk_at dksX5_readClause_14 11 rfl rfl)
theorem dX5_readClause_334 : decode cX5_readClause 334 = .ok (.if_icmp .ne 108, 3) := dk_160 0 108 (dk_at dksX5_readClause_14 12 rfl rfl)
theorem dX5_readClause_337 : decode cX5_readClause 337 = .ok (.aload_n 0, 1) := dk_42 (dk_at dksX5_readClause_14 15 rfl rfl)
theorem dX5_readClause_338 : decode cX5_readClause 338 = .ok (.invokevirtual 222, 3) := dk_182 0 222 (dk_at dksX5_readClause_14 16 rfl rfl)
theorem dX5_readClause_341 : decode cX5_readClause 341 = .ok (.ifCond .eq 18, 3) := dk_153 0 18 (dk_at dksX5_readClause_14 19 rfl rfl)
theorem dX5_readClause_344 : decode cX5_readClause 344 = .ok (.aload_n 0, 1) := dk_42 (dk_at dksX5_readClause_14 22 rfl rfl)
theorem dX5_readClause_345 : decode cX5_readClause 345 = .ok (.ldc_w 280, 3) := dk_19 1 24 (dk_at dksX5_readClause_15 0 rfl rfl)
theorem dX5_readClause_348 : decode cX5_readClause 348 = .ok (.invokevirtual 258, 3) := dk_182 1 2 (dk_at dksX5_readClause_15 3 rfl rfl)
theorem dX5_readClause_351 : decode cX5_readClause 351 = .ok (.ifCond .ne 8, 3) := dk_154 0 8 (dk_at dksX5_readClause_15 6 rfl rfl)
theorem dX5_readClause_354 : decode cX5_readClause 354 = .ok (.aload_n 0, 1) := dk_42 (dk_at dksX5_readClause_15 9 rfl rfl)
theorem dX5_readClause_355 : decode cX5_readClause 355 = .ok (.iconst 1, 1) := dk_4 (dk_at dksX5_readClause_15 10 rfl rfl)
theorem dX5_readClause_356 : decode cX5_readClause 356 = .ok (.invokevirtual 232, 3) := dk_182 0 232 (dk_at dksX5_readClause_15 11 rfl rfl)
theorem dX5_readClause_359 : decode cX5_readClause 359 = .ok (.aload_n 0, 1) := dk_42 (dk_at dksX5_readClause_15 14 rfl rfl)
theorem dX5_readClause_360 : decode cX5_readClause 360 = .ok (.invokevirtual 222, 3) := dk_182 0 222 (dk_at dksX5_readClause_15 15 rfl rfl)
theorem dX5_readClause_363 : decode cX5_readClause 363 = .ok (.ifCond .eq 7, 3) := dk_153 0 7 (dk_at dksX5_readClause_15 18 rfl rfl)
theorem dX5_readClause_366 : decode cX5_readClause 366 = .ok (.aload_n 0, 1) := dk_42 (dk_at dksX5_readClause_15 21 rfl rfl)
theorem dX5_readClause_367 : decode cX5_readClause 367 = .ok (.invokevirtual 229, 3) := dk_182 0 229 (dk_at dksX5_readClause_16 0 rfl rfl)
theorem dX5_readClause_370 : decode cX5_readClause 370 = .ok (.aload_n 0, 1) := dk_42 (dk_at dksX5_readClause_16 3 rfl rfl)
theorem dX5_readClause_371 : decode cX5_readClause 371 = .ok (.getfield 41, 3) := dk_180 0 41 (dk_at dksX5_readClause_16 4 rfl rfl)
theorem dX5_readClause_374 : decode cX5_readClause 374 = .ok (.iload_n 2, 1) := dk_28 (dk_at dksX5_readClause_16 7 rfl rfl)
theorem dX5_readClause_375 : decode cX5_readClause 375 = .ok (.aload_n 0, 1) := dk_42 (dk_at dksX5_readClause_16 8 rfl rfl)
theorem dX5_readClause_376 : decode cX5_readClause 376 = .ok (.invokevirtual 275, 3) := dk_182 1 19 (dk_at dksX5_readClause_16 9 rfl rfl)
theorem dX5_readClause_379 : decode cX5_readClause 379 = .ok (.iastore, 1) := dk_79 (dk_at dksX5_readClause_16 12 rfl rfl)
theorem dX5_readClause_380 : decode cX5_readClause 380 = .ok (.aload_n 0, 1) := dk_42 (dk_at dksX5_readClause_16 13 rfl rfl)
theorem dX5_readClause_381 : decode cX5_readClause 381 = .ok (.invokevirtual 222, 3) := dk_182 0 222 (dk_at dksX5_readClause_16 14 rfl rfl)
theorem dX5_readClause_384 : decode cX5_readClause 384 = .ok (.ifCond .eq 47, 3) := dk_153 0 47 (dk_at dksX5_readClause_16 17 rfl rfl)
theorem dX5_readClause_387 : decode cX5_readClause 387 = .ok (.aload_n 0, 1) := dk_42 (dk_at dksX5_readClause_16 20 rfl rfl)
theorem dX5_readClause_388 : decode cX5_readClause 388 = .ok (.getfield 38, 3) := dk_180 0 38 (dk_at dksX5_readClause_16 21 rfl rfl)
theorem dX5_readClause_391 : decode cX5_readClause 391 = .ok (.iload_n 2, 1) := dk_28 (dk_at dksX5_readClause_17 0 rfl rfl)
theorem dX5_readClause_392 : decode cX5_readClause 392 = .ok (.iaload, 1) := dk_46 (dk_at dksX5_readClause_17 1 rfl rfl)
theorem dX5_readClause_393 : decode cX5_readClause 393 = .ok (.invokestatic 278, 3) := dk_184 1 22 (dk_at dksX5_readClause_17 2 rfl rfl)
theorem dX5_readClause_396 : decode cX5_readClause 396 = .ok (.iconst (-1), 1) := dk_2 (dk_at dksX5_readClause_17 5 rfl rfl)
theorem dX5_readClause_397 : decode cX5_readClause 397 = .ok (.if_icmp .eq 7, 3) := dk_159 0 7 (dk_at dksX5_readClause_17 6 rfl rfl)
theorem dX5_readClause_400 : decode cX5_readClause 400 = .ok (.iconst 1, 1) := dk_4 (dk_at dksX5_readClause_17 9 rfl rfl)
theorem dX5_readClause_401 : decode cX5_readClause 401 = .ok (.goto 4, 3) := dk_167 0 4 (dk_at dksX5_readClause_17 10 rfl rfl)
theorem dX5_readClause_404 : decode cX5_readClause 404 = .ok (.iconst 0, 1) := dk_3 (dk_at dksX5_readClause_17 13 rfl rfl)
theorem dX5_readClause_405 : decode cX5_readClause 405 = .ok (.aload_n 0, 1) := dk_42 (dk_at dksX5_readClause_17 14 rfl rfl)
theorem dX5_readClause_406 : decode cX5_readClause 406 = .ok (.getfield 41, 3) := dk_180 0 41 (dk_at dksX5_readClause_17 15 rfl rfl)
theorem dX5_readClause_409 : decode cX5_readClause 409 = .ok (.iload_n 2, 1) := dk_28 (dk_at dksX5_readClause_17 18 rfl rfl)
theorem dX5_readClause_410 : decode cX5_readClause 410 = .ok (.iaload, 1) := dk_46 (dk_at dksX5_readClause_17 19 rfl rfl)
theorem dX5_readClause_411 : decode cX5_readClause 411 = .ok (.invokestatic 278, 3) := dk_184 1 22 (dk_at dksX5_readClause_17 20 rfl rfl)
theorem dX5_readClause_414 : decode cX5_readClause 414 = .ok (.iconst (-1), 1) := dk_2 (dk_at dksX5_readClause_17 23 rfl rfl)
theorem dX5_readClause_415 : decode cX5_readClause 415 = .ok (.if_icmp .eq 7, 3) := dk_159 0 7 (dk_at dksX5_readClause_18 0 rfl rfl)
theorem dX5_readClause_418 : decode cX5_readClause 418 = .ok (.iconst 1, 1) := dk_4 (dk_at dksX5_readClause_18 3 rfl rfl)
theorem dX5_readClause_419 : decode cX5_readClause 419 = .ok (.goto 4, 3) := dk_167 0 4 (dk_at dksX5_readClause_18 4 rfl rfl)
theorem dX5_readClause_422 : decode cX5_readClause 422 = .ok (.iconst 0, 1) := dk_3 (dk_at dksX5_readClause_18 7 rfl rfl)
theorem dX5_readClause_423 : decode cX5_readClause 423 = .ok (.if_icmp .eq 8, 3) := dk_159 0 8 (dk_at dksX5_readClause_18 8 rfl rfl)
theorem dX5_readClause_426 : decode cX5_readClause 426 = .ok (.aload_n 0, 1) := dk_42 (dk_at dksX5_readClause_18 11 rfl rfl)
theorem dX5_readClause_427 : decode cX5_readClause 427 = .ok (.iconst 2, 1) := dk_5 (dk_at dksX5_readClause_18 12 rfl rfl)
theorem dX5_readClause_428 : decode cX5_readClause 428 = .ok (.invokevirtual 232, 3) := dk_182 0 232 (dk_at dksX5_readClause_18 13 rfl rfl)
theorem dX5_readClause_431 : decode cX5_readClause 431 = .ok (.aload_n 0, 1) := dk_42 (dk_at dksX5_readClause_18 16 rfl rfl)
theorem dX5_readClause_432 : decode cX5_readClause 432 = .ok (.invokevirtual 222, 3) := dk_182 0 222 (dk_at dksX5_readClause_18 17 rfl rfl)
theorem dX5_readClause_435 : decode cX5_readClause 435 = .ok (.ifCond .eq 7, 3) := dk_153 0 7 (dk_at dksX5_readClause_18 20 rfl rfl)
theorem dX5_readClause_438 : decode cX5_readClause 438 = .ok (.aload_n 0, 1) := dk_42 (dk_at dksX5_readClause_18 23 rfl rfl)
theorem dX5_readClause_439 : decode cX5_readClause 439 = .ok (.invokevirtual 229, 3) := dk_182 0 229 (dk_at dksX5_readClause_19 0 rfl rfl)
theorem dX5_readClause_442 : decode cX5_readClause 442 = .ok (.aload_n 0, 1) := dk_42 (dk_at dksX5_readClause_19 3 rfl rfl)
theorem dX5_readClause_443 : decode cX5_readClause 443 = .ok (.bipush 59, 2) := dk_16 59 (dk_at dksX5_readClause_19 4 rfl rfl)
theorem dX5_readClause_445 : decode cX5_readClause 445 = .ok (.invokevirtual 240, 3) := dk_182 0 240 (dk_at dksX5_readClause_19 6 rfl rfl)
theorem dX5_readClause_448 : decode cX5_readClause 448 = .ok (.return_, 1) := dk_177 (dk_at dksX5_readClause_19 9 rfl rfl)
def dkwX5_isWord_2 : List UInt8 := [28, 182, 0, 212, 159, 0, 5, 3, 172, 132, 2, 1, 167, 255, 224, 4, 172]
abbrev dktX5_isWord_2 : List UInt8 := dkwX5_isWord_2 ++ []
def dkwX5_isWord_1 : List UInt8 := [3, 172, 3, 61, 28, 43, 182, 0, 206, 162, 0, 30, 42, 180, 0, 47, 42, 180, 0, 186, 28, 96, 51, 43]
abbrev dktX5_isWord_1 : List UInt8 := dkwX5_isWord_1 ++ dktX5_isWord_2
def dkwX5_isWord_0 : List UInt8 := [42, 180, 0, 189, 6, 160, 0, 19, 42, 180, 0, 183, 42, 180, 0, 186, 100, 43, 182, 0, 206, 159, 0, 5]
abbrev dktX5_isWord_0 : List UInt8 := dkwX5_isWord_0 ++ dktX5_isWord_1
theorem dksX5_isWord_0 : cX5_isWord.data.toList.drop 0 = dktX5_isWord_0 := by decide +kernel
theorem dksX5_isWord_1 : cX5_isWord.data.toList.drop 24 = dktX5_isWord_1 := dk_seg dksX5_isWord_0 24 rfl rfl
theorem dksX5_isWord_2 : cX5_isWord.data.toList.drop 48 = dktX5_isWord_2 := dk_seg dksX5_isWord_1 24 rfl rfl
theorem dX5_isWord_0 : decode cX5_isWord 0 = .ok (.aload_n 0, 1) := dk_42 (dk_at dksX5_isWord_0 0 rfl rfl)
theorem dX5_isWord_1 : decode cX5_isWord 1 = .ok (.getfield 189, 3) := dk_180 0 189 (dk_at dksX5_isWord_0 1 rfl rfl)
theorem dX5_isWord_4 : decode cX5_isWord 4 = .ok (.iconst 3, 1) := dk_6 (dk_at dksX5_isWord_0 4 rfl rfl)
theorem dX5_isWord_5 : decode cX5_isWord 5 = .ok (.if_icmp .ne 19, 3) := dk_160 0 19 (dk_at dksX5_isWord_0 5 rfl rfl)
theorem dX5_isWord_8 : decode cX5_isWord 8 = .ok (.aload_n 0, 1) := dk_42 (dk_at dksX5_isWord_0 8 rfl rfl)
theorem dX5_isWord_9 : decode cX5_isWord 9 = .ok (.getfield 183, 3) := dk_180 0 183 (dk_at dksX5_isWord_0 9 rfl rfl)
theorem dX5_isWord_12 : decode cX5_isWord 12 = .ok (.aload_n 0, 1) := dk_42 (dk_at dksX5_isWord_0 12 rfl rfl)
theorem dX5_isWord_13 : decode cX5_isWord 13 = .ok (.getfield 186, 3) := dk_180 0 186 (dk_at dksX5_isWord_0 13 rfl rfl)
theorem dX5_isWord_16 : decode cX5_isWord 16 = .ok (.isub, 1) := dk_100 (dk_at dksX5_isWord_0 16 rfl rfl)
theorem dX5_isWord_17 : decode cX5_isWord 17 = .ok (.aload_n 1, 1) := dk_43 (dk_at dksX5_isWord_0 17 rfl rfl)
theorem dX5_isWord_18 : decode cX5_isWord 18 = .ok (.invokevirtual 206, 3) := dk_182 0 206 (dk_at dksX5_isWord_0 18 rfl rfl)
theorem dX5_isWord_21 : decode cX5_isWord 21 = .ok (.if_icmp .eq 5, 3) := dk_159 0 5 (dk_at dksX5_isWord_0 21 rfl rfl)
theorem dX5_isWord_24 : decode cX5_isWord 24 = .ok (.iconst 0, 1) := dk_3 (dk_at dksX5_isWord_1 0 rfl rfl)
theorem dX5_isWord_25 : decode cX5_isWord 25 = .ok (.ireturn, 1) := dk_172 (dk_at dksX5_isWord_1 1 rfl rfl)
theorem dX5_isWord_26 : decode cX5_isWord 26 = .ok (.iconst 0, 1) := dk_3 (dk_at dksX5_isWord_1 2 rfl rfl)
theorem dX5_isWord_27 : decode cX5_isWord 27 = .ok (.istore_n 2, 1) := dk_61 (dk_at dksX5_isWord_1 3 rfl rfl)
theorem dX5_isWord_28 : decode cX5_isWord 28 = .ok (.iload_n 2, 1) := dk_28 (dk_at dksX5_isWord_1 4 rfl rfl)
theorem dX5_isWord_29 : decode cX5_isWord 29 = .ok (.aload_n 1, 1) := dk_43 (dk_at dksX5_isWord_1 5 rfl rfl)
theorem dX5_isWord_30 : decode cX5_isWord 30 = .ok (.invokevirtual 206, 3) := dk_182 0 206 (dk_at dksX5_isWord_1 6 rfl rfl)
theorem dX5_isWord_33 : decode cX5_isWord 33 = .ok (.if_icmp .ge 30, 3) := dk_162 0 30 (dk_at dksX5_isWord_1 9 rfl rfl)
theorem dX5_isWord_36 : decode cX5_isWord 36 = .ok (.aload_n 0, 1) := dk_42 (dk_at dksX5_isWord_1 12 rfl rfl)
theorem dX5_isWord_37 : decode cX5_isWord 37 = .ok (.getfield 47, 3) := dk_180 0 47 (dk_at dksX5_isWord_1 13 rfl rfl)
theorem dX5_isWord_40 : decode cX5_isWord 40 = .ok (.aload_n 0, 1) := dk_42 (dk_at dksX5_isWord_1 16 rfl rfl)
theorem dX5_isWord_41 : decode cX5_isWord 41 = .ok (.getfield 186, 3) := dk_180 0 186 (dk_at dksX5_isWord_1 17 rfl rfl)
theorem dX5_isWord_44 : decode cX5_isWord 44 = .ok (.iload_n 2, 1) := dk_28 (dk_at dksX5_isWord_1 20 rfl rfl)
theorem dX5_isWord_45 : decode cX5_isWord 45 = .ok (.iadd, 1) := dk_96 (dk_at dksX5_isWord_1 21 rfl rfl)
theorem dX5_isWord_46 : decode cX5_isWord 46 = .ok (.baload, 1) := dk_51 (dk_at dksX5_isWord_1 22 rfl rfl)
theorem dX5_isWord_47 : decode cX5_isWord 47 = .ok (.aload_n 1, 1) := dk_43 (dk_at dksX5_isWord_1 23 rfl rfl)
theorem dX5_isWord_48 : decode cX5_isWord 48 = .ok (.iload_n 2, 1) := dk_28 (dk_at dksX5_isWord_2 0 rfl rfl)
theorem dX5_isWord_49 : decode cX5_isWord 49 = .ok (.invokevirtual 212, 3) := dk_182 0 212 (dk_at dksX5_isWord_2 1 rfl rfl)
theorem dX5_isWord_52 : decode cX5_isWord 52 = .ok (.if_icmp .eq 5, 3) := dk_159 0 5 (dk_at dksX5_isWord_2 4 rfl rfl)
theorem dX5_isWord_55 : decode cX5_isWord 55 = .ok (.iconst 0, 1) := dk_3 (dk_at dksX5_isWord_2 7 rfl rfl)
theorem dX5_isWord_56 : decode cX5_isWord 56 = .ok (.ireturn, 1) := dk_172 (dk_at dksX5_isWord_2 8 rfl rfl)
theorem dX5_isWord_57 : decode cX5_isWord 57 = .ok (.iinc 2 1, 3) := dk_132 2 1 (dk_at dksX5_isWord_2 9 rfl rfl)
theorem dX5_isWord_60 : decode cX5_isWord 60 = .ok (.goto (-32), 3) := dk_167 255 224 (dk_at dksX5_isWord_2 12 rfl rfl)
theorem dX5_isWord_63 : decode cX5_isWord 63 = .ok (.iconst 1, 1) := dk_4 (dk_at dksX5_isWord_2 15 rfl rfl)
theorem dX5_isWord_64 : decode cX5_isWord 64 = .ok (.ireturn, 1) := dk_172 (dk_at dksX5_isWord_2 16 rfl rfl)
def dkwX5_letterHere_2 : List UInt8 := [16, 97, 172]
abbrev dktX5_letterHere_2 : List UInt8 := dkwX5_letterHere_2 ++ []
def dkwX5_letterHere_1 : List UInt8 := [4, 159, 0, 8, 42, 4, 182, 0, 232, 42, 182, 0, 222, 153, 0, 10, 42, 180, 0, 192, 167, 0, 5]
abbrev dktX5_letterHere_1 : List UInt8 := dkwX5_letterHere_1 ++ dktX5_letterHere_2
def dkwX5_letterHere_0 : List UInt8 := [42, 182, 0, 222, 153, 0, 29, 42, 180, 0, 189, 6, 160, 0, 16, 42, 180, 0, 183, 42, 180, 0, 186, 100]
abbrev dktX5_letterHere_0 : List UInt8 := dkwX5_letterHere_0 ++ dktX5_letterHere_1
theorem dksX5_letterHere_0 : cX5_letterHere.data.toList.drop 0 = dktX5_letterHere_0 := by decide +kernel
theorem dksX5_letterHere_1 : cX5_letterHere.data.toList.drop 24 = dktX5_letterHere_1 := dk_seg dksX5_letterHere_0 24 rfl rfl
theorem dksX5_letterHere_2 : cX5_letterHere.data.toList.drop 47 = dktX5_letterHere_2 := dk_seg dksX5_letterHere_1 23 rfl rfl
theorem dX5_letterHere_0 : decode cX5_letterHere 0 = .ok (.aload_n 0, 1) := dk_42 (dk_at dksX5_letterHere_0 0 rfl rfl)
theorem dX5_letterHere_1 : decode cX5_letterHere 1 = .ok (.invokevirtual 222, 3) := dk_182 0 222 (dk_at dksX5_letterHere_0 1 rfl rfl)
theorem dX5_letterHere_4 : decode cX5_letterHere 4 = .ok (.ifCond .eq 29, 3) := dk_153 0 29 (dk_at dksX5_letterHere_0 4 rfl rfl)
theorem dX5_letterHere_7 : decode cX5_letterHere 7 = .ok (.aload_n 0, 1) := dk_42 (dk_at dksX5_letterHere_0 7 rfl rfl)
theorem dX5_letterHere_8 : decode cX5_letterHere 8 = .ok (.getfield 189, 3) := dk_180 0 189 (dk_at dksX5_letterHere_0 8 rfl rfl)
theorem dX5_letterHere_11 : decode cX5_letterHere 11 = .ok (.iconst 3, 1) := dk_6 (dk_at dksX5_letterHere_0 11 rfl rfl)
theorem dX5_letterHere_12 : decode cX5_letterHere 12 = .ok (.if_icmp .ne 16, 3) := dk_160 0 16 (dk_at dksX5_letterHere_0 12 rfl rfl)
theorem dX5_letterHere_15 : decode cX5_letterHere 15 = .ok (.aload_n 0, 1) := dk_42 (dk_at dksX5_letterHere_0 15 rfl rfl)
theorem dX5_letterHere_16 : decode cX5_letterHere 16 = .ok (.getfield 183, 3) := dk_180 0 183 (dk_at dksX5_letterHere_0 16 rfl rfl)
theorem dX5_letterHere_19 : decode cX5_letterHere 19 = .ok (.aload_n 0, 1) := dk_42 (dk_at dksX5_letterHere_0 19 rfl rfl)
theorem dX5_letterHere_20 : decode cX5_letterHere 20 = .ok (.getfield 186, 3) := dk_180 0 186 (dk_at dksX5_letterHere_0 20 rfl rfl)
theorem dX5_letterHere_23 : decode cX5_letterHere 23 = .ok (.isub, 1) := dk_100 (dk_at dksX5_letterHere_0 23 rfl rfl)
theorem dX5_letterHere_24 : decode cX5_letterHere 24 = .ok (.iconst 1, 1) := dk_4 (dk_at dksX5_letterHere_1 0 rfl rfl)
theorem dX5_letterHere_25 : decode cX5_letterHere 25 = .ok (.if_icmp .eq 8, 3) := dk_159 0 8 (dk_at dksX5_letterHere_1 1 rfl rfl)
theorem dX5_letterHere_28 : decode cX5_letterHere 28 = .ok (.aload_n 0, 1) := dk_42 (dk_at dksX5_letterHere_1 4 rfl rfl)
theorem dX5_letterHere_29 : decode cX5_letterHere 29 = .ok (.iconst 1, 1) := dk_4 (dk_at dksX5_letterHere_1 5 rfl rfl)
theorem dX5_letterHere_30 : decode cX5_letterHere 30 = .ok (.invokevirtual 232, 3) := dk_182 0 232 (dk_at dksX5_letterHere_1 6 rfl rfl)
theorem dX5_letterHere_33 : decode cX5_letterHere 33 = .ok (.aload_n 0, 1) := dk_42 (dk_at dksX5_letterHere_1 9 rfl rfl)
theorem dX5_letterHere_34 : decode cX5_letterHere 34 = .ok (.invokevirtual 222, 3) := dk_182 0 222 (dk_at dksX5_letterHere_1 10 rfl rfl)
theorem dX5_letterHere_37 : decode cX5_letterHere 37 = .ok (.ifCond .eq 10, 3) := dk_153 0 10 (dk_at dksX5_letterHere_1 13 rfl rfl)
theorem dX5_letterHere_40 : decode cX5_letterHere 40 = .ok (.aload_n 0, 1) := dk_42 (dk_at dksX5_letterHere_1 16 rfl rfl)
theorem dX5_letterHere_41 : decode cX5_letterHere 41 = .ok (.getfield 192, 3) := dk_180 0 192 (dk_at dksX5_letterHere_1 17 rfl rfl)
theorem dX5_letterHere_44 : decode cX5_letterHere 44 = .ok (.goto 5, 3) := dk_167 0 5 (dk_at dksX5_letterHere_1 20 rfl rfl)
theorem dX5_letterHere_47 : decode cX5_letterHere 47 = .ok (.bipush 97, 2) := dk_16 97 (dk_at dksX5_letterHere_2 0 rfl rfl)
theorem dX5_letterHere_49 : decode cX5_letterHere 49 = .ok (.ireturn, 1) := dk_172 (dk_at dksX5_letterHere_2 2 rfl rfl)
def dkwX5_vowel_2 : List UInt8 := [167, 0, 4, 2, 172]
abbrev dktX5_vowel_2 : List UInt8 := dkwX5_vowel_2 ++ []
def dkwX5_vowel_1 : List UInt8 := [160, 0, 7, 5, 167, 0, 24, 26, 16, 111, 160, 0, 7, 6, 167, 0, 14, 26, 16, 117, 160, 0, 7, 7]
abbrev dktX5_vowel_1 : List UInt8 := dkwX5_vowel_1 ++ dktX5_vowel_2
def dkwX5_vowel_0 : List UInt8 := [26, 16, 97, 160, 0, 7, 3, 167, 0, 44, 26, 16, 101, 160, 0, 7, 4, 167, 0, 34, 26, 16, 105]
abbrev dktX5_vowel_0 : List UInt8 := dkwX5_vowel_0 ++ dktX5_vowel_1
theorem dksX5_vowel_0 : cX5_vowel.data.toList.drop 0 = dktX5_vowel_0 := by decide +kernel
theorem dksX5_vowel_1 : cX5_vowel.data.toList.drop 23 = dktX5_vowel_1 := dk_seg dksX5_vowel_0 23 rfl rfl
theorem dksX5_vowel_2 : cX5_vowel.data.toList.drop 47 = dktX5_vowel_2 := dk_seg dksX5_vowel_1 24 rfl rfl
theorem dX5_vowel_0 : decode cX5_vowel 0 = .ok (.iload_n 0, 1) := dk_26 (dk_at dksX5_vowel_0 0 rfl rfl)
theorem dX5_vowel_1 : decode cX5_vowel 1 = .ok (.bipush 97, 2) := dk_16 97 (dk_at dksX5_vowel_0 1 rfl rfl)
theorem dX5_vowel_3 : decode cX5_vowel 3 = .ok (.if_icmp .ne 7, 3) := dk_160 0 7 (dk_at dksX5_vowel_0 3 rfl rfl)
theorem dX5_vowel_6 : decode cX5_vowel 6 = .ok (.iconst 0, 1) := dk_3 (dk_at dksX5_vowel_0 6 rfl rfl)
theorem dX5_vowel_7 : decode cX5_vowel 7 = .ok (.goto 44, 3) := dk_167 0 44 (dk_at dksX5_vowel_0 7 rfl rfl)
theorem dX5_vowel_10 : decode cX5_vowel 10 = .ok (.iload_n 0, 1) := dk_26 (dk_at dksX5_vowel_0 10 rfl rfl)
theorem dX5_vowel_11 : decode cX5_vowel 11 = .ok (.bipush 101, 2) := dk_16 101 (dk_at dksX5_vowel_0 11 rfl rfl)
theorem dX5_vowel_13 : decode cX5_vowel 13 = .ok (.if_icmp .ne 7, 3) := dk_160 0 7 (dk_at dksX5_vowel_0 13 rfl rfl)
theorem dX5_vowel_16 : decode cX5_vowel 16 = .ok (.iconst 1, 1) := dk_4 (dk_at dksX5_vowel_0 16 rfl rfl)
theorem dX5_vowel_17 : decode cX5_vowel 17 = .ok (.goto 34, 3) := dk_167 0 34 (dk_at dksX5_vowel_0 17 rfl rfl)
theorem dX5_vowel_20 : decode cX5_vowel 20 = .ok (.iload_n 0, 1) := dk_26 (dk_at dksX5_vowel_0 20 rfl rfl)
theorem dX5_vowel_21 : decode cX5_vowel 21 = .ok (.bipush 105, 2) := dk_16 105 (dk_at dksX5_vowel_0 21 rfl rfl)
theorem dX5_vowel_23 : decode cX5_vowel 23 = .ok (.if_icmp .ne 7, 3) := dk_160 0 7 (dk_at dksX5_vowel_1 0 rfl rfl)
theorem dX5_vowel_26 : decode cX5_vowel 26 = .ok (.iconst 2, 1) := dk_5 (dk_at dksX5_vowel_1 3 rfl rfl)
theorem dX5_vowel_27 : decode cX5_vowel 27 = .ok (.goto 24, 3) := dk_167 0 24 (dk_at dksX5_vowel_1 4 rfl rfl)
theorem dX5_vowel_30 : decode cX5_vowel 30 = .ok (.iload_n 0, 1) := dk_26 (dk_at dksX5_vowel_1 7 rfl rfl)
theorem dX5_vowel_31 : decode cX5_vowel 31 = .ok (.bipush 111, 2) := dk_16 111 (dk_at dksX5_vowel_1 8 rfl rfl)
theorem dX5_vowel_33 : decode cX5_vowel 33 = .ok (.if_icmp .ne 7, 3) := dk_160 0 7 (dk_at dksX5_vowel_1 10 rfl rfl)
theorem dX5_vowel_36 : decode cX5_vowel 36 = .ok (.iconst 3, 1) := dk_6 (dk_at dksX5_vowel_1 13 rfl rfl)
theorem dX5_vowel_37 : decode cX5_vowel 37 = .ok (.goto 14, 3) := dk_167 0 14 (dk_at dksX5_vowel_1 14 rfl rfl)
theorem dX5_vowel_40 : decode cX5_vowel 40 = .ok (.iload_n 0, 1) := dk_26 (dk_at dksX5_vowel_1 17 rfl rfl)
theorem dX5_vowel_41 : decode cX5_vowel 41 = .ok (.bipush 117, 2) := dk_16 117 (dk_at dksX5_vowel_1 18 rfl rfl)
theorem dX5_vowel_43 : decode cX5_vowel 43 = .ok (.if_icmp .ne 7, 3) := dk_160 0 7 (dk_at dksX5_vowel_1 20 rfl rfl)
theorem dX5_vowel_46 : decode cX5_vowel 46 = .ok (.iconst 4, 1) := dk_7 (dk_at dksX5_vowel_1 23 rfl rfl)
theorem dX5_vowel_47 : decode cX5_vowel 47 = .ok (.goto 4, 3) := dk_167 0 4 (dk_at dksX5_vowel_2 0 rfl rfl)
theorem dX5_vowel_50 : decode cX5_vowel 50 = .ok (.iconst (-1), 1) := dk_2 (dk_at dksX5_vowel_2 3 rfl rfl)
theorem dX5_vowel_51 : decode cX5_vowel 51 = .ok (.ireturn, 1) := dk_172 (dk_at dksX5_vowel_2 4 rfl rfl)
def dkwX5_trust_1 : List UInt8 := [3, 172, 42, 180, 0, 54, 27, 28, 79, 4, 172]
abbrev dktX5_trust_1 : List UInt8 := dkwX5_trust_1 ++ []
def dkwX5_trust_0 : List UInt8 := [42, 3, 181, 0, 1, 27, 3, 6, 184, 0, 169, 153, 0, 13, 28, 3, 16, 99, 184, 0, 169, 154, 0, 5]
abbrev dktX5_trust_0 : List UInt8 := dkwX5_trust_0 ++ dktX5_trust_1
theorem dksX5_trust_0 : cX5_trust.data.toList.drop 0 = dktX5_trust_0 := by decide +kernel
theorem dksX5_trust_1 : cX5_trust.data.toList.drop 24 = dktX5_trust_1 := dk_seg dksX5_trust_0 24 rfl rfl
theorem dX5_trust_0 : decode cX5_trust 0 = .ok (.aload_n 0, 1) := dk_42 (dk_at dksX5_trust_0 0 rfl rfl)
theorem dX5_trust_1 : decode cX5_trust 1 = .ok (.iconst 0, 1) := dk_3 (dk_at dksX5_trust_0 1 rfl rfl)
theorem dX5_trust_2 : decode cX5_trust 2 = .ok (.putfield 1, 3) := dk_181 0 1 (dk_at dksX5_trust_0 2 rfl rfl)
theorem dX5_trust_5 : decode cX5_trust 5 = .ok (.iload_n 1, 1) := dk_27 (dk_at dksX5_trust_0 5 rfl rfl)
theorem dX5_trust_6 : decode cX5_trust 6 = .ok (.iconst 0, 1) := dk_3 (dk_at dksX5_trust_0 6 rfl rfl)
theorem dX5_trust_7 : decode cX5_trust 7 = .ok (.iconst 3, 1) := dk_6 (dk_at dksX5_trust_0 7 rfl rfl)
theorem dX5_trust_8 : decode cX5_trust 8 = .ok (.invokestatic 169, 3) := dk_184 0 169 (dk_at dksX5_trust_0 8 rfl rfl)
theorem dX5_trust_11 : decode cX5_trust 11 = .ok (.ifCond .eq 13, 3) := dk_153 0 13 (dk_at dksX5_trust_0 11 rfl rfl)
theorem dX5_trust_14 : decode cX5_trust 14 = .ok (.iload_n 2, 1) := dk_28 (dk_at dksX5_trust_0 14 rfl rfl)
theorem dX5_trust_15 : decode cX5_trust 15 = .ok (.iconst 0, 1) := dk_3 (dk_at dksX5_trust_0 15 rfl rfl)
theorem dX5_trust_16 : decode cX5_trust 16 = .ok (.bipush 99, 2) := dk_16 99 (dk_at dksX5_trust_0 16 rfl rfl)
theorem dX5_trust_18 : decode cX5_trust 18 = .ok (.invokestatic 169, 3) := dk_184 0 169 (dk_at dksX5_trust_0 18 rfl rfl)
theorem dX5_trust_21 : decode cX5_trust 21 = .ok (.ifCond .ne 5, 3) := dk_154 0 5 (dk_at dksX5_trust_0 21 rfl rfl)
theorem dX5_trust_24 : decode cX5_trust 24 = .ok (.iconst 0, 1) := dk_3 (dk_at dksX5_trust_1 0 rfl rfl)
theorem dX5_trust_25 : decode cX5_trust 25 = .ok (.ireturn, 1) := dk_172 (dk_at dksX5_trust_1 1 rfl rfl)
theorem dX5_trust_26 : decode cX5_trust 26 = .ok (.aload_n 0, 1) := dk_42 (dk_at dksX5_trust_1 2 rfl rfl)
theorem dX5_trust_27 : decode cX5_trust 27 = .ok (.getfield 54, 3) := dk_180 0 54 (dk_at dksX5_trust_1 3 rfl rfl)
theorem dX5_trust_30 : decode cX5_trust 30 = .ok (.iload_n 1, 1) := dk_27 (dk_at dksX5_trust_1 6 rfl rfl)
theorem dX5_trust_31 : decode cX5_trust 31 = .ok (.iload_n 2, 1) := dk_28 (dk_at dksX5_trust_1 7 rfl rfl)
theorem dX5_trust_32 : decode cX5_trust 32 = .ok (.iastore, 1) := dk_79 (dk_at dksX5_trust_1 8 rfl rfl)
theorem dX5_trust_33 : decode cX5_trust 33 = .ok (.iconst 1, 1) := dk_4 (dk_at dksX5_trust_1 9 rfl rfl)
theorem dX5_trust_34 : decode cX5_trust 34 = .ok (.ireturn, 1) := dk_172 (dk_at dksX5_trust_1 10 rfl rfl)
def dkwX5_holds_6 : List UInt8 := [4, 172]
abbrev dktX5_holds_6 : List UInt8 := dkwX5_holds_6 ++ []
def dkwX5_holds_5 : List UInt8 := [79, 42, 180, 0, 69, 42, 180, 1, 35, 42, 180, 0, 173, 79, 42, 89, 180, 1, 35, 4, 96, 181, 1, 35]
abbrev dktX5_holds_5 : List UInt8 := dkwX5_holds_5 ++ dktX5_holds_6
def dkwX5_holds_4 : List UInt8 := [180, 1, 35, 28, 29, 162, 0, 7, 29, 167, 0, 4, 28, 79, 42, 180, 0, 66, 42, 180, 1, 35, 21, 4]
abbrev dktX5_holds_4 : List UInt8 := dkwX5_holds_4 ++ dktX5_holds_5
def dkwX5_holds_3 : List UInt8 := [180, 0, 60, 42, 180, 1, 35, 28, 29, 162, 0, 7, 28, 167, 0, 4, 29, 79, 42, 180, 0, 63, 42]
abbrev dktX5_holds_3 : List UInt8 := dkwX5_holds_3 ++ dktX5_holds_4
def dkwX5_holds_2 : List UInt8 := [180, 1, 35, 17, 0, 200, 160, 0, 5, 3, 172, 42, 180, 0, 57, 42, 180, 1, 35, 27, 79, 42]
abbrev dktX5_holds_2 : List UInt8 := dkwX5_holds_2 ++ dktX5_holds_3
def dkwX5_holds_1 : List UInt8 := [184, 1, 32, 153, 0, 28, 28, 29, 159, 0, 23, 21, 4, 3, 5, 184, 0, 169, 153, 0, 13, 42]
abbrev dktX5_holds_1 : List UInt8 := dkwX5_holds_1 ++ dktX5_holds_2
def dkwX5_holds_0 : List UInt8 := [42, 3, 181, 0, 1, 27, 3, 6, 184, 0, 169, 153, 0, 42, 28, 184, 1, 32, 153, 0, 35, 29]
abbrev dktX5_holds_0 : List UInt8 := dkwX5_holds_0 ++ dktX5_holds_1
theorem dksX5_holds_0 : cX5_holds.data.toList.drop 0 = dktX5_holds_0 := by decide +kernel
theorem dksX5_holds_1 : cX5_holds.data.toList.drop 22 = dktX5_holds_1 := dk_seg dksX5_holds_0 22 rfl rfl
theorem dksX5_holds_2 : cX5_holds.data.toList.drop 44 = dktX5_holds_2 := dk_seg dksX5_holds_1 22 rfl rfl
theorem dksX5_holds_3 : cX5_holds.data.toList.drop 66 = dktX5_holds_3 := dk_seg dksX5_holds_2 22 rfl rfl
theorem dksX5_holds_4 : cX5_holds.data.toList.drop 89 = dktX5_holds_4 := dk_seg dksX5_holds_3 23 rfl rfl
theorem dksX5_holds_5 : cX5_holds.data.toList.drop 113 = dktX5_holds_5 := dk_seg dksX5_holds_4 24 rfl rfl
theorem dksX5_holds_6 : cX5_holds.data.toList.drop 137 = dktX5_holds_6 := dk_seg dksX5_holds_5 24 rfl rfl
theorem dX5_holds_0 : decode cX5_holds 0 = .ok (.aload_n 0, 1) := dk_42 (dk_at dksX5_holds_0 0 rfl rfl)
theorem dX5_holds_1 : decode cX5_holds 1 = .ok (.iconst 0, 1) := dk_3 (dk_at dksX5_holds_0 1 rfl rfl)
theorem dX5_holds_2 : decode cX5_holds 2 = .ok (.putfield 1, 3) := dk_181 0 1 (dk_at dksX5_holds_0 2 rfl rfl)
theorem dX5_holds_5 : decode cX5_holds 5 = .ok (.iload_n 1, 1) := dk_27 (dk_at dksX5_holds_0 5 rfl rfl)
theorem dX5_holds_6 : decode cX5_holds 6 = .ok (.iconst 0, 1) := dk_3 (dk_at dksX5_holds_0 6 rfl rfl)
theorem dX5_holds_7 : decode cX5_holds 7 = .ok (.iconst 3, 1) := dk_6 (dk_at dksX5_holds_0 7 rfl rfl)
theorem dX5_holds_8 : decode cX5_holds 8 = .ok (.invokestatic 169, 3) := dk_184 0 169 (dk_at dksX5_holds_0 8 rfl rfl)
theorem dX5_holds_11 : decode cX5_holds 11 = .ok (.ifCond .eq 42, 3) := dk_153 0 42 (dk_at dksX5_holds_0 11 rfl rfl)
theorem dX5_holds_14 : decode cX5_holds 14 = .ok (.iload_n 2, 1) := dk_28 (dk_at dksX5_holds_0 14 rfl rfl)
theorem dX5_holds_15 : decode cX5_holds 15 = .ok (.invokestatic 288, 3) := dk_184 1 32 (dk_at dksX5_holds_0 15 rfl rfl)
theorem dX5_holds_18 : decode cX5_holds 18 = .ok (.ifCond .eq 35, 3) := dk_153 0 35 (dk_at dksX5_holds_0 18 rfl rfl)
theorem dX5_holds_21 : decode cX5_holds 21 = .ok (.iload_n 3, 1) := dk_29 (dk_at dksX5_holds_0 21 rfl rfl)
theorem dX5_holds_22 : decode cX5_holds 22 = .ok (.invokestatic 288, 3) := dk_184 1 32 (dk_at dksX5_holds_1 0 rfl rfl)
theorem dX5_holds_25 : decode cX5_holds 25 = .ok (.ifCond .eq 28, 3) := dk_153 0 28 (dk_at dksX5_holds_1 3 rfl rfl)
theorem dX5_holds_28 : decode cX5_holds 28 = .ok (.iload_n 2, 1) := dk_28 (dk_at dksX5_holds_1 6 rfl rfl)
theorem dX5_holds_29 : decode cX5_holds 29 = .ok (.iload_n 3, 1) := dk_29 (dk_at dksX5_holds_1 7 rfl rfl)
theorem dX5_holds_30 : decode cX5_holds 30 = .ok (.if_icmp .eq 23, 3) := dk_159 0 23 (dk_at dksX5_holds_1 8 rfl rfl)
theorem dX5_holds_33 : decode cX5_holds 33 = .ok (.iload 4, 2) := dk_21 4 (dk_at dksX5_holds_1 11 rfl rfl)
theorem dX5_holds_35 : decode cX5_holds 35 = .ok (.iconst 0, 1) := dk_3 (dk_at dksX5_holds_1 13 rfl rfl)
theorem dX5_holds_36 : decode cX5_holds 36 = .ok (.iconst 2, 1) := dk_5 (dk_at dksX5_holds_1 14 rfl rfl)
theorem dX5_holds_37 : decode cX5_holds 37 = .ok (.invokestatic 169, 3) := dk_184 0 169 (dk_at dksX5_holds_1 15 rfl rfl)
theorem dX5_holds_40 : decode cX5_holds 40 = .ok (.ifCond .eq 13, 3) := dk_153 0 13 (dk_at dksX5_holds_1 18 rfl rfl)
theorem dX5_holds_43 : decode cX5_holds 43 = .ok (.aload_n 0, 1) := dk_42 (dk_at dksX5_holds_1 21 rfl rfl)
theorem dX5_holds_44 : decode cX5_holds 44 = .ok (.getfield 291, 3) := dk_180 1 35 (dk_at dksX5_holds_2 0 rfl rfl)
theorem dX5_holds_47 : decode cX5_holds 47 = .ok (.sipush 200, 3) := dk_17 0 200 (dk_at dksX5_holds_2 3 rfl rfl)
theorem dX5_holds_50 : decode cX5_holds 50 = .ok (.if_icmp .ne 5, 3) := dk_160 0 5 (dk_at dksX5_holds_2 6 rfl rfl)
theorem dX5_holds_53 : decode cX5_holds 53 = .ok (.iconst 0, 1) := dk_3 (dk_at dksX5_holds_2 9 rfl rfl)
theorem dX5_holds_54 : decode cX5_holds 54 = .ok (.ireturn, 1) := dk_172 (dk_at dksX5_holds_2 10 rfl rfl)
theorem dX5_holds_55 : decode cX5_holds 55 = .ok (.aload_n 0, 1) := dk_42 (dk_at dksX5_holds_2 11 rfl rfl)
theorem dX5_holds_56 : decode cX5_holds 56 = .ok (.getfield 57, 3) := dk_180 0 57 (dk_at dksX5_holds_2 12 rfl rfl)
theorem dX5_holds_59 : decode cX5_holds 59 = .ok (.aload_n 0, 1) := dk_42 (dk_at dksX5_holds_2 15 rfl rfl)
theorem dX5_holds_60 : decode cX5_holds 60 = .ok (.getfield 291, 3) := dk_180 1 35 (dk_at dksX5_holds_2 16 rfl rfl)
theorem dX5_holds_63 : decode cX5_holds 63 = .ok (.iload_n 1, 1) := dk_27 (dk_at dksX5_holds_2 19 rfl rfl)
theorem dX5_holds_64 : decode cX5_holds 64 = .ok (.iastore, 1) := dk_79 (dk_at dksX5_holds_2 20 rfl rfl)
theorem dX5_holds_65 : decode cX5_holds 65 = .ok (.aload_n 0, 1) := dk_42 (dk_at dksX5_holds_2 21 rfl rfl)
theorem dX5_holds_66 : decode cX5_holds 66 = .ok (.getfield 60, 3) := dk_180 0 60 (dk_at dksX5_holds_3 0 rfl rfl)
theorem dX5_holds_69 : decode cX5_holds 69 = .ok (.aload_n 0, 1) := dk_42 (dk_at dksX5_holds_3 3 rfl rfl)
theorem dX5_holds_70 : decode cX5_holds 70 = .ok (.getfield 291, 3) := dk_180 1 35 (dk_at dksX5_holds_3 4 rfl rfl)
theorem dX5_holds_73 : decode cX5_holds 73 = .ok (.iload_n 2, 1) := dk_28 (dk_at dksX5_holds_3 7 rfl rfl)
theorem dX5_holds_74 : decode cX5_holds 74 = .ok (.iload_n 3, 1) := dk_29 (dk_at dksX5_holds_3 8 rfl rfl)
theorem dX5_holds_75 : decode cX5_holds 75 = .ok (.if_icmp .ge 7, 3) := dk_162 0 7 (dk_at dksX5_holds_3 9 rfl rfl)
theorem dX5_holds_78 : decode cX5_holds 78 = .ok (.iload_n 2, 1) := dk_28 (dk_at dksX5_holds_3 12 rfl rfl)
theorem dX5_holds_79 : decode cX5_holds 79 = .ok (.goto 4, 3) := dk_167 0 4 (dk_at dksX5_holds_3 13 rfl rfl)
theorem dX5_holds_82 : decode cX5_holds 82 = .ok (.iload_n 3, 1) := dk_29 (dk_at dksX5_holds_3 16 rfl rfl)
theorem dX5_holds_83 : decode cX5_holds 83 = .ok (.iastore, 1) := dk_79 (dk_at dksX5_holds_3 17 rfl rfl)
theorem dX5_holds_84 : decode cX5_holds 84 = .ok (.aload_n 0, 1) := dk_42 (dk_at dksX5_holds_3 18 rfl rfl)
theorem dX5_holds_85 : decode cX5_holds 85 = .ok (.getfield 63, 3) := dk_180 0 63 (dk_at dksX5_holds_3 19 rfl rfl)
theorem dX5_holds_88 : decode cX5_holds 88 = .ok (.aload_n 0, 1) := dk_42 (dk_at dksX5_holds_3 22 rfl rfl)
theorem dX5_holds_89 : decode cX5_holds 89 = .ok (.getfield 291, 3) := dk_180 1 35 (dk_at dksX5_holds_4 0 rfl rfl)
theorem dX5_holds_92 : decode cX5_holds 92 = .ok (.iload_n 2, 1) := dk_28 (dk_at dksX5_holds_4 3 rfl rfl)
theorem dX5_holds_93 : decode cX5_holds 93 = .ok (.iload_n 3, 1) := dk_29 (dk_at dksX5_holds_4 4 rfl rfl)
theorem dX5_holds_94 : decode cX5_holds 94 = .ok (.if_icmp .ge 7, 3) := dk_162 0 7 (dk_at dksX5_holds_4 5 rfl rfl)
theorem dX5_holds_97 : decode cX5_holds 97 = .ok (.iload_n 3, 1) := dk_29 (dk_at dksX5_holds_4 8 rfl rfl)
theorem dX5_holds_98 : decode cX5_holds 98 = .ok (.goto 4, 3) := dk_167 0 4 (dk_at dksX5_holds_4 9 rfl rfl)
theorem dX5_holds_101 : decode cX5_holds 101 = .ok (.iload_n 2, 1) := dk_28 (dk_at dksX5_holds_4 12 rfl rfl)
theorem dX5_holds_102 : decode cX5_holds 102 = .ok (.iastore, 1) := dk_79 (dk_at dksX5_holds_4 13 rfl rfl)
theorem dX5_holds_103 : decode cX5_holds 103 = .ok (.aload_n 0, 1) := dk_42 (dk_at dksX5_holds_4 14 rfl rfl)
theorem dX5_holds_104 : decode cX5_holds 104 = .ok (.getfield 66, 3) := dk_180 0 66 (dk_at dksX5_holds_4 15 rfl rfl)
theorem dX5_holds_107 : decode cX5_holds 107 = .ok (.aload_n 0, 1) := dk_42 (dk_at dksX5_holds_4 18 rfl rfl)
theorem dX5_holds_108 : decode cX5_holds 108 = .ok (.getfield 291, 3) := dk_180 1 35 (dk_at dksX5_holds_4 19 rfl rfl)
theorem dX5_holds_111 : decode cX5_holds 111 = .ok (.iload 4, 2) := dk_21 4 (dk_at dksX5_holds_4 22 rfl rfl)
theorem dX5_holds_113 : decode cX5_holds 113 = .ok (.iastore, 1) := dk_79 (dk_at dksX5_holds_5 0 rfl rfl)
theorem dX5_holds_114 : decode cX5_holds 114 = .ok (.aload_n 0, 1) := dk_42 (dk_at dksX5_holds_5 1 rfl rfl)
theorem dX5_holds_115 : decode cX5_holds 115 = .ok (.getfield 69, 3) := dk_180 0 69 (dk_at dksX5_holds_5 2 rfl rfl)
theorem dX5_holds_118 : decode cX5_holds 118 = .ok (.aload_n 0, 1) := dk_42 (dk_at dksX5_holds_5 5 rfl rfl)
theorem dX5_holds_119 : decode cX5_holds 119 = .ok (.getfield 291, 3) := dk_180 1 35 (dk_at dksX5_holds_5 6 rfl rfl)
theorem dX5_holds_122 : decode cX5_holds 122 = .ok (.aload_n 0, 1) := dk_42 (dk_at dksX5_holds_5 9 rfl rfl)
theorem dX5_holds_123 : decode cX5_holds 123 = .ok (.getfield 173, 3) := dk_180 0 173 (dk_at dksX5_holds_5 10 rfl rfl)
theorem dX5_holds_126 : decode cX5_holds 126 = .ok (.iastore, 1) := dk_79 (dk_at dksX5_holds_5 13 rfl rfl)
theorem dX5_holds_127 : decode cX5_holds 127 = .ok (.aload_n 0, 1) := dk_42 (dk_at dksX5_holds_5 14 rfl rfl)
theorem dX5_holds_128 : decode cX5_holds 128 = .ok (.dup, 1) := dk_89 (dk_at dksX5_holds_5 15 rfl rfl)
theorem dX5_holds_129 : decode cX5_holds 129 = .ok (.getfield 291, 3) := dk_180 1 35 (dk_at dksX5_holds_5 16 rfl rfl)
theorem dX5_holds_132 : decode cX5_holds 132 = .ok (.iconst 1, 1) := dk_4 (dk_at dksX5_holds_5 19 rfl rfl)
theorem dX5_holds_133 : decode cX5_holds 133 = .ok (.iadd, 1) := dk_96 (dk_at dksX5_holds_5 20 rfl rfl)
theorem dX5_holds_134 : decode cX5_holds 134 = .ok (.putfield 291, 3) := dk_181 1 35 (dk_at dksX5_holds_5 21 rfl rfl)
theorem dX5_holds_137 : decode cX5_holds 137 = .ok (.iconst 1, 1) := dk_4 (dk_at dksX5_holds_6 0 rfl rfl)
theorem dX5_holds_138 : decode cX5_holds 138 = .ok (.ireturn, 1) := dk_172 (dk_at dksX5_holds_6 1 rfl rfl)
def dkwX5_isSignNumber_0 : List UInt8 := [26, 155, 0, 13, 26, 16, 40, 162, 0, 7, 4, 167, 0, 4, 3, 172]
abbrev dktX5_isSignNumber_0 : List UInt8 := dkwX5_isSignNumber_0 ++ []
theorem dksX5_isSignNumber_0 : cX5_isSignNumber.data.toList.drop 0 = dktX5_isSignNumber_0 := by decide +kernel
theorem dX5_isSignNumber_0 : decode cX5_isSignNumber 0 = .ok (.iload_n 0, 1) := dk_26 (dk_at dksX5_isSignNumber_0 0 rfl rfl)
theorem dX5_isSignNumber_1 : decode cX5_isSignNumber 1 = .ok (.ifCond .lt 13, 3) := dk_155 0 13 (dk_at dksX5_isSignNumber_0 1 rfl rfl)
theorem dX5_isSignNumber_4 : decode cX5_isSignNumber 4 = .ok (.iload_n 0, 1) := dk_26 (dk_at dksX5_isSignNumber_0 4 rfl rfl)
theorem dX5_isSignNumber_5 : decode cX5_isSignNumber 5 = .ok (.bipush 40, 2) := dk_16 40 (dk_at dksX5_isSignNumber_0 5 rfl rfl)
theorem dX5_isSignNumber_7 : decode cX5_isSignNumber 7 = .ok (.if_icmp .ge 7, 3) := dk_162 0 7 (dk_at dksX5_isSignNumber_0 7 rfl rfl)
theorem dX5_isSignNumber_10 : decode cX5_isSignNumber 10 = .ok (.iconst 1, 1) := dk_4 (dk_at dksX5_isSignNumber_0 10 rfl rfl)
theorem dX5_isSignNumber_11 : decode cX5_isSignNumber 11 = .ok (.goto 4, 3) := dk_167 0 4 (dk_at dksX5_isSignNumber_0 11 rfl rfl)
theorem dX5_isSignNumber_14 : decode cX5_isSignNumber 14 = .ok (.iconst 0, 1) := dk_3 (dk_at dksX5_isSignNumber_0 14 rfl rfl)
theorem dX5_isSignNumber_15 : decode cX5_isSignNumber 15 = .ok (.ireturn, 1) := dk_172 (dk_at dksX5_isSignNumber_0 15 rfl rfl)
def dkwX5_sign_1 : List UInt8 := [182, 1, 45, 42, 180, 0, 72, 27, 46, 172]
abbrev dktX5_sign_1 : List UInt8 := dkwX5_sign_1 ++ []
def dkwX5_sign_0 : List UInt8 := [42, 3, 181, 0, 1, 27, 184, 1, 32, 153, 0, 11, 42, 28, 182, 1, 42, 154, 0, 5, 2, 172, 42, 28]
abbrev dktX5_sign_0 : List UInt8 := dkwX5_sign_0 ++ dktX5_sign_1
theorem dksX5_sign_0 : cX5_sign.data.toList.drop 0 = dktX5_sign_0 := by decide +kernel
theorem dksX5_sign_1 : cX5_sign.data.toList.drop 24 = dktX5_sign_1 := dk_seg dksX5_sign_0 24 rfl rfl
theorem dX5_sign_0 : decode cX5_sign 0 = .ok (.aload_n 0, 1) := dk_42 (dk_at dksX5_sign_0 0 rfl rfl)
theorem dX5_sign_1 : decode cX5_sign 1 = .ok (.iconst 0, 1) := dk_3 (dk_at dksX5_sign_0 1 rfl rfl)
theorem dX5_sign_2 : decode cX5_sign 2 = .ok (.putfield 1, 3) := dk_181 0 1 (dk_at dksX5_sign_0 2 rfl rfl)
theorem dX5_sign_5 : decode cX5_sign 5 = .ok (.iload_n 1, 1) := dk_27 (dk_at dksX5_sign_0 5 rfl rfl)
theorem dX5_sign_6 : decode cX5_sign 6 = .ok (.invokestatic 288, 3) := dk_184 1 32 (dk_at dksX5_sign_0 6 rfl rfl)
theorem dX5_sign_9 : decode cX5_sign 9 = .ok (.ifCond .eq 11, 3) := dk_153 0 11 (dk_at dksX5_sign_0 9 rfl rfl)
theorem dX5_sign_12 : decode cX5_sign 12 = .ok (.aload_n 0, 1) := dk_42 (dk_at dksX5_sign_0 12 rfl rfl)
theorem dX5_sign_13 : decode cX5_sign 13 = .ok (.iload_n 2, 1) := dk_28 (dk_at dksX5_sign_0 13 rfl rfl)
theorem dX5_sign_14 : decode cX5_sign 14 = .ok (.invokevirtual 298, 3) := dk_182 1 42 (dk_at dksX5_sign_0 14 rfl rfl)
theorem dX5_sign_17 : decode cX5_sign 17 = .ok (.ifCond .ne 5, 3) := dk_154 0 5 (dk_at dksX5_sign_0 17 rfl rfl)
theorem dX5_sign_20 : decode cX5_sign 20 = .ok (.iconst (-1), 1) := dk_2 (dk_at dksX5_sign_0 20 rfl rfl)
theorem dX5_sign_21 : decode cX5_sign 21 = .ok (.ireturn, 1) := dk_172 (dk_at dksX5_sign_0 21 rfl rfl)
theorem dX5_sign_22 : decode cX5_sign 22 = .ok (.aload_n 0, 1) := dk_42 (dk_at dksX5_sign_0 22 rfl rfl)
theorem dX5_sign_23 : decode cX5_sign 23 = .ok (.iload_n 2, 1) := dk_28 (dk_at dksX5_sign_0 23 rfl rfl)
theorem dX5_sign_24 : decode cX5_sign 24 = .ok (.invokevirtual 301, 3) := dk_182 1 45 (dk_at dksX5_sign_1 0 rfl rfl)
theorem dX5_sign_27 : decode cX5_sign 27 = .ok (.aload_n 0, 1) := dk_42 (dk_at dksX5_sign_1 3 rfl rfl)
theorem dX5_sign_28 : decode cX5_sign 28 = .ok (.getfield 72, 3) := dk_180 0 72 (dk_at dksX5_sign_1 4 rfl rfl)
theorem dX5_sign_31 : decode cX5_sign 31 = .ok (.iload_n 1, 1) := dk_27 (dk_at dksX5_sign_1 7 rfl rfl)
theorem dX5_sign_32 : decode cX5_sign 32 = .ok (.iaload, 1) := dk_46 (dk_at dksX5_sign_1 8 rfl rfl)
theorem dX5_sign_33 : decode cX5_sign 33 = .ok (.ireturn, 1) := dk_172 (dk_at dksX5_sign_1 9 rfl rfl)
def dkwX5_isKnown_0 : List UInt8 := [27, 155, 0, 15, 27, 42, 180, 0, 173, 163, 0, 7, 4, 167, 0, 4, 3, 172]
abbrev dktX5_isKnown_0 : List UInt8 := dkwX5_isKnown_0 ++ []
theorem dksX5_isKnown_0 : cX5_isKnown.data.toList.drop 0 = dktX5_isKnown_0 := by decide +kernel
theorem dX5_isKnown_0 : decode cX5_isKnown 0 = .ok (.iload_n 1, 1) := dk_27 (dk_at dksX5_isKnown_0 0 rfl rfl)
theorem dX5_isKnown_1 : decode cX5_isKnown 1 = .ok (.ifCond .lt 15, 3) := dk_155 0 15 (dk_at dksX5_isKnown_0 1 rfl rfl)
theorem dX5_isKnown_4 : decode cX5_isKnown 4 = .ok (.iload_n 1, 1) := dk_27 (dk_at dksX5_isKnown_0 4 rfl rfl)
theorem dX5_isKnown_5 : decode cX5_isKnown 5 = .ok (.aload_n 0, 1) := dk_42 (dk_at dksX5_isKnown_0 5 rfl rfl)
theorem dX5_isKnown_6 : decode cX5_isKnown 6 = .ok (.getfield 173, 3) := dk_180 0 173 (dk_at dksX5_isKnown_0 6 rfl rfl)
theorem dX5_isKnown_9 : decode cX5_isKnown 9 = .ok (.if_icmp .gt 7, 3) := dk_163 0 7 (dk_at dksX5_isKnown_0 9 rfl rfl)
theorem dX5_isKnown_12 : decode cX5_isKnown 12 = .ok (.iconst 1, 1) := dk_4 (dk_at dksX5_isKnown_0 12 rfl rfl)
theorem dX5_isKnown_13 : decode cX5_isKnown 13 = .ok (.goto 4, 3) := dk_167 0 4 (dk_at dksX5_isKnown_0 13 rfl rfl)
theorem dX5_isKnown_16 : decode cX5_isKnown 16 = .ok (.iconst 0, 1) := dk_3 (dk_at dksX5_isKnown_0 16 rfl rfl)
theorem dX5_isKnown_17 : decode cX5_isKnown 17 = .ok (.ireturn, 1) := dk_172 (dk_at dksX5_isKnown_0 17 rfl rfl)
def dkwX5_findStands_6 : List UInt8 := [132, 5, 1, 167, 255, 204, 132, 2, 1, 167, 255, 133, 177]
abbrev dktX5_findStands_6 : List UInt8 := dkwX5_findStands_6 ++ []
def dkwX5_findStands_5 : List UInt8 := [160, 0, 22, 42, 180, 0, 72, 21, 5, 29, 21, 4, 162, 0, 7, 29, 167, 0, 5, 21, 4, 79]
abbrev dktX5_findStands_5 : List UInt8 := dkwX5_findStands_5 ++ dktX5_findStands_6
def dkwX5_findStands_4 : List UInt8 := [162, 0, 51, 42, 180, 0, 72, 21, 5, 46, 29, 159, 0, 15, 42, 180, 0, 72, 21, 5, 46, 21, 4]
abbrev dktX5_findStands_4 : List UInt8 := dkwX5_findStands_4 ++ dktX5_findStands_5
def dkwX5_findStands_3 : List UInt8 := [180, 0, 63, 28, 46, 27, 182, 1, 38, 157, 0, 6, 167, 0, 61, 3, 54, 5, 21, 5, 16, 40]
abbrev dktX5_findStands_3 : List UInt8 := dkwX5_findStands_3 ++ dktX5_findStands_4
def dkwX5_findStands_2 : List UInt8 := [180, 0, 63, 28, 46, 46, 54, 4, 29, 21, 4, 159, 0, 84, 42, 42, 180, 0, 60, 28, 46, 42]
abbrev dktX5_findStands_2 : List UInt8 := dkwX5_findStands_2 ++ dktX5_findStands_3
def dkwX5_findStands_1 : List UInt8 := [42, 180, 1, 35, 162, 0, 121, 42, 180, 0, 72, 42, 180, 0, 60, 28, 46, 46, 62, 42, 180, 0, 72, 42]
abbrev dktX5_findStands_1 : List UInt8 := dkwX5_findStands_1 ++ dktX5_findStands_2
def dkwX5_findStands_0 : List UInt8 := [3, 61, 28, 16, 40, 162, 0, 16, 42, 180, 0, 72, 28, 28, 79, 132, 2, 1, 167, 255, 240, 3, 61, 28]
abbrev dktX5_findStands_0 : List UInt8 := dkwX5_findStands_0 ++ dktX5_findStands_1
theorem dksX5_findStands_0 : cX5_findStands.data.toList.drop 0 = dktX5_findStands_0 := by decide +kernel
theorem dksX5_findStands_1 : cX5_findStands.data.toList.drop 24 = dktX5_findStands_1 := dk_seg dksX5_findStands_0 24 rfl rfl
theorem dksX5_findStands_2 : cX5_findStands.data.toList.drop 48 = dktX5_findStands_2 := dk_seg dksX5_findStands_1 24 rfl rfl
theorem dksX5_findStands_3 : cX5_findStands.data.toList.drop 70 = dktX5_findStands_3 := dk_seg dksX5_findStands_2 22 rfl rfl
theorem dksX5_findStands_4 : cX5_findStands.data.toList.drop 92 = dktX5_findStands_4 := dk_seg dksX5_findStands_3 22 rfl rfl
theorem dksX5_findStands_5 : cX5_findStands.data.toList.drop 115 = dktX5_findStands_5 := dk_seg dksX5_findStands_4 23 rfl rfl
theorem dksX5_findStands_6 : cX5_findStands.data.toList.drop 137 = dktX5_findStands_6 := dk_seg dksX5_findStands_5 22 rfl rfl
theorem dX5_findStands_0 : decode cX5_findStands 0 = .ok (.iconst 0, 1) := dk_3 (dk_at dksX5_findStands_0 0 rfl rfl)
theorem dX5_findStands_1 : decode cX5_findStands 1 = .ok (.istore_n 2, 1) := dk_61 (dk_at dksX5_findStands_0 1 rfl rfl)
theorem dX5_findStands_2 : decode cX5_findStands 2 = .ok (.iload_n 2, 1) := dk_28 (dk_at dksX5_findStands_0 2 rfl rfl)
theorem dX5_findStands_3 : decode cX5_findStands 3 = .ok (.bipush 40, 2) := dk_16 40 (dk_at dksX5_findStands_0 3 rfl rfl)
theorem dX5_findStands_5 : decode cX5_findStands 5 = .ok (.if_icmp .ge 16, 3) := dk_162 0 16 (dk_at dksX5_findStands_0 5 rfl rfl)
theorem dX5_findStands_8 : decode cX5_findStands 8 = .ok (.aload_n 0, 1) := dk_42 (dk_at dksX5_findStands_0 8 rfl rfl)
theorem dX5_findStands_9 : decode cX5_findStands 9 = .ok (.getfield 72, 3) := dk_180 0 72 (dk_at dksX5_findStands_0 9 rfl rfl)
theorem dX5_findStands_12 : decode cX5_findStands 12 = .ok (.iload_n 2, 1) := dk_28 (dk_at dksX5_findStands_0 12 rfl rfl)
theorem dX5_findStands_13 : decode cX5_findStands 13 = .ok (.iload_n 2, 1) := dk_28 (dk_at dksX5_findStands_0 13 rfl rfl)
theorem dX5_findStands_14 : decode cX5_findStands 14 = .ok (.iastore, 1) := dk_79 (dk_at dksX5_findStands_0 14 rfl rfl)
theorem dX5_findStands_15 : decode cX5_findStands 15 = .ok (.iinc 2 1, 3) := dk_132 2 1 (dk_at dksX5_findStands_0 15 rfl rfl)
theorem dX5_findStands_18 : decode cX5_findStands 18 = .ok (.goto (-16), 3) := dk_167 255 240 (dk_at dksX5_findStands_0 18 rfl rfl)
theorem dX5_findStands_21 : decode cX5_findStands 21 = .ok (.iconst 0, 1) := dk_3 (dk_at dksX5_findStands_0 21 rfl rfl)
theorem dX5_findStands_22 : decode cX5_findStands 22 = .ok (.istore_n 2, 1) := dk_61 (dk_at dksX5_findStands_0 22 rfl rfl)
theorem dX5_findStands_23 : decode cX5_findStands 23 = .ok (.iload_n 2, 1) := dk_28 (dk_at dksX5_findStands_0 23 rfl rfl)
theorem dX5_findStands_24 : decode cX5_findStands 24 = .ok (.aload_n 0, 1) := dk_42 (dk_at dksX5_findStands_1 0 rfl rfl)
theorem dX5_findStands_25 : decode cX5_findStands 25 = .ok (.getfield 291, 3) := dk_180 1 35 (dk_at dksX5_findStands_1 1 rfl rfl)
theorem dX5_findStands_28 : decode cX5_findStands 28 = .ok (.if_icmp .ge 121, 3) := dk_162 0 121 (dk_at dksX5_findStands_1 4 rfl rfl)
theorem dX5_findStands_31 : decode cX5_findStands 31 = .ok (.aload_n 0, 1) := dk_42 (dk_at dksX5_findStands_1 7 rfl rfl)
theorem dX5_findStands_32 : decode cX5_findStands 32 = .ok (.getfield 72, 3) := dk_180 0 72 (dk_at dksX5_findStands_1 8 rfl rfl)
theorem dX5_findStands_35 : decode cX5_findStands 35 = .ok (.aload_n 0, 1) := dk_42 (dk_at dksX5_findStands_1 11 rfl rfl)
theorem dX5_findStands_36 : decode cX5_findStands 36 = .ok (.getfield 60, 3) := dk_180 0 60 (dk_at dksX5_findStands_1 12 rfl rfl)
theorem dX5_findStands_39 : decode cX5_findStands 39 = .ok (.iload_n 2, 1) := dk_28 (dk_at dksX5_findStands_1 15 rfl rfl)
theorem dX5_findStands_40 : decode cX5_findStands 40 = .ok (.iaload, 1) := dk_46 (dk_at dksX5_findStands_1 16 rfl rfl)
theorem dX5_findStands_41 : decode cX5_findStands 41 = .ok (.iaload, 1) := dk_46 (dk_at dksX5_findStands_1 17 rfl rfl)
theorem dX5_findStands_42 : decode cX5_findStands 42 = .ok (.istore_n 3, 1) := dk_62 (dk_at dksX5_findStands_1 18 rfl rfl)
theorem dX5_findStands_43 : decode cX5_findStands 43 = .ok (.aload_n 0, 1) := dk_42 (dk_at dksX5_findStands_1 19 rfl rfl)
theorem dX5_findStands_44 : decode cX5_findStands 44 = .ok (.getfield 72, 3) := dk_180 0 72 (dk_at dksX5_findStands_1 20 rfl rfl)
theorem dX5_findStands_47 : decode cX5_findStands 47 = .ok (.aload_n 0, 1) := dk_42 (dk_at dksX5_findStands_1 23 rfl rfl)
theorem dX5_findStands_48 : decode cX5_findStands 48 = .ok (.getfield 63, 3) := dk_180 0 63 (dk_at dksX5_findStands_2 0 rfl rfl)
theorem dX5_findStands_51 : decode cX5_findStands 51 = .ok (.iload_n 2, 1) := dk_28 (dk_at dksX5_findStands_2 3 rfl rfl)
theorem dX5_findStands_52 : decode cX5_findStands 52 = .ok (.iaload, 1) := dk_46 (dk_at dksX5_findStands_2 4 rfl rfl)
theorem dX5_findStands_53 : decode cX5_findStands 53 = .ok (.iaload, 1) := dk_46 (dk_at dksX5_findStands_2 5 rfl rfl)
theorem dX5_findStands_54 : decode cX5_findStands 54 = .ok (.istore 4, 2) := dk_54 4 (dk_at dksX5_findStands_2 6 rfl rfl)
theorem dX5_findStands_56 : decode cX5_findStands 56 = .ok (.iload_n 3, 1) := dk_29 (dk_at dksX5_findStands_2 8 rfl rfl)
theorem dX5_findStands_57 : decode cX5_findStands 57 = .ok (.iload 4, 2) := dk_21 4 (dk_at dksX5_findStands_2 9 rfl rfl)
theorem dX5_findStands_59 : decode cX5_findStands 59 = .ok (.if_icmp .eq 84, 3) := dk_159 0 84 (dk_at dksX5_findStands_2 11 rfl rfl)
theorem dX5_findStands_62 : decode cX5_findStands 62 = .ok (.aload_n 0, 1) := dk_42 (dk_at dksX5_findStands_2 14 rfl rfl)
theorem dX5_findStands_63 : decode cX5_findStands 63 = .ok (.aload_n 0, 1) := dk_42 (dk_at dksX5_findStands_2 15 rfl rfl)
theorem dX5_findStands_64 : decode cX5_findStands 64 = .ok (.getfield 60, 3) := dk_180 0 60 (dk_at dksX5_findStands_2 16 rfl rfl)
theorem dX5_findStands_67 : decode cX5_findStands 67 = .ok (.iload_n 2, 1) := dk_28 (dk_at dksX5_findStands_2 19 rfl rfl)
theorem dX5_findStands_68 : decode cX5_findStands 68 = .ok (.iaload, 1) := dk_46 (dk_at dksX5_findStands_2 20 rfl rfl)
theorem dX5_findStands_69 : decode cX5_findStands 69 = .ok (.aload_n 0, 1) := dk_42 (dk_at dksX5_findStands_2 21 rfl rfl)
theorem dX5_findStands_70 : decode cX5_findStands 70 = .ok (.getfield 63, 3) := dk_180 0 63 (dk_at dksX5_findStands_3 0 rfl rfl)
theorem dX5_findStands_73 : decode cX5_findStands 73 = .ok (.iload_n 2, 1) := dk_28 (dk_at dksX5_findStands_3 3 rfl rfl)
theorem dX5_findStands_74 : decode cX5_findStands 74 = .ok (.iaload, 1) := dk_46 (dk_at dksX5_findStands_3 4 rfl rfl)
theorem dX5_findStands_75 : decode cX5_findStands 75 = .ok (.iload_n 1, 1) := dk_27 (dk_at dksX5_findStands_3 5 rfl rfl)
theorem dX5_findStands_76 : decode cX5_findStands 76 = .ok (.invokevirtual 294, 3) := dk_182 1 38 (dk_at dksX5_findStands_3 6 rfl rfl)
theorem dX5_findStands_79 : decode cX5_findStands 79 = .ok (.ifCond .gt 6, 3) := dk_157 0 6 (dk_at dksX5_findStands_3 9 rfl rfl)
theorem dX5_findStands_82 : decode cX5_findStands 82 = .ok (.goto 61, 3) := dk_167 0 61 (dk_at dksX5_findStands_3 12 rfl rfl)
theorem dX5_findStands_85 : decode cX5_findStands 85 = .ok (.iconst 0, 1) := dk_3 (dk_at dksX5_findStands_3 15 rfl rfl)
theorem dX5_findStands_86 : decode cX5_findStands 86 = .ok (.istore 5, 2) := dk_54 5 (dk_at dksX5_findStands_3 16 rfl rfl)
theorem dX5_findStands_88 : decode cX5_findStands 88 = .ok (.iload 5, 2) := dk_21 5 (dk_at dksX5_findStands_3 18 rfl rfl)
theorem dX5_findStands_90 : decode cX5_findStands 90 = .ok (.bipush 40, 2) := dk_16 40 (dk_at dksX5_findStands_3 20 rfl rfl)
theorem dX5_findStands_92 : decode cX5_findStands 92 = .ok (.if_icmp .ge 51, 3) := dk_162 0 51 (dk_at dksX5_findStands_4 0 rfl rfl)
theorem dX5_findStands_95 : decode cX5_findStands 95 = .ok (.aload_n 0, 1) := dk_42 (dk_at dksX5_findStands_4 3 rfl rfl)
theorem dX5_findStands_96 : decode cX5_findStands 96 = .ok (.getfield 72, 3) := dk_180 0 72 (dk_at dksX5_findStands_4 4 rfl rfl)
theorem dX5_findStands_99 : decode cX5_findStands 99 = .ok (.iload 5, 2) := dk_21 5 (dk_at dksX5_findStands_4 7 rfl rfl)
theorem dX5_findStands_101 : decode cX5_findStands 101 = .ok (.iaload, 1) := dk_46 (dk_at dksX5_findStands_4 9 rfl rfl)
theorem dX5_findStands_102 : decode cX5_findStands 102 = .ok (.iload_n 3, 1) := dk_29 (dk_at dksX5_findStands_4 10 rfl rfl)
theorem dX5_findStands_103 : decode cX5_findStands 103 = .ok (.if_icmp .eq 15, 3) := dk_159 0 15 (dk_at dksX5_findStands_4 11 rfl rfl)
theorem dX5_findStands_106 : decode cX5_findStands 106 = .ok (.aload_n 0, 1) := dk_42 (dk_at dksX5_findStands_4 14 rfl rfl)
theorem dX5_findStands_107 : decode cX5_findStands 107 = .ok (.getfield 72, 3) := dk_180 0 72 (dk_at dksX5_findStands_4 15 rfl rfl)
theorem dX5_findStands_110 : decode cX5_findStands 110 = .ok (.iload 5, 2) := dk_21 5 (dk_at dksX5_findStands_4 18 rfl rfl)
theorem dX5_findStands_112 : decode cX5_findStands 112 = .ok (.iaload, 1) := dk_46 (dk_at dksX5_findStands_4 20 rfl rfl)
theorem dX5_findStands_113 : decode cX5_findStands 113 = .ok (.iload 4, 2) := dk_21 4 (dk_at dksX5_findStands_4 21 rfl rfl)
theorem dX5_findStands_115 : decode cX5_findStands 115 = .ok (.if_icmp .ne 22, 3) := dk_160 0 22 (dk_at dksX5_findStands_5 0 rfl rfl)
theorem dX5_findStands_118 : decode cX5_findStands 118 = .ok (.aload_n 0, 1) := dk_42 (dk_at dksX5_findStands_5 3 rfl rfl)
theorem dX5_findStands_119 : decode cX5_findStands 119 = .ok (.getfield 72, 3) := dk_180 0 72 (dk_at dksX5_findStands_5 4 rfl rfl)
theorem dX5_findStands_122 : decode cX5_findStands 122 = .ok (.iload 5, 2) := dk_21 5 (dk_at dksX5_findStands_5 7 rfl rfl)
theorem dX5_findStands_124 : decode cX5_findStands 124 = .ok (.iload_n 3, 1) := dk_29 (dk_at dksX5_findStands_5 9 rfl rfl)
theorem dX5_findStands_125 : decode cX5_findStands 125 = .ok (.iload 4, 2) := dk_21 4 (dk_at dksX5_findStands_5 10 rfl rfl)
theorem dX5_findStands_127 : decode cX5_findStands 127 = .ok (.if_icmp .ge 7, 3) := dk_162 0 7 (dk_at dksX5_findStands_5 12 rfl rfl)
theorem dX5_findStands_130 : decode cX5_findStands 130 = .ok (.iload_n 3, 1) := dk_29 (dk_at dksX5_findStands_5 15 rfl rfl)
theorem dX5_findStands_131 : decode cX5_findStands 131 = .ok (.goto 5, 3) := dk_167 0 5 (dk_at dksX5_findStands_5 16 rfl rfl)
theorem dX5_findStands_134 : decode cX5_findStands 134 = .ok (.iload 4, 2) := dk_21 4 (dk_at dksX5_findStands_5 19 rfl rfl)
theorem dX5_findStands_136 : decode cX5_findStands 136 = .ok (.iastore, 1) := dk_79 (dk_at dksX5_findStands_5 21 rfl rfl)
theorem dX5_findStands_137 : decode cX5_findStands 137 = .ok (.iinc 5 1, 3) := dk_132 5 1 (dk_at dksX5_findStands_6 0 rfl rfl)
theorem dX5_findStands_140 : decode cX5_findStands 140 = .ok (.goto (-52), 3) := dk_167 255 204 (dk_at dksX5_findStands_6 3 rfl rfl)
theorem dX5_findStands_143 : decode cX5_findStands 143 = .ok (.iinc 2 1, 3) := dk_132 2 1 (dk_at dksX5_findStands_6 6 rfl rfl)
theorem dX5_findStands_146 : decode cX5_findStands 146 = .ok (.goto (-123), 3) := dk_167 255 133 (dk_at dksX5_findStands_6 9 rfl rfl)
theorem dX5_findStands_149 : decode cX5_findStands 149 = .ok (.return_, 1) := dk_177 (dk_at dksX5_findStands_6 12 rfl rfl)
def dkwX5_moreTrust_5 : List UInt8 := [46, 116, 167, 0, 4, 3, 96, 54, 4, 132, 5, 1, 167, 255, 134, 21, 4, 172]
abbrev dktX5_moreTrust_5 : List UInt8 := dkwX5_moreTrust_5 ++ []
def dkwX5_moreTrust_4 : List UInt8 := [160, 0, 13, 42, 180, 0, 54, 21, 5, 46, 167, 0, 20, 21, 6, 154, 0, 14, 42, 180, 0, 54, 21, 5]
abbrev dktX5_moreTrust_4 : List UInt8 := dkwX5_moreTrust_4 ++ dktX5_moreTrust_5
def dkwX5_moreTrust_3 : List UInt8 := [163, 0, 12, 42, 180, 0, 66, 21, 7, 46, 54, 6, 132, 7, 1, 167, 255, 190, 21, 4, 21, 6, 4]
abbrev dktX5_moreTrust_3 : List UInt8 := dkwX5_moreTrust_3 ++ dktX5_moreTrust_4
def dkwX5_moreTrust_2 : List UInt8 := [160, 0, 34, 42, 180, 0, 63, 21, 7, 46, 28, 160, 0, 23, 42, 180, 0, 69, 21, 7, 46, 29]
abbrev dktX5_moreTrust_2 : List UInt8 := dkwX5_moreTrust_2 ++ dktX5_moreTrust_3
def dkwX5_moreTrust_1 : List UInt8 := [162, 0, 63, 42, 180, 0, 57, 21, 7, 46, 21, 5, 160, 0, 45, 42, 180, 0, 60, 21, 7, 46, 27]
abbrev dktX5_moreTrust_1 : List UInt8 := dkwX5_moreTrust_1 ++ dktX5_moreTrust_2
def dkwX5_moreTrust_0 : List UInt8 := [3, 54, 4, 3, 54, 5, 21, 5, 7, 162, 0, 122, 5, 54, 6, 3, 54, 7, 21, 7, 42, 180, 1, 35]
abbrev dktX5_moreTrust_0 : List UInt8 := dkwX5_moreTrust_0 ++ dktX5_moreTrust_1
theorem dksX5_moreTrust_0 : cX5_moreTrust.data.toList.drop 0 = dktX5_moreTrust_0 := by decide +kernel
theorem dksX5_moreTrust_1 : cX5_moreTrust.data.toList.drop 24 = dktX5_moreTrust_1 := dk_seg dksX5_moreTrust_0 24 rfl rfl
theorem dksX5_moreTrust_2 : cX5_moreTrust.data.toList.drop 47 = dktX5_moreTrust_2 := dk_seg dksX5_moreTrust_1 23 rfl rfl
theorem dksX5_moreTrust_3 : cX5_moreTrust.data.toList.drop 69 = dktX5_moreTrust_3 := dk_seg dksX5_moreTrust_2 22 rfl rfl
theorem dksX5_moreTrust_4 : cX5_moreTrust.data.toList.drop 92 = dktX5_moreTrust_4 := dk_seg dksX5_moreTrust_3 23 rfl rfl
theorem dksX5_moreTrust_5 : cX5_moreTrust.data.toList.drop 116 = dktX5_moreTrust_5 := dk_seg dksX5_moreTrust_4 24 rfl rfl
theorem dX5_moreTrust_0 : decode cX5_moreTrust 0 = .ok (.iconst 0, 1) := dk_3 (dk_at dksX5_moreTrust_0 0 rfl rfl)
theorem dX5_moreTrust_1 : decode cX5_moreTrust 1 = .ok (.istore 4, 2) := dk_54 4 (dk_at dksX5_moreTrust_0 1 rfl rfl)
theorem dX5_moreTrust_3 : decode cX5_moreTrust 3 = .ok (.iconst 0, 1) := dk_3 (dk_at dksX5_moreTrust_0 3 rfl rfl)
theorem dX5_moreTrust_4 : decode cX5_moreTrust 4 = .ok (.istore 5, 2) := dk_54 5 (dk_at dksX5_moreTrust_0 4 rfl rfl)
theorem dX5_moreTrust_6 : decode cX5_moreTrust 6 = .ok (.iload 5, 2) := dk_21 5 (dk_at dksX5_moreTrust_0 6 rfl rfl)
theorem dX5_moreTrust_8 : decode cX5_moreTrust 8 = .ok (.iconst 4, 1) := dk_7 (dk_at dksX5_moreTrust_0 8 rfl rfl)
theorem dX5_moreTrust_9 : decode cX5_moreTrust 9 = .ok (.if_icmp .ge 122, 3) := dk_162 0 122 (dk_at dksX5_moreTrust_0 9 rfl rfl)
theorem dX5_moreTrust_12 : decode cX5_moreTrust 12 = .ok (.iconst 2, 1) := dk_5 (dk_at dksX5_moreTrust_0 12 rfl rfl)
theorem dX5_moreTrust_13 : decode cX5_moreTrust 13 = .ok (.istore 6, 2) := dk_54 6 (dk_at dksX5_moreTrust_0 13 rfl rfl)
theorem dX5_moreTrust_15 : decode cX5_moreTrust 15 = .ok (.iconst 0, 1) := dk_3 (dk_at dksX5_moreTrust_0 15 rfl rfl)
theorem dX5_moreTrust_16 : decode cX5_moreTrust 16 = .ok (.istore 7, 2) := dk_54 7 (dk_at dksX5_moreTrust_0 16 rfl rfl)
theorem dX5_moreTrust_18 : decode cX5_moreTrust 18 = .ok (.iload 7, 2) := dk_21 7 (dk_at dksX5_moreTrust_0 18 rfl rfl)
theorem dX5_moreTrust_20 : decode cX5_moreTrust 20 = .ok (.aload_n 0, 1) := dk_42 (dk_at dksX5_moreTrust_0 20 rfl rfl)
theorem dX5_moreTrust_21 : decode cX5_moreTrust 21 = .ok (.getfield 291, 3) := dk_180 1 35 (dk_at dksX5_moreTrust_0 21 rfl rfl)
theorem dX5_moreTrust_24 : decode cX5_moreTrust 24 = .ok (.if_icmp .ge 63, 3) := dk_162 0 63 (dk_at dksX5_moreTrust_1 0 rfl rfl)
theorem dX5_moreTrust_27 : decode cX5_moreTrust 27 = .ok (.aload_n 0, 1) := dk_42 (dk_at dksX5_moreTrust_1 3 rfl rfl)
theorem dX5_moreTrust_28 : decode cX5_moreTrust 28 = .ok (.getfield 57, 3) := dk_180 0 57 (dk_at dksX5_moreTrust_1 4 rfl rfl)
theorem dX5_moreTrust_31 : decode cX5_moreTrust 31 = .ok (.iload 7, 2) := dk_21 7 (dk_at dksX5_moreTrust_1 7 rfl rfl)
theorem dX5_moreTrust_33 : decode cX5_moreTrust 33 = .ok (.iaload, 1) := dk_46 (dk_at dksX5_moreTrust_1 9 rfl rfl)
theorem dX5_moreTrust_34 : decode cX5_moreTrust 34 = .ok (.iload 5, 2) := dk_21 5 (dk_at dksX5_moreTrust_1 10 rfl rfl)
theorem dX5_moreTrust_36 : decode cX5_moreTrust 36 = .ok (.if_icmp .ne 45, 3) := dk_160 0 45 (dk_at dksX5_moreTrust_1 12 rfl rfl)
theorem dX5_moreTrust_39 : decode cX5_moreTrust 39 = .ok (.aload_n 0, 1) := dk_42 (dk_at dksX5_moreTrust_1 15 rfl rfl)
theorem dX5_moreTrust_40 : decode cX5_moreTrust 40 = .ok (.getfield 60, 3) := dk_180 0 60 (dk_at dksX5_moreTrust_1 16 rfl rfl)
theorem dX5_moreTrust_43 : decode cX5_moreTrust 43 = .ok (.iload 7, 2) := dk_21 7 (dk_at dksX5_moreTrust_1 19 rfl rfl)
theorem dX5_moreTrust_45 : decode cX5_moreTrust 45 = .ok (.iaload, 1) := dk_46 (dk_at dksX5_moreTrust_1 21 rfl rfl)
theorem dX5_moreTrust_46 : decode cX5_moreTrust 46 = .ok (.iload_n 1, 1) := dk_27 (dk_at dksX5_moreTrust_1 22 rfl rfl)
theorem dX5_moreTrust_47 : decode cX5_moreTrust 47 = .ok (.if_icmp .ne 34, 3) := dk_160 0 34 (dk_at dksX5_moreTrust_2 0 rfl rfl)
theorem dX5_moreTrust_50 : decode cX5_moreTrust 50 = .ok (.aload_n 0, 1) := dk_42 (dk_at dksX5_moreTrust_2 3 rfl rfl)
theorem dX5_moreTrust_51 : decode cX5_moreTrust 51 = .ok (.getfield 63, 3) := dk_180 0 63 (dk_at dksX5_moreTrust_2 4 rfl rfl)
theorem dX5_moreTrust_54 : decode cX5_moreTrust 54 = .ok (.iload 7, 2) := dk_21 7 (dk_at dksX5_moreTrust_2 7 rfl rfl)
theorem dX5_moreTrust_56 : decode cX5_moreTrust 56 = .ok (.iaload, 1) := dk_46 (dk_at dksX5_moreTrust_2 9 rfl rfl)
theorem dX5_moreTrust_57 : decode cX5_moreTrust 57 = .ok (.iload_n 2, 1) := dk_28 (dk_at dksX5_moreTrust_2 10 rfl rfl)
theorem dX5_moreTrust_58 : decode cX5_moreTrust 58 = .ok (.if_icmp .ne 23, 3) := dk_160 0 23 (dk_at dksX5_moreTrust_2 11 rfl rfl)
theorem dX5_moreTrust_61 : decode cX5_moreTrust 61 = .ok (.aload_n 0, 1) := dk_42 (dk_at dksX5_moreTrust_2 14 rfl rfl)
theorem dX5_moreTrust_62 : decode cX5_moreTrust 62 = .ok (.getfield 69, 3) := dk_180 0 69 (dk_at dksX5_moreTrust_2 15 rfl rfl)
theorem dX5_moreTrust_65 : decode cX5_moreTrust 65 = .ok (.iload 7, 2) := dk_21 7 (dk_at dksX5_moreTrust_2 18 rfl rfl)
theorem dX5_moreTrust_67 : decode cX5_moreTrust 67 = .ok (.iaload, 1) := dk_46 (dk_at dksX5_moreTrust_2 20 rfl rfl)
theorem dX5_moreTrust_68 : decode cX5_moreTrust 68 = .ok (.iload_n 3, 1) := dk_29 (dk_at dksX5_moreTrust_2 21 rfl rfl)
theorem dX5_moreTrust_69 : decode cX5_moreTrust 69 = .ok (.if_icmp .gt 12, 3) := dk_163 0 12 (dk_at dksX5_moreTrust_3 0 rfl rfl)
theorem dX5_moreTrust_72 : decode cX5_moreTrust 72 = .ok (.aload_n 0, 1) := dk_42 (dk_at dksX5_moreTrust_3 3 rfl rfl)
theorem dX5_moreTrust_73 : decode cX5_moreTrust 73 = .ok (.getfield 66, 3) := dk_180 0 66 (dk_at dksX5_moreTrust_3 4 rfl rfl)
theorem dX5_moreTrust_76 : decode cX5_moreTrust 76 = .ok (.iload 7, 2) := dk_21 7 (dk_at dksX5_moreTrust_3 7 rfl rfl)
theorem dX5_moreTrust_78 : decode cX5_moreTrust 78 = .ok (.iaload, 1) := dk_46 (dk_at dksX5_moreTrust_3 9 rfl rfl)
theorem dX5_moreTrust_79 : decode cX5_moreTrust 79 = .ok (.istore 6, 2) := dk_54 6 (dk_at dksX5_moreTrust_3 10 rfl rfl)
theorem dX5_moreTrust_81 : decode cX5_moreTrust 81 = .ok (.iinc 7 1, 3) := dk_132 7 1 (dk_at dksX5_moreTrust_3 12 rfl rfl)
theorem dX5_moreTrust_84 : decode cX5_moreTrust 84 = .ok (.goto (-66), 3) := dk_167 255 190 (dk_at dksX5_moreTrust_3 15 rfl rfl)
theorem dX5_moreTrust_87 : decode cX5_moreTrust 87 = .ok (.iload 4, 2) := dk_21 4 (dk_at dksX5_moreTrust_3 18 rfl rfl)
theorem dX5_moreTrust_89 : decode cX5_moreTrust 89 = .ok (.iload 6, 2) := dk_21 6 (dk_at dksX5_moreTrust_3 20 rfl rfl)
theorem dX5_moreTrust_91 : decode cX5_moreTrust 91 = .ok (.iconst 1, 1) := dk_4 (dk_at dksX5_moreTrust_3 22 rfl rfl)
theorem dX5_moreTrust_92 : decode cX5_moreTrust 92 = .ok (.if_icmp .ne 13, 3) := dk_160 0 13 (dk_at dksX5_moreTrust_4 0 rfl rfl)
theorem dX5_moreTrust_95 : decode cX5_moreTrust 95 = .ok (.aload_n 0, 1) := dk_42 (dk_at dksX5_moreTrust_4 3 rfl rfl)
theorem dX5_moreTrust_96 : decode cX5_moreTrust 96 = .ok (.getfield 54, 3) := dk_180 0 54 (dk_at dksX5_moreTrust_4 4 rfl rfl)
theorem dX5_moreTrust_99 : decode cX5_moreTrust 99 = .ok (.iload 5, 2) := dk_21 5 (dk_at dksX5_moreTrust_4 7 rfl rfl)
theorem dX5_moreTrust_101 : decode cX5_moreTrust 101 = .ok (.iaload, 1) := dk_46 (dk_at dksX5_moreTrust_4 9 rfl rfl)
theorem dX5_moreTrust_102 : decode cX5_moreTrust 102 = .ok (.goto 20, 3) := dk_167 0 20 (dk_at dksX5_moreTrust_4 10 rfl rfl)
theorem dX5_moreTrust_105 : decode cX5_moreTrust 105 = .ok (.iload 6, 2) := dk_21 6 (dk_at dksX5_moreTrust_4 13 rfl rfl)
theorem dX5_moreTrust_107 : decode cX5_moreTrust 107 = .ok (.ifCond .ne 14, 3) := dk_154 0 14 (dk_at dksX5_moreTrust_4 15 rfl rfl)
theorem dX5_moreTrust_110 : decode cX5_moreTrust 110 = .ok (.aload_n 0, 1) := dk_42 (dk_at dksX5_moreTrust_4 18 rfl rfl)
theorem dX5_moreTrust_111 : decode cX5_moreTrust 111 = .ok (.getfield 54, 3) := dk_180 0 54 (dk_at dksX5_moreTrust_4 19 rfl rfl)
theorem dX5_moreTrust_114 : decode cX5_moreTrust 114 = .ok (.iload 5, 2) := dk_21 5 (dk_at dksX5_moreTrust_4 22 rfl rfl)
theorem dX5_moreTrust_116 : decode cX5_moreTrust 116 = .ok (.iaload, 1) := dk_46 (dk_at dksX5_moreTrust_5 0 rfl rfl)
theorem dX5_moreTrust_117 : decode cX5_moreTrust 117 = .ok (.ineg, 1) := dk_116 (dk_at dksX5_moreTrust_5 1 rfl rfl)
theorem dX5_moreTrust_118 : decode cX5_moreTrust 118 = .ok (.goto 4, 3) := dk_167 0 4 (dk_at dksX5_moreTrust_5 2 rfl rfl)
theorem dX5_moreTrust_121 : decode cX5_moreTrust 121 = .ok (.iconst 0, 1) := dk_3 (dk_at dksX5_moreTrust_5 5 rfl rfl)
theorem dX5_moreTrust_122 : decode cX5_moreTrust 122 = .ok (.iadd, 1) := dk_96 (dk_at dksX5_moreTrust_5 6 rfl rfl)
theorem dX5_moreTrust_123 : decode cX5_moreTrust 123 = .ok (.istore 4, 2) := dk_54 4 (dk_at dksX5_moreTrust_5 7 rfl rfl)
theorem dX5_moreTrust_125 : decode cX5_moreTrust 125 = .ok (.iinc 5 1, 3) := dk_132 5 1 (dk_at dksX5_moreTrust_5 9 rfl rfl)
theorem dX5_moreTrust_128 : decode cX5_moreTrust 128 = .ok (.goto (-122), 3) := dk_167 255 134 (dk_at dksX5_moreTrust_5 12 rfl rfl)
theorem dX5_moreTrust_131 : decode cX5_moreTrust 131 = .ok (.iload 4, 2) := dk_21 4 (dk_at dksX5_moreTrust_5 15 rfl rfl)
theorem dX5_moreTrust_133 : decode cX5_moreTrust 133 = .ok (.ireturn, 1) := dk_172 (dk_at dksX5_moreTrust_5 17 rfl rfl)
def dkwX5_told_3 : List UInt8 := [16, 8, 27, 104, 28, 96, 104, 29, 96, 46, 172]
abbrev dktX5_told_3 : List UInt8 := dkwX5_told_3 ++ []
def dkwX5_told_2 : List UInt8 := [96, 46, 4, 100, 184, 0, 169, 154, 0, 10, 42, 4, 181, 0, 1, 3, 172, 42, 180, 0, 26, 16, 6]
abbrev dktX5_told_2 : List UInt8 := dkwX5_told_2 ++ dktX5_told_3
def dkwX5_told_1 : List UInt8 := [180, 0, 20, 27, 46, 4, 100, 184, 0, 169, 153, 0, 24, 29, 3, 42, 180, 0, 23, 16, 8, 27, 104, 28]
abbrev dktX5_told_1 : List UInt8 := dkwX5_told_1 ++ dktX5_told_2
def dkwX5_told_0 : List UInt8 := [42, 3, 181, 0, 1, 27, 3, 42, 180, 0, 243, 4, 100, 184, 0, 169, 153, 0, 40, 28, 3, 42]
abbrev dktX5_told_0 : List UInt8 := dkwX5_told_0 ++ dktX5_told_1
theorem dksX5_told_0 : cX5_told.data.toList.drop 0 = dktX5_told_0 := by decide +kernel
theorem dksX5_told_1 : cX5_told.data.toList.drop 22 = dktX5_told_1 := dk_seg dksX5_told_0 22 rfl rfl
theorem dksX5_told_2 : cX5_told.data.toList.drop 46 = dktX5_told_2 := dk_seg dksX5_told_1 24 rfl rfl
theorem dksX5_told_3 : cX5_told.data.toList.drop 69 = dktX5_told_3 := dk_seg dksX5_told_2 23 rfl rfl
theorem dX5_told_0 : decode cX5_told 0 = .ok (.aload_n 0, 1) := dk_42 (dk_at dksX5_told_0 0 rfl rfl)
theorem dX5_told_1 : decode cX5_told 1 = .ok (.iconst 0, 1) := dk_3 (dk_at dksX5_told_0 1 rfl rfl)
theorem dX5_told_2 : decode cX5_told 2 = .ok (.putfield 1, 3) := dk_181 0 1 (dk_at dksX5_told_0 2 rfl rfl)
theorem dX5_told_5 : decode cX5_told 5 = .ok (.iload_n 1, 1) := dk_27 (dk_at dksX5_told_0 5 rfl rfl)
theorem dX5_told_6 : decode cX5_told 6 = .ok (.iconst 0, 1) := dk_3 (dk_at dksX5_told_0 6 rfl rfl)
theorem dX5_told_7 : decode cX5_told 7 = .ok (.aload_n 0, 1) := dk_42 (dk_at dksX5_told_0 7 rfl rfl)
theorem dX5_told_8 : decode cX5_told 8 = .ok (.getfield 243, 3) := dk_180 0 243 (dk_at dksX5_told_0 8 rfl rfl)
theorem dX5_told_11 : decode cX5_told 11 = .ok (.iconst 1, 1) := dk_4 (dk_at dksX5_told_0 11 rfl rfl)
theorem dX5_told_12 : decode cX5_told 12 = .ok (.isub, 1) := dk_100 (dk_at dksX5_told_0 12 rfl rfl)
theorem dX5_told_13 : decode cX5_told 13 = .ok (.invokestatic 169, 3) := dk_184 0 169 (dk_at dksX5_told_0 13 rfl rfl)
theorem dX5_told_16 : decode cX5_told 16 = .ok (.ifCond .eq 40, 3) := dk_153 0 40 (dk_at dksX5_told_0 16 rfl rfl)
theorem dX5_told_19 : decode cX5_told 19 = .ok (.iload_n 2, 1) := dk_28 (dk_at dksX5_told_0 19 rfl rfl)
theorem dX5_told_20 : decode cX5_told 20 = .ok (.iconst 0, 1) := dk_3 (dk_at dksX5_told_0 20 rfl rfl)
theorem dX5_told_21 : decode cX5_told 21 = .ok (.aload_n 0, 1) := dk_42 (dk_at dksX5_told_0 21 rfl rfl)
theorem dX5_told_22 : decode cX5_told 22 = .ok (.getfield 20, 3) := dk_180 0 20 (dk_at dksX5_told_1 0 rfl rfl)
theorem dX5_told_25 : decode cX5_told 25 = .ok (.iload_n 1, 1) := dk_27 (dk_at dksX5_told_1 3 rfl rfl)
theorem dX5_told_26 : decode cX5_told 26 = .ok (.iaload, 1) := dk_46 (dk_at dksX5_told_1 4 rfl rfl)
theorem dX5_told_27 : decode cX5_told 27 = .ok (.iconst 1, 1) := dk_4 (dk_at dksX5_told_1 5 rfl rfl)
theorem dX5_told_28 : decode cX5_told 28 = .ok (.isub, 1) := dk_100 (dk_at dksX5_told_1 6 rfl rfl)
theorem dX5_told_29 : decode cX5_told 29 = .ok (.invokestatic 169, 3) := dk_184 0 169 (dk_at dksX5_told_1 7 rfl rfl)
theorem dX5_told_32 : decode cX5_told 32 = .ok (.ifCond .eq 24, 3) := dk_153 0 24 (dk_at dksX5_told_1 10 rfl rfl)
theorem dX5_told_35 : decode cX5_told 35 = .ok (.iload_n 3, 1) := dk_29 (dk_at dksX5_told_1 13 rfl rfl)
theorem dX5_told_36 : decode cX5_told 36 = .ok (.iconst 0, 1) := dk_3 (dk_at dksX5_told_1 14 rfl rfl)
theorem dX5_told_37 : decode cX5_told 37 = .ok (.aload_n 0, 1) := dk_42 (dk_at dksX5_told_1 15 rfl rfl)
theorem dX5_told_38 : decode cX5_told 38 = .ok (.getfield 23, 3) := dk_180 0 23 (dk_at dksX5_told_1 16 rfl rfl)
theorem dX5_told_41 : decode cX5_told 41 = .ok (.bipush 8, 2) := dk_16 8 (dk_at dksX5_told_1 19 rfl rfl)
theorem dX5_told_43 : decode cX5_told 43 = .ok (.iload_n 1, 1) := dk_27 (dk_at dksX5_told_1 21 rfl rfl)
theorem dX5_told_44 : decode cX5_told 44 = .ok (.imul, 1) := dk_104 (dk_at dksX5_told_1 22 rfl rfl)
theorem dX5_told_45 : decode cX5_told 45 = .ok (.iload_n 2, 1) := dk_28 (dk_at dksX5_told_1 23 rfl rfl)
theorem dX5_told_46 : decode cX5_told 46 = .ok (.iadd, 1) := dk_96 (dk_at dksX5_told_2 0 rfl rfl)
theorem dX5_told_47 : decode cX5_told 47 = .ok (.iaload, 1) := dk_46 (dk_at dksX5_told_2 1 rfl rfl)
theorem dX5_told_48 : decode cX5_told 48 = .ok (.iconst 1, 1) := dk_4 (dk_at dksX5_told_2 2 rfl rfl)
theorem dX5_told_49 : decode cX5_told 49 = .ok (.isub, 1) := dk_100 (dk_at dksX5_told_2 3 rfl rfl)
theorem dX5_told_50 : decode cX5_told 50 = .ok (.invokestatic 169, 3) := dk_184 0 169 (dk_at dksX5_told_2 4 rfl rfl)
theorem dX5_told_53 : decode cX5_told 53 = .ok (.ifCond .ne 10, 3) := dk_154 0 10 (dk_at dksX5_told_2 7 rfl rfl)
theorem dX5_told_56 : decode cX5_told 56 = .ok (.aload_n 0, 1) := dk_42 (dk_at dksX5_told_2 10 rfl rfl)
theorem dX5_told_57 : decode cX5_told 57 = .ok (.iconst 1, 1) := dk_4 (dk_at dksX5_told_2 11 rfl rfl)
theorem dX5_told_58 : decode cX5_told 58 = .ok (.putfield 1, 3) := dk_181 0 1 (dk_at dksX5_told_2 12 rfl rfl)
theorem dX5_told_61 : decode cX5_told 61 = .ok (.iconst 0, 1) := dk_3 (dk_at dksX5_told_2 15 rfl rfl)
theorem dX5_told_62 : decode cX5_told 62 = .ok (.ireturn, 1) := dk_172 (dk_at dksX5_told_2 16 rfl rfl)
theorem dX5_told_63 : decode cX5_told 63 = .ok (.aload_n 0, 1) := dk_42 (dk_at dksX5_told_2 17 rfl rfl)
theorem dX5_told_64 : decode cX5_told 64 = .ok (.getfield 26, 3) := dk_180 0 26 (dk_at dksX5_told_2 18 rfl rfl)
theorem dX5_told_67 : decode cX5_told 67 = .ok (.bipush 6, 2) := dk_16 6 (dk_at dksX5_told_2 21 rfl rfl)
theorem dX5_told_69 : decode cX5_told 69 = .ok (.bipush 8, 2) := dk_16 8 (dk_at dksX5_told_3 0 rfl rfl)
theorem dX5_told_71 : decode cX5_told 71 = .ok (.iload_n 1, 1) := dk_27 (dk_at dksX5_told_3 2 rfl rfl)
theorem dX5_told_72 : decode cX5_told 72 = .ok (.imul, 1) := dk_104 (dk_at dksX5_told_3 3 rfl rfl)
theorem dX5_told_73 : decode cX5_told 73 = .ok (.iload_n 2, 1) := dk_28 (dk_at dksX5_told_3 4 rfl rfl)
theorem dX5_told_74 : decode cX5_told 74 = .ok (.iadd, 1) := dk_96 (dk_at dksX5_told_3 5 rfl rfl)
theorem dX5_told_75 : decode cX5_told 75 = .ok (.imul, 1) := dk_104 (dk_at dksX5_told_3 6 rfl rfl)
theorem dX5_told_76 : decode cX5_told 76 = .ok (.iload_n 3, 1) := dk_29 (dk_at dksX5_told_3 7 rfl rfl)
theorem dX5_told_77 : decode cX5_told 77 = .ok (.iadd, 1) := dk_96 (dk_at dksX5_told_3 8 rfl rfl)
theorem dX5_told_78 : decode cX5_told 78 = .ok (.iaload, 1) := dk_46 (dk_at dksX5_told_3 9 rfl rfl)
theorem dX5_told_79 : decode cX5_told 79 = .ok (.ireturn, 1) := dk_172 (dk_at dksX5_told_3 10 rfl rfl)
def dkwX5_share_5 : List UInt8 := [181, 1, 48, 42, 180, 1, 48, 4, 100, 172]
abbrev dktX5_share_5 : List UInt8 := dkwX5_share_5 ++ []
def dkwX5_share_4 : List UInt8 := [42, 180, 0, 173, 79, 42, 180, 0, 91, 42, 180, 1, 48, 18, 255, 79, 42, 89, 180, 1, 48, 4, 96]
abbrev dktX5_share_4 : List UInt8 := dkwX5_share_4 ++ dktX5_share_5
def dkwX5_share_3 : List UInt8 := [180, 1, 48, 29, 79, 42, 180, 0, 84, 42, 180, 1, 48, 21, 4, 84, 42, 180, 0, 88, 42, 180, 1, 48]
abbrev dktX5_share_3 : List UInt8 := dkwX5_share_3 ++ dktX5_share_4
def dkwX5_share_2 : List UInt8 := [180, 0, 75, 42, 180, 1, 48, 27, 79, 42, 180, 0, 78, 42, 180, 1, 48, 28, 79, 42, 180, 0, 81, 42]
abbrev dktX5_share_2 : List UInt8 := dkwX5_share_2 ++ dktX5_share_3
def dkwX5_share_1 : List UInt8 := [184, 1, 32, 153, 0, 17, 28, 29, 159, 0, 12, 42, 180, 1, 48, 16, 60, 160, 0, 5, 2, 172, 42]
abbrev dktX5_share_1 : List UInt8 := dkwX5_share_1 ++ dktX5_share_2
def dkwX5_share_0 : List UInt8 := [42, 3, 181, 0, 1, 27, 3, 4, 184, 0, 169, 153, 0, 31, 28, 184, 1, 32, 153, 0, 24, 29]
abbrev dktX5_share_0 : List UInt8 := dkwX5_share_0 ++ dktX5_share_1
theorem dksX5_share_0 : cX5_share.data.toList.drop 0 = dktX5_share_0 := by decide +kernel
theorem dksX5_share_1 : cX5_share.data.toList.drop 22 = dktX5_share_1 := dk_seg dksX5_share_0 22 rfl rfl
theorem dksX5_share_2 : cX5_share.data.toList.drop 45 = dktX5_share_2 := dk_seg dksX5_share_1 23 rfl rfl
theorem dksX5_share_3 : cX5_share.data.toList.drop 69 = dktX5_share_3 := dk_seg dksX5_share_2 24 rfl rfl
theorem dksX5_share_4 : cX5_share.data.toList.drop 93 = dktX5_share_4 := dk_seg dksX5_share_3 24 rfl rfl
theorem dksX5_share_5 : cX5_share.data.toList.drop 116 = dktX5_share_5 := dk_seg dksX5_share_4 23 rfl rfl
theorem dX5_share_0 : decode cX5_share 0 = .ok (.aload_n 0, 1) := dk_42 (dk_at dksX5_share_0 0 rfl rfl)
theorem dX5_share_1 : decode cX5_share 1 = .ok (.iconst 0, 1) := dk_3 (dk_at dksX5_share_0 1 rfl rfl)
theorem dX5_share_2 : decode cX5_share 2 = .ok (.putfield 1, 3) := dk_181 0 1 (dk_at dksX5_share_0 2 rfl rfl)
theorem dX5_share_5 : decode cX5_share 5 = .ok (.iload_n 1, 1) := dk_27 (dk_at dksX5_share_0 5 rfl rfl)
theorem dX5_share_6 : decode cX5_share 6 = .ok (.iconst 0, 1) := dk_3 (dk_at dksX5_share_0 6 rfl rfl)
theorem dX5_share_7 : decode cX5_share 7 = .ok (.iconst 1, 1) := dk_4 (dk_at dksX5_share_0 7 rfl rfl)
theorem dX5_share_8 : decode cX5_share 8 = .ok (.invokestatic 169, 3) := dk_184 0 169 (dk_at dksX5_share_0 8 rfl rfl)
theorem dX5_share_11 : decode cX5_share 11 = .ok (.ifCond .eq 31, 3) := dk_153 0 31 (dk_at dksX5_share_0 11 rfl rfl)
theorem dX5_share_14 : decode cX5_share 14 = .ok (.iload_n 2, 1) := dk_28 (dk_at dksX5_share_0 14 rfl rfl)
theorem dX5_share_15 : decode cX5_share 15 = .ok (.invokestatic 288, 3) := dk_184 1 32 (dk_at dksX5_share_0 15 rfl rfl)
theorem dX5_share_18 : decode cX5_share 18 = .ok (.ifCond .eq 24, 3) := dk_153 0 24 (dk_at dksX5_share_0 18 rfl rfl)
theorem dX5_share_21 : decode cX5_share 21 = .ok (.iload_n 3, 1) := dk_29 (dk_at dksX5_share_0 21 rfl rfl)
theorem dX5_share_22 : decode cX5_share 22 = .ok (.invokestatic 288, 3) := dk_184 1 32 (dk_at dksX5_share_1 0 rfl rfl)
theorem dX5_share_25 : decode cX5_share 25 = .ok (.ifCond .eq 17, 3) := dk_153 0 17 (dk_at dksX5_share_1 3 rfl rfl)
theorem dX5_share_28 : decode cX5_share 28 = .ok (.iload_n 2, 1) := dk_28 (dk_at dksX5_share_1 6 rfl rfl)
theorem dX5_share_29 : decode cX5_share 29 = .ok (.iload_n 3, 1) := dk_29 (dk_at dksX5_share_1 7 rfl rfl)
theorem dX5_share_30 : decode cX5_share 30 = .ok (.if_icmp .eq 12, 3) := dk_159 0 12 (dk_at dksX5_share_1 8 rfl rfl)
theorem dX5_share_33 : decode cX5_share 33 = .ok (.aload_n 0, 1) := dk_42 (dk_at dksX5_share_1 11 rfl rfl)
theorem dX5_share_34 : decode cX5_share 34 = .ok (.getfield 304, 3) := dk_180 1 48 (dk_at dksX5_share_1 12 rfl rfl)
theorem dX5_share_37 : decode cX5_share 37 = .ok (.bipush 60, 2) := dk_16 60 (dk_at dksX5_share_1 15 rfl rfl)
theorem dX5_share_39 : decode cX5_share 39 = .ok (.if_icmp .ne 5, 3) := dk_160 0 5 (dk_at dksX5_share_1 17 rfl rfl)
theorem dX5_share_42 : decode cX5_share 42 = .ok (.iconst (-1), 1) := dk_2 (dk_at dksX5_share_1 20 rfl rfl)
theorem dX5_share_43 : decode cX5_share 43 = .ok (.ireturn, 1) := dk_172 (dk_at dksX5_share_1 21 rfl rfl)
theorem dX5_share_44 : decode cX5_share 44 = .ok (.aload_n 0, 1) := dk_42 (dk_at dksX5_share_1 22 rfl rfl)
theorem dX5_share_45 : decode cX5_share 45 = .ok (.getfield 75, 3) := dk_180 0 75 (dk_at dksX5_share_2 0 rfl rfl)
theorem dX5_share_48 : decode cX5_share 48 = .ok (.aload_n 0, 1) := dk_42 (dk_at dksX5_share_2 3 rfl rfl)
theorem dX5_share_49 : decode cX5_share 49 = .ok (.getfield 304, 3) := dk_180 1 48 (dk_at dksX5_share_2 4 rfl rfl)
theorem dX5_share_52 : decode cX5_share 52 = .ok (.iload_n 1, 1) := dk_27 (dk_at dksX5_share_2 7 rfl rfl)
theorem dX5_share_53 : decode cX5_share 53 = .ok (.iastore, 1) := dk_79 (dk_at dksX5_share_2 8 rfl rfl)
theorem dX5_share_54 : decode cX5_share 54 = .ok (.aload_n 0, 1) := dk_42 (dk_at dksX5_share_2 9 rfl rfl)
theorem dX5_share_55 : decode cX5_share 55 = .ok (.getfield 78, 3) := dk_180 0 78 (dk_at dksX5_share_2 10 rfl rfl)
theorem dX5_share_58 : decode cX5_share 58 = .ok (.aload_n 0, 1) := dk_42 (dk_at dksX5_share_2 13 rfl rfl)
theorem dX5_share_59 : decode cX5_share 59 = .ok (.getfield 304, 3) := dk_180 1 48 (dk_at dksX5_share_2 14 rfl rfl)
theorem dX5_share_62 : decode cX5_share 62 = .ok (.iload_n 2, 1) := dk_28 (dk_at dksX5_share_2 17 rfl rfl)
theorem dX5_share_63 : decode cX5_share 63 = .ok (.iastore, 1) := dk_79 (dk_at dksX5_share_2 18 rfl rfl)
theorem dX5_share_64 : decode cX5_share 64 = .ok (.aload_n 0, 1) := dk_42 (dk_at dksX5_share_2 19 rfl rfl)
theorem dX5_share_65 : decode cX5_share 65 = .ok (.getfield 81, 3) := dk_180 0 81 (dk_at dksX5_share_2 20 rfl rfl)
theorem dX5_share_68 : decode cX5_share 68 = .ok (.aload_n 0, 1) := dk_42 (dk_at dksX5_share_2 23 rfl rfl)
theorem dX5_share_69 : decode cX5_share 69 = .ok (.getfield 304, 3) := dk_180 1 48 (dk_at dksX5_share_3 0 rfl rfl)
theorem dX5_share_72 : decode cX5_share 72 = .ok (.iload_n 3, 1) := dk_29 (dk_at dksX5_share_3 3 rfl rfl)
theorem dX5_share_73 : decode cX5_share 73 = .ok (.iastore, 1) := dk_79 (dk_at dksX5_share_3 4 rfl rfl)
theorem dX5_share_74 : decode cX5_share 74 = .ok (.aload_n 0, 1) := dk_42 (dk_at dksX5_share_3 5 rfl rfl)
theorem dX5_share_75 : decode cX5_share 75 = .ok (.getfield 84, 3) := dk_180 0 84 (dk_at dksX5_share_3 6 rfl rfl)
theorem dX5_share_78 : decode cX5_share 78 = .ok (.aload_n 0, 1) := dk_42 (dk_at dksX5_share_3 9 rfl rfl)
theorem dX5_share_79 : decode cX5_share 79 = .ok (.getfield 304, 3) := dk_180 1 48 (dk_at dksX5_share_3 10 rfl rfl)
theorem dX5_share_82 : decode cX5_share 82 = .ok (.iload 4, 2) := dk_21 4 (dk_at dksX5_share_3 13 rfl rfl)
theorem dX5_share_84 : decode cX5_share 84 = .ok (.bastore, 1) := dk_84 (dk_at dksX5_share_3 15 rfl rfl)
theorem dX5_share_85 : decode cX5_share 85 = .ok (.aload_n 0, 1) := dk_42 (dk_at dksX5_share_3 16 rfl rfl)
theorem dX5_share_86 : decode cX5_share 86 = .ok (.getfield 88, 3) := dk_180 0 88 (dk_at dksX5_share_3 17 rfl rfl)
theorem dX5_share_89 : decode cX5_share 89 = .ok (.aload_n 0, 1) := dk_42 (dk_at dksX5_share_3 20 rfl rfl)
theorem dX5_share_90 : decode cX5_share 90 = .ok (.getfield 304, 3) := dk_180 1 48 (dk_at dksX5_share_3 21 rfl rfl)
theorem dX5_share_93 : decode cX5_share 93 = .ok (.aload_n 0, 1) := dk_42 (dk_at dksX5_share_4 0 rfl rfl)
theorem dX5_share_94 : decode cX5_share 94 = .ok (.getfield 173, 3) := dk_180 0 173 (dk_at dksX5_share_4 1 rfl rfl)
theorem dX5_share_97 : decode cX5_share 97 = .ok (.iastore, 1) := dk_79 (dk_at dksX5_share_4 4 rfl rfl)
theorem dX5_share_98 : decode cX5_share 98 = .ok (.aload_n 0, 1) := dk_42 (dk_at dksX5_share_4 5 rfl rfl)
theorem dX5_share_99 : decode cX5_share 99 = .ok (.getfield 91, 3) := dk_180 0 91 (dk_at dksX5_share_4 6 rfl rfl)
theorem dX5_share_102 : decode cX5_share 102 = .ok (.aload_n 0, 1) := dk_42 (dk_at dksX5_share_4 9 rfl rfl)
theorem dX5_share_103 : decode cX5_share 103 = .ok (.getfield 304, 3) := dk_180 1 48 (dk_at dksX5_share_4 10 rfl rfl)
theorem dX5_share_106 : decode cX5_share 106 = .ok (.ldc 255, 2) := dk_18 255 (dk_at dksX5_share_4 13 rfl rfl)
theorem dX5_share_108 : decode cX5_share 108 = .ok (.iastore, 1) := dk_79 (dk_at dksX5_share_4 15 rfl rfl)
theorem dX5_share_109 : decode cX5_share 109 = .ok (.aload_n 0, 1) := dk_42 (dk_at dksX5_share_4 16 rfl rfl)
theorem dX5_share_110 : decode cX5_share 110 = .ok (.dup, 1) := dk_89 (dk_at dksX5_share_4 17 rfl rfl)
theorem dX5_share_111 : decode cX5_share 111 = .ok (.getfield 304, 3) := dk_180 1 48 (dk_at dksX5_share_4 18 rfl rfl)
theorem dX5_share_114 : decode cX5_share 114 = .ok (.iconst 1, 1) := dk_4 (dk_at dksX5_share_4 21 rfl rfl)
theorem dX5_share_115 : decode cX5_share 115 = .ok (.iadd, 1) := dk_96 (dk_at dksX5_share_4 22 rfl rfl)
theorem dX5_share_116 : decode cX5_share 116 = .ok (.putfield 304, 3) := dk_181 1 48 (dk_at dksX5_share_5 0 rfl rfl)
theorem dX5_share_119 : decode cX5_share 119 = .ok (.aload_n 0, 1) := dk_42 (dk_at dksX5_share_5 3 rfl rfl)
theorem dX5_share_120 : decode cX5_share 120 = .ok (.getfield 304, 3) := dk_180 1 48 (dk_at dksX5_share_5 4 rfl rfl)
theorem dX5_share_123 : decode cX5_share 123 = .ok (.iconst 1, 1) := dk_4 (dk_at dksX5_share_5 7 rfl rfl)
theorem dX5_share_124 : decode cX5_share 124 = .ok (.isub, 1) := dk_100 (dk_at dksX5_share_5 8 rfl rfl)
theorem dX5_share_125 : decode cX5_share 125 = .ok (.ireturn, 1) := dk_172 (dk_at dksX5_share_5 9 rfl rfl)
def dkwX5_pairs_5 : List UInt8 := [27, 96, 42, 180, 0, 72, 28, 46, 42, 180, 0, 72, 29, 46, 182, 1, 76, 172]
abbrev dktX5_pairs_5 : List UInt8 := dkwX5_pairs_5 ++ []
def dkwX5_pairs_4 : List UInt8 := [180, 0, 72, 28, 46, 42, 180, 0, 72, 29, 46, 160, 0, 7, 3, 167, 0, 26, 42, 16, 12, 21, 5, 104]
abbrev dktX5_pairs_4 : List UInt8 := dkwX5_pairs_4 ++ dktX5_pairs_5
def dkwX5_pairs_3 : List UInt8 := [21, 4, 182, 1, 73, 42, 180, 0, 35, 16, 12, 21, 5, 104, 27, 96, 46, 4, 163, 0, 18, 42]
abbrev dktX5_pairs_3 : List UInt8 := dkwX5_pairs_3 ++ dktX5_pairs_4
def dkwX5_pairs_2 : List UInt8 := [42, 180, 0, 32, 21, 5, 46, 4, 100, 184, 0, 169, 154, 0, 5, 2, 172, 42, 21, 4, 182, 1, 45, 42]
abbrev dktX5_pairs_2 : List UInt8 := dkwX5_pairs_2 ++ dktX5_pairs_3
def dkwX5_pairs_1 : List UInt8 := [182, 1, 42, 154, 0, 5, 2, 172, 42, 21, 4, 182, 1, 70, 54, 5, 21, 5, 2, 159, 0, 20, 27, 3]
abbrev dktX5_pairs_1 : List UInt8 := dkwX5_pairs_1 ++ dktX5_pairs_2
def dkwX5_pairs_0 : List UInt8 := [42, 3, 181, 0, 1, 28, 184, 1, 32, 153, 0, 19, 29, 184, 1, 32, 153, 0, 12, 42, 21, 4]
abbrev dktX5_pairs_0 : List UInt8 := dkwX5_pairs_0 ++ dktX5_pairs_1
theorem dksX5_pairs_0 : cX5_pairs.data.toList.drop 0 = dktX5_pairs_0 := by decide +kernel
theorem dksX5_pairs_1 : cX5_pairs.data.toList.drop 22 = dktX5_pairs_1 := dk_seg dksX5_pairs_0 22 rfl rfl
theorem dksX5_pairs_2 : cX5_pairs.data.toList.drop 46 = dktX5_pairs_2 := dk_seg dksX5_pairs_1 24 rfl rfl
theorem dksX5_pairs_3 : cX5_pairs.data.toList.drop 70 = dktX5_pairs_3 := dk_seg dksX5_pairs_2 24 rfl rfl
theorem dksX5_pairs_4 : cX5_pairs.data.toList.drop 92 = dktX5_pairs_4 := dk_seg dksX5_pairs_3 22 rfl rfl
theorem dksX5_pairs_5 : cX5_pairs.data.toList.drop 116 = dktX5_pairs_5 := dk_seg dksX5_pairs_4 24 rfl rfl
theorem dX5_pairs_0 : decode cX5_pairs 0 = .ok (.aload_n 0, 1) := dk_42 (dk_at dksX5_pairs_0 0 rfl rfl)
theorem dX5_pairs_1 : decode cX5_pairs 1 = .ok (.iconst 0, 1) := dk_3 (dk_at dksX5_pairs_0 1 rfl rfl)
theorem dX5_pairs_2 : decode cX5_pairs 2 = .ok (.putfield 1, 3) := dk_181 0 1 (dk_at dksX5_pairs_0 2 rfl rfl)
theorem dX5_pairs_5 : decode cX5_pairs 5 = .ok (.iload_n 2, 1) := dk_28 (dk_at dksX5_pairs_0 5 rfl rfl)
theorem dX5_pairs_6 : decode cX5_pairs 6 = .ok (.invokestatic 288, 3) := dk_184 1 32 (dk_at dksX5_pairs_0 6 rfl rfl)
theorem dX5_pairs_9 : decode cX5_pairs 9 = .ok (.ifCond .eq 19, 3) := dk_153 0 19 (dk_at dksX5_pairs_0 9 rfl rfl)
theorem dX5_pairs_12 : decode cX5_pairs 12 = .ok (.iload_n 3, 1) := dk_29 (dk_at dksX5_pairs_0 12 rfl rfl)
theorem dX5_pairs_13 : decode cX5_pairs 13 = .ok (.invokestatic 288, 3) := dk_184 1 32 (dk_at dksX5_pairs_0 13 rfl rfl)
theorem dX5_pairs_16 : decode cX5_pairs 16 = .ok (.ifCond .eq 12, 3) := dk_153 0 12 (dk_at dksX5_pairs_0 16 rfl rfl)
theorem dX5_pairs_19 : decode cX5_pairs 19 = .ok (.aload_n 0, 1) := dk_42 (dk_at dksX5_pairs_0 19 rfl rfl)
theorem dX5_pairs_20 : decode cX5_pairs 20 = .ok (.iload 4, 2) := dk_21 4 (dk_at dksX5_pairs_0 20 rfl rfl)
theorem dX5_pairs_22 : decode cX5_pairs 22 = .ok (.invokevirtual 298, 3) := dk_182 1 42 (dk_at dksX5_pairs_1 0 rfl rfl)
theorem dX5_pairs_25 : decode cX5_pairs 25 = .ok (.ifCond .ne 5, 3) := dk_154 0 5 (dk_at dksX5_pairs_1 3 rfl rfl)
theorem dX5_pairs_28 : decode cX5_pairs 28 = .ok (.iconst (-1), 1) := dk_2 (dk_at dksX5_pairs_1 6 rfl rfl)
theorem dX5_pairs_29 : decode cX5_pairs 29 = .ok (.ireturn, 1) := dk_172 (dk_at dksX5_pairs_1 7 rfl rfl)
theorem dX5_pairs_30 : decode cX5_pairs 30 = .ok (.aload_n 0, 1) := dk_42 (dk_at dksX5_pairs_1 8 rfl rfl)
theorem dX5_pairs_31 : decode cX5_pairs 31 = .ok (.iload 4, 2) := dk_21 4 (dk_at dksX5_pairs_1 9 rfl rfl)
theorem dX5_pairs_33 : decode cX5_pairs 33 = .ok (.invokevirtual 326, 3) := dk_182 1 70 (dk_at dksX5_pairs_1 11 rfl rfl)
theorem dX5_pairs_36 : decode cX5_pairs 36 = .ok (.istore 5, 2) := dk_54 5 (dk_at dksX5_pairs_1 14 rfl rfl)
theorem dX5_pairs_38 : decode cX5_pairs 38 = .ok (.iload 5, 2) := dk_21 5 (dk_at dksX5_pairs_1 16 rfl rfl)
theorem dX5_pairs_40 : decode cX5_pairs 40 = .ok (.iconst (-1), 1) := dk_2 (dk_at dksX5_pairs_1 18 rfl rfl)
theorem dX5_pairs_41 : decode cX5_pairs 41 = .ok (.if_icmp .eq 20, 3) := dk_159 0 20 (dk_at dksX5_pairs_1 19 rfl rfl)
theorem dX5_pairs_44 : decode cX5_pairs 44 = .ok (.iload_n 1, 1) := dk_27 (dk_at dksX5_pairs_1 22 rfl rfl)
theorem dX5_pairs_45 : decode cX5_pairs 45 = .ok (.iconst 0, 1) := dk_3 (dk_at dksX5_pairs_1 23 rfl rfl)
theorem dX5_pairs_46 : decode cX5_pairs 46 = .ok (.aload_n 0, 1) := dk_42 (dk_at dksX5_pairs_2 0 rfl rfl)
theorem dX5_pairs_47 : decode cX5_pairs 47 = .ok (.getfield 32, 3) := dk_180 0 32 (dk_at dksX5_pairs_2 1 rfl rfl)
theorem dX5_pairs_50 : decode cX5_pairs 50 = .ok (.iload 5, 2) := dk_21 5 (dk_at dksX5_pairs_2 4 rfl rfl)
theorem dX5_pairs_52 : decode cX5_pairs 52 = .ok (.iaload, 1) := dk_46 (dk_at dksX5_pairs_2 6 rfl rfl)
theorem dX5_pairs_53 : decode cX5_pairs 53 = .ok (.iconst 1, 1) := dk_4 (dk_at dksX5_pairs_2 7 rfl rfl)
theorem dX5_pairs_54 : decode cX5_pairs 54 = .ok (.isub, 1) := dk_100 (dk_at dksX5_pairs_2 8 rfl rfl)
theorem dX5_pairs_55 : decode cX5_pairs 55 = .ok (.invokestatic 169, 3) := dk_184 0 169 (dk_at dksX5_pairs_2 9 rfl rfl)
theorem dX5_pairs_58 : decode cX5_pairs 58 = .ok (.ifCond .ne 5, 3) := dk_154 0 5 (dk_at dksX5_pairs_2 12 rfl rfl)
theorem dX5_pairs_61 : decode cX5_pairs 61 = .ok (.iconst (-1), 1) := dk_2 (dk_at dksX5_pairs_2 15 rfl rfl)
theorem dX5_pairs_62 : decode cX5_pairs 62 = .ok (.ireturn, 1) := dk_172 (dk_at dksX5_pairs_2 16 rfl rfl)
theorem dX5_pairs_63 : decode cX5_pairs 63 = .ok (.aload_n 0, 1) := dk_42 (dk_at dksX5_pairs_2 17 rfl rfl)
theorem dX5_pairs_64 : decode cX5_pairs 64 = .ok (.iload 4, 2) := dk_21 4 (dk_at dksX5_pairs_2 18 rfl rfl)
theorem dX5_pairs_66 : decode cX5_pairs 66 = .ok (.invokevirtual 301, 3) := dk_182 1 45 (dk_at dksX5_pairs_2 20 rfl rfl)
theorem dX5_pairs_69 : decode cX5_pairs 69 = .ok (.aload_n 0, 1) := dk_42 (dk_at dksX5_pairs_2 23 rfl rfl)
theorem dX5_pairs_70 : decode cX5_pairs 70 = .ok (.iload 4, 2) := dk_21 4 (dk_at dksX5_pairs_3 0 rfl rfl)
theorem dX5_pairs_72 : decode cX5_pairs 72 = .ok (.invokevirtual 329, 3) := dk_182 1 73 (dk_at dksX5_pairs_3 2 rfl rfl)
theorem dX5_pairs_75 : decode cX5_pairs 75 = .ok (.aload_n 0, 1) := dk_42 (dk_at dksX5_pairs_3 5 rfl rfl)
theorem dX5_pairs_76 : decode cX5_pairs 76 = .ok (.getfield 35, 3) := dk_180 0 35 (dk_at dksX5_pairs_3 6 rfl rfl)
theorem dX5_pairs_79 : decode cX5_pairs 79 = .ok (.bipush 12, 2) := dk_16 12 (dk_at dksX5_pairs_3 9 rfl rfl)
theorem dX5_pairs_81 : decode cX5_pairs 81 = .ok (.iload 5, 2) := dk_21 5 (dk_at dksX5_pairs_3 11 rfl rfl)
theorem dX5_pairs_83 : decode cX5_pairs 83 = .ok (.imul, 1) := dk_104 (dk_at dksX5_pairs_3 13 rfl rfl)
theorem dX5_pairs_84 : decode cX5_pairs 84 = .ok (.iload_n 1, 1) := dk_27 (dk_at dksX5_pairs_3 14 rfl rfl)
theorem dX5_pairs_85 : decode cX5_pairs 85 = .ok (.iadd, 1) := dk_96 (dk_at dksX5_pairs_3 15 rfl rfl)
theorem dX5_pairs_86 : decode cX5_pairs 86 = .ok (.iaload, 1) := dk_46 (dk_at dksX5_pairs_3 16 rfl rfl)
theorem dX5_pairs_87 : decode cX5_pairs 87 = .ok (.iconst 1, 1) := dk_4 (dk_at dksX5_pairs_3 17 rfl rfl)
theorem dX5_pairs_88 : decode cX5_pairs 88 = .ok (.if_icmp .gt 18, 3) := dk_163 0 18 (dk_at dksX5_pairs_3 18 rfl rfl)
theorem dX5_pairs_91 : decode cX5_pairs 91 = .ok (.aload_n 0, 1) := dk_42 (dk_at dksX5_pairs_3 21 rfl rfl)
theorem dX5_pairs_92 : decode cX5_pairs 92 = .ok (.getfield 72, 3) := dk_180 0 72 (dk_at dksX5_pairs_4 0 rfl rfl)
theorem dX5_pairs_95 : decode cX5_pairs 95 = .ok (.iload_n 2, 1) := dk_28 (dk_at dksX5_pairs_4 3 rfl rfl)
theorem dX5_pairs_96 : decode cX5_pairs 96 = .ok (.iaload, 1) := dk_46 (dk_at dksX5_pairs_4 4 rfl rfl)
theorem dX5_pairs_97 : decode cX5_pairs 97 = .ok (.aload_n 0, 1) := dk_42 (dk_at dksX5_pairs_4 5 rfl rfl)
theorem dX5_pairs_98 : decode cX5_pairs 98 = .ok (.getfield 72, 3) := dk_180 0 72 (dk_at dksX5_pairs_4 6 rfl rfl)
theorem dX5_pairs_101 : decode cX5_pairs 101 = .ok (.iload_n 3, 1) := dk_29 (dk_at dksX5_pairs_4 9 rfl rfl)
theorem dX5_pairs_102 : decode cX5_pairs 102 = .ok (.iaload, 1) := dk_46 (dk_at dksX5_pairs_4 10 rfl rfl)
theorem dX5_pairs_103 : decode cX5_pairs 103 = .ok (.if_icmp .ne 7, 3) := dk_160 0 7 (dk_at dksX5_pairs_4 11 rfl rfl)
theorem dX5_pairs_106 : decode cX5_pairs 106 = .ok (.iconst 0, 1) := dk_3 (dk_at dksX5_pairs_4 14 rfl rfl)
theorem dX5_pairs_107 : decode cX5_pairs 107 = .ok (.goto 26, 3) := dk_167 0 26 (dk_at dksX5_pairs_4 15 rfl rfl)
theorem dX5_pairs_110 : decode cX5_pairs 110 = .ok (.aload_n 0, 1) := dk_42 (dk_at dksX5_pairs_4 18 rfl rfl)
theorem dX5_pairs_111 : decode cX5_pairs 111 = .ok (.bipush 12, 2) := dk_16 12 (dk_at dksX5_pairs_4 19 rfl rfl)
theorem dX5_pairs_113 : decode cX5_pairs 113 = .ok (.iload 5, 2) := dk_21 5 (dk_at dksX5_pairs_4 21 rfl rfl)
theorem dX5_pairs_115 : decode cX5_pairs 115 = .ok (.imul, 1) := dk_104 (dk_at dksX5_pairs_4 23 rfl rfl)
theorem dX5_pairs_116 : decode cX5_pairs 116 = .ok (.iload_n 1, 1) := dk_27 (dk_at dksX5_pairs_5 0 rfl rfl)
theorem dX5_pairs_117 : decode cX5_pairs 117 = .ok (.iadd, 1) := dk_96 (dk_at dksX5_pairs_5 1 rfl rfl)
theorem dX5_pairs_118 : decode cX5_pairs 118 = .ok (.aload_n 0, 1) := dk_42 (dk_at dksX5_pairs_5 2 rfl rfl)
theorem dX5_pairs_119 : decode cX5_pairs 119 = .ok (.getfield 72, 3) := dk_180 0 72 (dk_at dksX5_pairs_5 3 rfl rfl)
theorem dX5_pairs_122 : decode cX5_pairs 122 = .ok (.iload_n 2, 1) := dk_28 (dk_at dksX5_pairs_5 6 rfl rfl)
theorem dX5_pairs_123 : decode cX5_pairs 123 = .ok (.iaload, 1) := dk_46 (dk_at dksX5_pairs_5 7 rfl rfl)
theorem dX5_pairs_124 : decode cX5_pairs 124 = .ok (.aload_n 0, 1) := dk_42 (dk_at dksX5_pairs_5 8 rfl rfl)
theorem dX5_pairs_125 : decode cX5_pairs 125 = .ok (.getfield 72, 3) := dk_180 0 72 (dk_at dksX5_pairs_5 9 rfl rfl)
theorem dX5_pairs_128 : decode cX5_pairs 128 = .ok (.iload_n 3, 1) := dk_29 (dk_at dksX5_pairs_5 12 rfl rfl)
theorem dX5_pairs_129 : decode cX5_pairs 129 = .ok (.iaload, 1) := dk_46 (dk_at dksX5_pairs_5 13 rfl rfl)
theorem dX5_pairs_130 : decode cX5_pairs 130 = .ok (.invokevirtual 332, 3) := dk_182 1 76 (dk_at dksX5_pairs_5 14 rfl rfl)
theorem dX5_pairs_133 : decode cX5_pairs 133 = .ok (.ireturn, 1) := dk_172 (dk_at dksX5_pairs_5 17 rfl rfl)
def dkwX5_rulesBy_1 : List UInt8 := [132, 3, 1, 167, 255, 233, 28, 172]
abbrev dktX5_rulesBy_1 : List UInt8 := dkwX5_rulesBy_1 ++ []
def dkwX5_rulesBy_0 : List UInt8 := [2, 61, 3, 62, 29, 42, 180, 1, 26, 162, 0, 21, 42, 180, 0, 29, 29, 46, 27, 163, 0, 5, 29, 61]
abbrev dktX5_rulesBy_0 : List UInt8 := dkwX5_rulesBy_0 ++ dktX5_rulesBy_1
theorem dksX5_rulesBy_0 : cX5_rulesBy.data.toList.drop 0 = dktX5_rulesBy_0 := by decide +kernel
theorem dksX5_rulesBy_1 : cX5_rulesBy.data.toList.drop 24 = dktX5_rulesBy_1 := dk_seg dksX5_rulesBy_0 24 rfl rfl
theorem dX5_rulesBy_0 : decode cX5_rulesBy 0 = .ok (.iconst (-1), 1) := dk_2 (dk_at dksX5_rulesBy_0 0 rfl rfl)
theorem dX5_rulesBy_1 : decode cX5_rulesBy 1 = .ok (.istore_n 2, 1) := dk_61 (dk_at dksX5_rulesBy_0 1 rfl rfl)
theorem dX5_rulesBy_2 : decode cX5_rulesBy 2 = .ok (.iconst 0, 1) := dk_3 (dk_at dksX5_rulesBy_0 2 rfl rfl)
theorem dX5_rulesBy_3 : decode cX5_rulesBy 3 = .ok (.istore_n 3, 1) := dk_62 (dk_at dksX5_rulesBy_0 3 rfl rfl)
theorem dX5_rulesBy_4 : decode cX5_rulesBy 4 = .ok (.iload_n 3, 1) := dk_29 (dk_at dksX5_rulesBy_0 4 rfl rfl)
theorem dX5_rulesBy_5 : decode cX5_rulesBy 5 = .ok (.aload_n 0, 1) := dk_42 (dk_at dksX5_rulesBy_0 5 rfl rfl)
theorem dX5_rulesBy_6 : decode cX5_rulesBy 6 = .ok (.getfield 282, 3) := dk_180 1 26 (dk_at dksX5_rulesBy_0 6 rfl rfl)
theorem dX5_rulesBy_9 : decode cX5_rulesBy 9 = .ok (.if_icmp .ge 21, 3) := dk_162 0 21 (dk_at dksX5_rulesBy_0 9 rfl rfl)
theorem dX5_rulesBy_12 : decode cX5_rulesBy 12 = .ok (.aload_n 0, 1) := dk_42 (dk_at dksX5_rulesBy_0 12 rfl rfl)
theorem dX5_rulesBy_13 : decode cX5_rulesBy 13 = .ok (.getfield 29, 3) := dk_180 0 29 (dk_at dksX5_rulesBy_0 13 rfl rfl)
theorem dX5_rulesBy_16 : decode cX5_rulesBy 16 = .ok (.iload_n 3, 1) := dk_29 (dk_at dksX5_rulesBy_0 16 rfl rfl)
theorem dX5_rulesBy_17 : decode cX5_rulesBy 17 = .ok (.iaload, 1) := dk_46 (dk_at dksX5_rulesBy_0 17 rfl rfl)
theorem dX5_rulesBy_18 : decode cX5_rulesBy 18 = .ok (.iload_n 1, 1) := dk_27 (dk_at dksX5_rulesBy_0 18 rfl rfl)
theorem dX5_rulesBy_19 : decode cX5_rulesBy 19 = .ok (.if_icmp .gt 5, 3) := dk_163 0 5 (dk_at dksX5_rulesBy_0 19 rfl rfl)
theorem dX5_rulesBy_22 : decode cX5_rulesBy 22 = .ok (.iload_n 3, 1) := dk_29 (dk_at dksX5_rulesBy_0 22 rfl rfl)
theorem dX5_rulesBy_23 : decode cX5_rulesBy 23 = .ok (.istore_n 2, 1) := dk_61 (dk_at dksX5_rulesBy_0 23 rfl rfl)
theorem dX5_rulesBy_24 : decode cX5_rulesBy 24 = .ok (.iinc 3 1, 3) := dk_132 3 1 (dk_at dksX5_rulesBy_1 0 rfl rfl)
theorem dX5_rulesBy_27 : decode cX5_rulesBy 27 = .ok (.goto (-23), 3) := dk_167 255 233 (dk_at dksX5_rulesBy_1 3 rfl rfl)
theorem dX5_rulesBy_30 : decode cX5_rulesBy 30 = .ok (.iload_n 2, 1) := dk_28 (dk_at dksX5_rulesBy_1 6 rfl rfl)
theorem dX5_rulesBy_31 : decode cX5_rulesBy 31 = .ok (.ireturn, 1) := dk_172 (dk_at dksX5_rulesBy_1 7 rfl rfl)
def dkwX5_findWholes_2 : List UInt8 := [132, 3, 1, 167, 255, 224, 132, 2, 1, 167, 255, 208, 177]
abbrev dktX5_findWholes_2 : List UInt8 := dkwX5_findWholes_2 ++ []
def dkwX5_findWholes_1 : List UInt8 := [162, 0, 28, 42, 28, 27, 182, 1, 58, 153, 0, 19, 42, 16, 8, 28, 104, 29, 96, 182, 1, 61]
abbrev dktX5_findWholes_1 : List UInt8 := dkwX5_findWholes_1 ++ dktX5_findWholes_2
def dkwX5_findWholes_0 : List UInt8 := [42, 3, 181, 1, 51, 3, 61, 28, 42, 180, 0, 243, 162, 0, 46, 3, 62, 29, 42, 180, 0, 20, 28, 46]
abbrev dktX5_findWholes_0 : List UInt8 := dkwX5_findWholes_0 ++ dktX5_findWholes_1
theorem dksX5_findWholes_0 : cX5_findWholes.data.toList.drop 0 = dktX5_findWholes_0 := by decide +kernel
theorem dksX5_findWholes_1 : cX5_findWholes.data.toList.drop 24 = dktX5_findWholes_1 := dk_seg dksX5_findWholes_0 24 rfl rfl
theorem dksX5_findWholes_2 : cX5_findWholes.data.toList.drop 46 = dktX5_findWholes_2 := dk_seg dksX5_findWholes_1 22 rfl rfl
theorem dX5_findWholes_0 : decode cX5_findWholes 0 = .ok (.aload_n 0, 1) := dk_42 (dk_at dksX5_findWholes_0 0 rfl rfl)
theorem dX5_findWholes_1 : decode cX5_findWholes 1 = .ok (.iconst 0, 1) := dk_3 (dk_at dksX5_findWholes_0 1 rfl rfl)
theorem dX5_findWholes_2 : decode cX5_findWholes 2 = .ok (.putfield 307, 3) := dk_181 1 51 (dk_at dksX5_findWholes_0 2 rfl rfl)
theorem dX5_findWholes_5 : decode cX5_findWholes 5 = .ok (.iconst 0, 1) := dk_3 (dk_at dksX5_findWholes_0 5 rfl rfl)
theorem dX5_findWholes_6 : decode cX5_findWholes 6 = .ok (.istore_n 2, 1) := dk_61 (dk_at dksX5_findWholes_0 6 rfl rfl)
theorem dX5_findWholes_7 : decode cX5_findWholes 7 = .ok (.iload_n 2, 1) := dk_28 (dk_at dksX5_findWholes_0 7 rfl rfl)
theorem dX5_findWholes_8 : decode cX5_findWholes 8 = .ok (.aload_n 0, 1) := dk_42 (dk_at dksX5_findWholes_0 8 rfl rfl)
theorem dX5_findWholes_9 : decode cX5_findWholes 9 = .ok (.getfield 243, 3) := dk_180 0 243 (dk_at dksX5_findWholes_0 9 rfl rfl)
theorem dX5_findWholes_12 : decode cX5_findWholes 12 = .ok (.if_icmp .ge 46, 3) := dk_162 0 46 (dk_at dksX5_findWholes_0 12 rfl rfl)
theorem dX5_findWholes_15 : decode cX5_findWholes 15 = .ok (.iconst 0, 1) := dk_3 (dk_at dksX5_findWholes_0 15 rfl rfl)
theorem dX5_findWholes_16 : decode cX5_findWholes 16 = .ok (.istore_n 3, 1) := dk_62 (dk_at dksX5_findWholes_0 16 rfl rfl)
theorem dX5_findWholes_17 : decode cX5_findWholes 17 = .ok (.iload_n 3, 1) := dk_29 (dk_at dksX5_findWholes_0 17 rfl rfl)
theorem dX5_findWholes_18 : decode cX5_findWholes 18 = .ok (.aload_n 0, 1) := dk_42 (dk_at dksX5_findWholes_0 18 rfl rfl)
theorem dX5_findWholes_19 : decode cX5_findWholes 19 = .ok (.getfield 20, 3) := dk_180 0 20 (dk_at dksX5_findWholes_0 19 rfl rfl)
theorem dX5_findWholes_22 : decode cX5_findWholes 22 = .ok (.iload_n 2, 1) := dk_28 (dk_at dksX5_findWholes_0 22 rfl rfl)
theorem dX5_findWholes_23 : decode cX5_findWholes 23 = .ok (.iaload, 1) := dk_46 (dk_at dksX5_findWholes_0 23 rfl rfl)
theorem dX5_findWholes_24 : decode cX5_findWholes 24 = .ok (.if_icmp .ge 28, 3) := dk_162 0 28 (dk_at dksX5_findWholes_1 0 rfl rfl)
theorem dX5_findWholes_27 : decode cX5_findWholes 27 = .ok (.aload_n 0, 1) := dk_42 (dk_at dksX5_findWholes_1 3 rfl rfl)
theorem dX5_findWholes_28 : decode cX5_findWholes 28 = .ok (.iload_n 2, 1) := dk_28 (dk_at dksX5_findWholes_1 4 rfl rfl)
theorem dX5_findWholes_29 : decode cX5_findWholes 29 = .ok (.iload_n 1, 1) := dk_27 (dk_at dksX5_findWholes_1 5 rfl rfl)
theorem dX5_findWholes_30 : decode cX5_findWholes 30 = .ok (.invokevirtual 314, 3) := dk_182 1 58 (dk_at dksX5_findWholes_1 6 rfl rfl)
theorem dX5_findWholes_33 : decode cX5_findWholes 33 = .ok (.ifCond .eq 19, 3) := dk_153 0 19 (dk_at dksX5_findWholes_1 9 rfl rfl)
theorem dX5_findWholes_36 : decode cX5_findWholes 36 = .ok (.aload_n 0, 1) := dk_42 (dk_at dksX5_findWholes_1 12 rfl rfl)
theorem dX5_findWholes_37 : decode cX5_findWholes 37 = .ok (.bipush 8, 2) := dk_16 8 (dk_at dksX5_findWholes_1 13 rfl rfl)
theorem dX5_findWholes_39 : decode cX5_findWholes 39 = .ok (.iload_n 2, 1) := dk_28 (dk_at dksX5_findWholes_1 15 rfl rfl)
theorem dX5_findWholes_40 : decode cX5_findWholes 40 = .ok (.imul, 1) := dk_104 (dk_at dksX5_findWholes_1 16 rfl rfl)
theorem dX5_findWholes_41 : decode cX5_findWholes 41 = .ok (.iload_n 3, 1) := dk_29 (dk_at dksX5_findWholes_1 17 rfl rfl)
theorem dX5_findWholes_42 : decode cX5_findWholes 42 = .ok (.iadd, 1) := dk_96 (dk_at dksX5_findWholes_1 18 rfl rfl)
theorem dX5_findWholes_43 : decode cX5_findWholes 43 = .ok (.invokevirtual 317, 3) := dk_182 1 61 (dk_at dksX5_findWholes_1 19 rfl rfl)
theorem dX5_findWholes_46 : decode cX5_findWholes 46 = .ok (.iinc 3 1, 3) := dk_132 3 1 (dk_at dksX5_findWholes_2 0 rfl rfl)
theorem dX5_findWholes_49 : decode cX5_findWholes 49 = .ok (.goto (-32), 3) := dk_167 255 224 (dk_at dksX5_findWholes_2 3 rfl rfl)
theorem dX5_findWholes_52 : decode cX5_findWholes 52 = .ok (.iinc 2 1, 3) := dk_132 2 1 (dk_at dksX5_findWholes_2 6 rfl rfl)
theorem dX5_findWholes_55 : decode cX5_findWholes 55 = .ok (.goto (-48), 3) := dk_167 255 208 (dk_at dksX5_findWholes_2 9 rfl rfl)
theorem dX5_findWholes_58 : decode cX5_findWholes 58 = .ok (.return_, 1) := dk_177 (dk_at dksX5_findWholes_2 12 rfl rfl)
def dkwX5_tabletCounts_0 : List UInt8 := [42, 180, 0, 13, 27, 46, 42, 180, 0, 17, 27, 46, 28, 184, 0, 177, 172]
abbrev dktX5_tabletCounts_0 : List UInt8 := dkwX5_tabletCounts_0 ++ []
theorem dksX5_tabletCounts_0 : cX5_tabletCounts.data.toList.drop 0 = dktX5_tabletCounts_0 := by decide +kernel
theorem dX5_tabletCounts_0 : decode cX5_tabletCounts 0 = .ok (.aload_n 0, 1) := dk_42 (dk_at dksX5_tabletCounts_0 0 rfl rfl)
theorem dX5_tabletCounts_1 : decode cX5_tabletCounts 1 = .ok (.getfield 13, 3) := dk_180 0 13 (dk_at dksX5_tabletCounts_0 1 rfl rfl)
theorem dX5_tabletCounts_4 : decode cX5_tabletCounts 4 = .ok (.iload_n 1, 1) := dk_27 (dk_at dksX5_tabletCounts_0 4 rfl rfl)
theorem dX5_tabletCounts_5 : decode cX5_tabletCounts 5 = .ok (.iaload, 1) := dk_46 (dk_at dksX5_tabletCounts_0 5 rfl rfl)
theorem dX5_tabletCounts_6 : decode cX5_tabletCounts 6 = .ok (.aload_n 0, 1) := dk_42 (dk_at dksX5_tabletCounts_0 6 rfl rfl)
theorem dX5_tabletCounts_7 : decode cX5_tabletCounts 7 = .ok (.getfield 17, 3) := dk_180 0 17 (dk_at dksX5_tabletCounts_0 7 rfl rfl)
theorem dX5_tabletCounts_10 : decode cX5_tabletCounts 10 = .ok (.iload_n 1, 1) := dk_27 (dk_at dksX5_tabletCounts_0 10 rfl rfl)
theorem dX5_tabletCounts_11 : decode cX5_tabletCounts 11 = .ok (.iaload, 1) := dk_46 (dk_at dksX5_tabletCounts_0 11 rfl rfl)
theorem dX5_tabletCounts_12 : decode cX5_tabletCounts 12 = .ok (.iload_n 2, 1) := dk_28 (dk_at dksX5_tabletCounts_0 12 rfl rfl)
theorem dX5_tabletCounts_13 : decode cX5_tabletCounts 13 = .ok (.invokestatic 177, 3) := dk_184 0 177 (dk_at dksX5_tabletCounts_0 13 rfl rfl)
theorem dX5_tabletCounts_16 : decode cX5_tabletCounts 16 = .ok (.ireturn, 1) := dk_172 (dk_at dksX5_tabletCounts_0 16 rfl rfl)
def dkwX5_counts_0 : List UInt8 := [26, 28, 163, 0, 12, 27, 28, 164, 0, 7, 4, 167, 0, 4, 3, 172]
abbrev dktX5_counts_0 : List UInt8 := dkwX5_counts_0 ++ []
theorem dksX5_counts_0 : cX5_counts.data.toList.drop 0 = dktX5_counts_0 := by decide +kernel
theorem dX5_counts_0 : decode cX5_counts 0 = .ok (.iload_n 0, 1) := dk_26 (dk_at dksX5_counts_0 0 rfl rfl)
theorem dX5_counts_1 : decode cX5_counts 1 = .ok (.iload_n 2, 1) := dk_28 (dk_at dksX5_counts_0 1 rfl rfl)
theorem dX5_counts_2 : decode cX5_counts 2 = .ok (.if_icmp .gt 12, 3) := dk_163 0 12 (dk_at dksX5_counts_0 2 rfl rfl)
theorem dX5_counts_5 : decode cX5_counts 5 = .ok (.iload_n 1, 1) := dk_27 (dk_at dksX5_counts_0 5 rfl rfl)
theorem dX5_counts_6 : decode cX5_counts 6 = .ok (.iload_n 2, 1) := dk_28 (dk_at dksX5_counts_0 6 rfl rfl)
theorem dX5_counts_7 : decode cX5_counts 7 = .ok (.if_icmp .le 7, 3) := dk_164 0 7 (dk_at dksX5_counts_0 7 rfl rfl)
theorem dX5_counts_10 : decode cX5_counts 10 = .ok (.iconst 1, 1) := dk_4 (dk_at dksX5_counts_0 10 rfl rfl)
theorem dX5_counts_11 : decode cX5_counts 11 = .ok (.goto 4, 3) := dk_167 0 4 (dk_at dksX5_counts_0 11 rfl rfl)
theorem dX5_counts_14 : decode cX5_counts 14 = .ok (.iconst 0, 1) := dk_3 (dk_at dksX5_counts_0 14 rfl rfl)
theorem dX5_counts_15 : decode cX5_counts 15 = .ok (.ireturn, 1) := dk_172 (dk_at dksX5_counts_0 15 rfl rfl)
def dkwX5_addWhole_4 : List UInt8 := [153, 0, 4, 177, 132, 2, 1, 167, 255, 232, 42, 89, 180, 1, 51, 4, 96, 181, 1, 51, 177]
abbrev dktX5_addWhole_4 : List UInt8 := dkwX5_addWhole_4 ++ []
def dkwX5_addWhole_3 : List UInt8 := [167, 255, 205, 3, 61, 28, 42, 180, 1, 51, 162, 0, 22, 42, 28, 42, 180, 1, 51, 182, 1, 54]
abbrev dktX5_addWhole_3 : List UInt8 := dkwX5_addWhole_3 ++ dktX5_addWhole_4
def dkwX5_addWhole_2 : List UInt8 := [180, 0, 97, 16, 6, 42, 180, 1, 51, 104, 28, 96, 42, 180, 0, 72, 29, 46, 79, 132, 2, 1]
abbrev dktX5_addWhole_2 : List UInt8 := dkwX5_addWhole_2 ++ dktX5_addWhole_3
def dkwX5_addWhole_1 : List UInt8 := [162, 0, 47, 42, 180, 0, 26, 16, 6, 27, 104, 28, 96, 46, 62, 29, 2, 160, 0, 4, 177, 42]
abbrev dktX5_addWhole_1 : List UInt8 := dkwX5_addWhole_1 ++ dktX5_addWhole_2
def dkwX5_addWhole_0 : List UInt8 := [42, 180, 0, 94, 42, 180, 1, 51, 42, 180, 0, 23, 27, 46, 79, 3, 61, 28, 42, 180, 0, 23, 27, 46]
abbrev dktX5_addWhole_0 : List UInt8 := dkwX5_addWhole_0 ++ dktX5_addWhole_1
theorem dksX5_addWhole_0 : cX5_addWhole.data.toList.drop 0 = dktX5_addWhole_0 := by decide +kernel
theorem dksX5_addWhole_1 : cX5_addWhole.data.toList.drop 24 = dktX5_addWhole_1 := dk_seg dksX5_addWhole_0 24 rfl rfl
theorem dksX5_addWhole_2 : cX5_addWhole.data.toList.drop 46 = dktX5_addWhole_2 := dk_seg dksX5_addWhole_1 22 rfl rfl
theorem dksX5_addWhole_3 : cX5_addWhole.data.toList.drop 68 = dktX5_addWhole_3 := dk_seg dksX5_addWhole_2 22 rfl rfl
theorem dksX5_addWhole_4 : cX5_addWhole.data.toList.drop 90 = dktX5_addWhole_4 := dk_seg dksX5_addWhole_3 22 rfl rfl
theorem dX5_addWhole_0 : decode cX5_addWhole 0 = .ok (.aload_n 0, 1) := dk_42 (dk_at dksX5_addWhole_0 0 rfl rfl)
theorem dX5_addWhole_1 : decode cX5_addWhole 1 = .ok (.getfield 94, 3) := dk_180 0 94 (dk_at dksX5_addWhole_0 1 rfl rfl)
theorem dX5_addWhole_4 : decode cX5_addWhole 4 = .ok (.aload_n 0, 1) := dk_42 (dk_at dksX5_addWhole_0 4 rfl rfl)
theorem dX5_addWhole_5 : decode cX5_addWhole 5 = .ok (.getfield 307, 3) := dk_180 1 51 (dk_at dksX5_addWhole_0 5 rfl rfl)
theorem dX5_addWhole_8 : decode cX5_addWhole 8 = .ok (.aload_n 0, 1) := dk_42 (dk_at dksX5_addWhole_0 8 rfl rfl)
theorem dX5_addWhole_9 : decode cX5_addWhole 9 = .ok (.getfield 23, 3) := dk_180 0 23 (dk_at dksX5_addWhole_0 9 rfl rfl)
theorem dX5_addWhole_12 : decode cX5_addWhole 12 = .ok (.iload_n 1, 1) := dk_27 (dk_at dksX5_addWhole_0 12 rfl rfl)
theorem dX5_addWhole_13 : decode cX5_addWhole 13 = .ok (.iaload, 1) := dk_46 (dk_at dksX5_addWhole_0 13 rfl rfl)
theorem dX5_addWhole_14 : decode cX5_addWhole 14 = .ok (.iastore, 1) := dk_79 (dk_at dksX5_addWhole_0 14 rfl rfl)
theorem dX5_addWhole_15 : decode cX5_addWhole 15 = .ok (.iconst 0, 1) := dk_3 (dk_at dksX5_addWhole_0 15 rfl rfl)
theorem dX5_addWhole_16 : decode cX5_addWhole 16 = .ok (.istore_n 2, 1) := dk_61 (dk_at dksX5_addWhole_0 16 rfl rfl)
theorem dX5_addWhole_17 : decode cX5_addWhole 17 = .ok (.iload_n 2, 1) := dk_28 (dk_at dksX5_addWhole_0 17 rfl rfl)
theorem dX5_addWhole_18 : decode cX5_addWhole 18 = .ok (.aload_n 0, 1) := dk_42 (dk_at dksX5_addWhole_0 18 rfl rfl)
theorem dX5_addWhole_19 : decode cX5_addWhole 19 = .ok (.getfield 23, 3) := dk_180 0 23 (dk_at dksX5_addWhole_0 19 rfl rfl)
theorem dX5_addWhole_22 : decode cX5_addWhole 22 = .ok (.iload_n 1, 1) := dk_27 (dk_at dksX5_addWhole_0 22 rfl rfl)
theorem dX5_addWhole_23 : decode cX5_addWhole 23 = .ok (.iaload, 1) := dk_46 (dk_at dksX5_addWhole_0 23 rfl rfl)
theorem dX5_addWhole_24 : decode cX5_addWhole 24 = .ok (.if_icmp .ge 47, 3) := dk_162 0 47 (dk_at dksX5_addWhole_1 0 rfl rfl)
theorem dX5_addWhole_27 : decode cX5_addWhole 27 = .ok (.aload_n 0, 1) := dk_42 (dk_at dksX5_addWhole_1 3 rfl rfl)
theorem dX5_addWhole_28 : decode cX5_addWhole 28 = .ok (.getfield 26, 3) := dk_180 0 26 (dk_at dksX5_addWhole_1 4 rfl rfl)
theorem dX5_addWhole_31 : decode cX5_addWhole 31 = .ok (.bipush 6, 2) := dk_16 6 (dk_at dksX5_addWhole_1 7 rfl rfl)
theorem dX5_addWhole_33 : decode cX5_addWhole 33 = .ok (.iload_n 1, 1) := dk_27 (dk_at dksX5_addWhole_1 9 rfl rfl)
theorem dX5_addWhole_34 : decode cX5_addWhole 34 = .ok (.imul, 1) := dk_104 (dk_at dksX5_addWhole_1 10 rfl rfl)
theorem dX5_addWhole_35 : decode cX5_addWhole 35 = .ok (.iload_n 2, 1) := dk_28 (dk_at dksX5_addWhole_1 11 rfl rfl)
theorem dX5_addWhole_36 : decode cX5_addWhole 36 = .ok (.iadd, 1) := dk_96 (dk_at dksX5_addWhole_1 12 rfl rfl)
theorem dX5_addWhole_37 : decode cX5_addWhole 37 = .ok (.iaload, 1) := dk_46 (dk_at dksX5_addWhole_1 13 rfl rfl)
theorem dX5_addWhole_38 : decode cX5_addWhole 38 = .ok (.istore_n 3, 1) := dk_62 (dk_at dksX5_addWhole_1 14 rfl rfl)
theorem dX5_addWhole_39 : decode cX5_addWhole 39 = .ok (.iload_n 3, 1) := dk_29 (dk_at dksX5_addWhole_1 15 rfl rfl)
theorem dX5_addWhole_40 : decode cX5_addWhole 40 = .ok (.iconst (-1), 1) := dk_2 (dk_at dksX5_addWhole_1 16 rfl rfl)
theorem dX5_addWhole_41 : decode cX5_addWhole 41 = .ok (.if_icmp .ne 4, 3) := dk_160 0 4 (dk_at dksX5_addWhole_1 17 rfl rfl)
theorem dX5_addWhole_44 : decode cX5_addWhole 44 = .ok (.return_, 1) := dk_177 (dk_at dksX5_addWhole_1 20 rfl rfl)
theorem dX5_addWhole_45 : decode cX5_addWhole 45 = .ok (.aload_n 0, 1) := dk_42 (dk_at dksX5_addWhole_1 21 rfl rfl)
theorem dX5_addWhole_46 : decode cX5_addWhole 46 = .ok (.getfield 97, 3) := dk_180 0 97 (dk_at dksX5_addWhole_2 0 rfl rfl)
theorem dX5_addWhole_49 : decode cX5_addWhole 49 = .ok (.bipush 6, 2) := dk_16 6 (dk_at dksX5_addWhole_2 3 rfl rfl)
theorem dX5_addWhole_51 : decode cX5_addWhole 51 = .ok (.aload_n 0, 1) := dk_42 (dk_at dksX5_addWhole_2 5 rfl rfl)
theorem dX5_addWhole_52 : decode cX5_addWhole 52 = .ok (.getfield 307, 3) := dk_180 1 51 (dk_at dksX5_addWhole_2 6 rfl rfl)
theorem dX5_addWhole_55 : decode cX5_addWhole 55 = .ok (.imul, 1) := dk_104 (dk_at dksX5_addWhole_2 9 rfl rfl)
theorem dX5_addWhole_56 : decode cX5_addWhole 56 = .ok (.iload_n 2, 1) := dk_28 (dk_at dksX5_addWhole_2 10 rfl rfl)
theorem dX5_addWhole_57 : decode cX5_addWhole 57 = .ok (.iadd, 1) := dk_96 (dk_at dksX5_addWhole_2 11 rfl rfl)
theorem dX5_addWhole_58 : decode cX5_addWhole 58 = .ok (.aload_n 0, 1) := dk_42 (dk_at dksX5_addWhole_2 12 rfl rfl)
theorem dX5_addWhole_59 : decode cX5_addWhole 59 = .ok (.getfield 72, 3) := dk_180 0 72 (dk_at dksX5_addWhole_2 13 rfl rfl)
theorem dX5_addWhole_62 : decode cX5_addWhole 62 = .ok (.iload_n 3, 1) := dk_29 (dk_at dksX5_addWhole_2 16 rfl rfl)
theorem dX5_addWhole_63 : decode cX5_addWhole 63 = .ok (.iaload, 1) := dk_46 (dk_at dksX5_addWhole_2 17 rfl rfl)
theorem dX5_addWhole_64 : decode cX5_addWhole 64 = .ok (.iastore, 1) := dk_79 (dk_at dksX5_addWhole_2 18 rfl rfl)
theorem dX5_addWhole_65 : decode cX5_addWhole 65 = .ok (.iinc 2 1, 3) := dk_132 2 1 (dk_at dksX5_addWhole_2 19 rfl rfl)
theorem dX5_addWhole_68 : decode cX5_addWhole 68 = .ok (.goto (-51), 3) := dk_167 255 205 (dk_at dksX5_addWhole_3 0 rfl rfl)
theorem dX5_addWhole_71 : decode cX5_addWhole 71 = .ok (.iconst 0, 1) := dk_3 (dk_at dksX5_addWhole_3 3 rfl rfl)
theorem dX5_addWhole_72 : decode cX5_addWhole 72 = .ok (.istore_n 2, 1) := dk_61 (dk_at dksX5_addWhole_3 4 rfl rfl)
theorem dX5_addWhole_73 : decode cX5_addWhole 73 = .ok (.iload_n 2, 1) := dk_28 (dk_at dksX5_addWhole_3 5 rfl rfl)
theorem dX5_addWhole_74 : decode cX5_addWhole 74 = .ok (.aload_n 0, 1) := dk_42 (dk_at dksX5_addWhole_3 6 rfl rfl)
theorem dX5_addWhole_75 : decode cX5_addWhole 75 = .ok (.getfield 307, 3) := dk_180 1 51 (dk_at dksX5_addWhole_3 7 rfl rfl)
theorem dX5_addWhole_78 : decode cX5_addWhole 78 = .ok (.if_icmp .ge 22, 3) := dk_162 0 22 (dk_at dksX5_addWhole_3 10 rfl rfl)
theorem dX5_addWhole_81 : decode cX5_addWhole 81 = .ok (.aload_n 0, 1) := dk_42 (dk_at dksX5_addWhole_3 13 rfl rfl)
theorem dX5_addWhole_82 : decode cX5_addWhole 82 = .ok (.iload_n 2, 1) := dk_28 (dk_at dksX5_addWhole_3 14 rfl rfl)
theorem dX5_addWhole_83 : decode cX5_addWhole 83 = .ok (.aload_n 0, 1) := dk_42 (dk_at dksX5_addWhole_3 15 rfl rfl)
theorem dX5_addWhole_84 : decode cX5_addWhole 84 = .ok (.getfield 307, 3) := dk_180 1 51 (dk_at dksX5_addWhole_3 16 rfl rfl)
theorem dX5_addWhole_87 : decode cX5_addWhole 87 = .ok (.invokevirtual 310, 3) := dk_182 1 54 (dk_at dksX5_addWhole_3 19 rfl rfl)
theorem dX5_addWhole_90 : decode cX5_addWhole 90 = .ok (.ifCond .eq 4, 3) := dk_153 0 4 (dk_at dksX5_addWhole_4 0 rfl rfl)
theorem dX5_addWhole_93 : decode cX5_addWhole 93 = .ok (.return_, 1) := dk_177 (dk_at dksX5_addWhole_4 3 rfl rfl)
theorem dX5_addWhole_94 : decode cX5_addWhole 94 = .ok (.iinc 2 1, 3) := dk_132 2 1 (dk_at dksX5_addWhole_4 4 rfl rfl)
theorem dX5_addWhole_97 : decode cX5_addWhole 97 = .ok (.goto (-24), 3) := dk_167 255 232 (dk_at dksX5_addWhole_4 7 rfl rfl)
theorem dX5_addWhole_100 : decode cX5_addWhole 100 = .ok (.aload_n 0, 1) := dk_42 (dk_at dksX5_addWhole_4 10 rfl rfl)
theorem dX5_addWhole_101 : decode cX5_addWhole 101 = .ok (.dup, 1) := dk_89 (dk_at dksX5_addWhole_4 11 rfl rfl)
theorem dX5_addWhole_102 : decode cX5_addWhole 102 = .ok (.getfield 307, 3) := dk_180 1 51 (dk_at dksX5_addWhole_4 12 rfl rfl)
theorem dX5_addWhole_105 : decode cX5_addWhole 105 = .ok (.iconst 1, 1) := dk_4 (dk_at dksX5_addWhole_4 15 rfl rfl)
theorem dX5_addWhole_106 : decode cX5_addWhole 106 = .ok (.iadd, 1) := dk_96 (dk_at dksX5_addWhole_4 16 rfl rfl)
theorem dX5_addWhole_107 : decode cX5_addWhole 107 = .ok (.putfield 307, 3) := dk_181 1 51 (dk_at dksX5_addWhole_4 17 rfl rfl)
theorem dX5_addWhole_110 : decode cX5_addWhole 110 = .ok (.return_, 1) := dk_177 (dk_at dksX5_addWhole_4 20 rfl rfl)
def dkwX5_isAlike_3 : List UInt8 := [62, 132, 4, 1, 167, 255, 205, 29, 172]
abbrev dktX5_isAlike_3 : List UInt8 := dkwX5_isAlike_3 ++ []
def dkwX5_isAlike_2 : List UInt8 := [21, 4, 96, 46, 42, 180, 0, 97, 16, 6, 28, 104, 21, 4, 96, 46, 160, 0, 7, 4, 167, 0, 4, 3]
abbrev dktX5_isAlike_2 : List UInt8 := dkwX5_isAlike_2 ++ dktX5_isAlike_3
def dkwX5_isAlike_1 : List UInt8 := [21, 4, 42, 180, 0, 94, 27, 46, 162, 0, 46, 29, 153, 0, 42, 42, 180, 0, 97, 16, 6, 27, 104]
abbrev dktX5_isAlike_1 : List UInt8 := dkwX5_isAlike_1 ++ dktX5_isAlike_2
def dkwX5_isAlike_0 : List UInt8 := [42, 180, 0, 94, 27, 46, 42, 180, 0, 94, 28, 46, 160, 0, 7, 4, 167, 0, 4, 3, 62, 3, 54, 4]
abbrev dktX5_isAlike_0 : List UInt8 := dkwX5_isAlike_0 ++ dktX5_isAlike_1
theorem dksX5_isAlike_0 : cX5_isAlike.data.toList.drop 0 = dktX5_isAlike_0 := by decide +kernel
theorem dksX5_isAlike_1 : cX5_isAlike.data.toList.drop 24 = dktX5_isAlike_1 := dk_seg dksX5_isAlike_0 24 rfl rfl
theorem dksX5_isAlike_2 : cX5_isAlike.data.toList.drop 47 = dktX5_isAlike_2 := dk_seg dksX5_isAlike_1 23 rfl rfl
theorem dksX5_isAlike_3 : cX5_isAlike.data.toList.drop 71 = dktX5_isAlike_3 := dk_seg dksX5_isAlike_2 24 rfl rfl
theorem dX5_isAlike_0 : decode cX5_isAlike 0 = .ok (.aload_n 0, 1) := dk_42 (dk_at dksX5_isAlike_0 0 rfl rfl)
theorem dX5_isAlike_1 : decode cX5_isAlike 1 = .ok (.getfield 94, 3) := dk_180 0 94 (dk_at dksX5_isAlike_0 1 rfl rfl)
theorem dX5_isAlike_4 : decode cX5_isAlike 4 = .ok (.iload_n 1, 1) := dk_27 (dk_at dksX5_isAlike_0 4 rfl rfl)
theorem dX5_isAlike_5 : decode cX5_isAlike 5 = .ok (.iaload, 1) := dk_46 (dk_at dksX5_isAlike_0 5 rfl rfl)
theorem dX5_isAlike_6 : decode cX5_isAlike 6 = .ok (.aload_n 0, 1) := dk_42 (dk_at dksX5_isAlike_0 6 rfl rfl)
theorem dX5_isAlike_7 : decode cX5_isAlike 7 = .ok (.getfield 94, 3) := dk_180 0 94 (dk_at dksX5_isAlike_0 7 rfl rfl)
theorem dX5_isAlike_10 : decode cX5_isAlike 10 = .ok (.iload_n 2, 1) := dk_28 (dk_at dksX5_isAlike_0 10 rfl rfl)
theorem dX5_isAlike_11 : decode cX5_isAlike 11 = .ok (.iaload, 1) := dk_46 (dk_at dksX5_isAlike_0 11 rfl rfl)
theorem dX5_isAlike_12 : decode cX5_isAlike 12 = .ok (.if_icmp .ne 7, 3) := dk_160 0 7 (dk_at dksX5_isAlike_0 12 rfl rfl)
theorem dX5_isAlike_15 : decode cX5_isAlike 15 = .ok (.iconst 1, 1) := dk_4 (dk_at dksX5_isAlike_0 15 rfl rfl)
theorem dX5_isAlike_16 : decode cX5_isAlike 16 = .ok (.goto 4, 3) := dk_167 0 4 (dk_at dksX5_isAlike_0 16 rfl rfl)
theorem dX5_isAlike_19 : decode cX5_isAlike 19 = .ok (.iconst 0, 1) := dk_3 (dk_at dksX5_isAlike_0 19 rfl rfl)
theorem dX5_isAlike_20 : decode cX5_isAlike 20 = .ok (.istore_n 3, 1) := dk_62 (dk_at dksX5_isAlike_0 20 rfl rfl)
theorem dX5_isAlike_21 : decode cX5_isAlike 21 = .ok (.iconst 0, 1) := dk_3 (dk_at dksX5_isAlike_0 21 rfl rfl)
theorem dX5_isAlike_22 : decode cX5_isAlike 22 = .ok (.istore 4, 2) := dk_54 4 (dk_at dksX5_isAlike_0 22 rfl rfl)
theorem dX5_isAlike_24 : decode cX5_isAlike 24 = .ok (.iload 4, 2) := dk_21 4 (dk_at dksX5_isAlike_1 0 rfl rfl)
theorem dX5_isAlike_26 : decode cX5_isAlike 26 = .ok (.aload_n 0, 1) := dk_42 (dk_at dksX5_isAlike_1 2 rfl rfl)
theorem dX5_isAlike_27 : decode cX5_isAlike 27 = .ok (.getfield 94, 3) := dk_180 0 94 (dk_at dksX5_isAlike_1 3 rfl rfl)
theorem dX5_isAlike_30 : decode cX5_isAlike 30 = .ok (.iload_n 1, 1) := dk_27 (dk_at dksX5_isAlike_1 6 rfl rfl)
theorem dX5_isAlike_31 : decode cX5_isAlike 31 = .ok (.iaload, 1) := dk_46 (dk_at dksX5_isAlike_1 7 rfl rfl)
theorem dX5_isAlike_32 : decode cX5_isAlike 32 = .ok (.if_icmp .ge 46, 3) := dk_162 0 46 (dk_at dksX5_isAlike_1 8 rfl rfl)
theorem dX5_isAlike_35 : decode cX5_isAlike 35 = .ok (.iload_n 3, 1) := dk_29 (dk_at dksX5_isAlike_1 11 rfl rfl)
theorem dX5_isAlike_36 : decode cX5_isAlike 36 = .ok (.ifCond .eq 42, 3) := dk_153 0 42 (dk_at dksX5_isAlike_1 12 rfl rfl)
theorem dX5_isAlike_39 : decode cX5_isAlike 39 = .ok (.aload_n 0, 1) := dk_42 (dk_at dksX5_isAlike_1 15 rfl rfl)
theorem dX5_isAlike_40 : decode cX5_isAlike 40 = .ok (.getfield 97, 3) := dk_180 0 97 (dk_at dksX5_isAlike_1 16 rfl rfl)
theorem dX5_isAlike_43 : decode cX5_isAlike 43 = .ok (.bipush 6, 2) := dk_16 6 (dk_at dksX5_isAlike_1 19 rfl rfl)
theorem dX5_isAlike_45 : decode cX5_isAlike 45 = .ok (.iload_n 1, 1) := dk_27 (dk_at dksX5_isAlike_1 21 rfl rfl)
theorem dX5_isAlike_46 : decode cX5_isAlike 46 = .ok (.imul, 1) := dk_104 (dk_at dksX5_isAlike_1 22 rfl rfl)
theorem dX5_isAlike_47 : decode cX5_isAlike 47 = .ok (.iload 4, 2) := dk_21 4 (dk_at dksX5_isAlike_2 0 rfl rfl)
theorem dX5_isAlike_49 : decode cX5_isAlike 49 = .ok (.iadd, 1) := dk_96 (dk_at dksX5_isAlike_2 2 rfl rfl)
theorem dX5_isAlike_50 : decode cX5_isAlike 50 = .ok (.iaload, 1) := dk_46 (dk_at dksX5_isAlike_2 3 rfl rfl)
theorem dX5_isAlike_51 : decode cX5_isAlike 51 = .ok (.aload_n 0, 1) := dk_42 (dk_at dksX5_isAlike_2 4 rfl rfl)
theorem dX5_isAlike_52 : decode cX5_isAlike 52 = .ok (.getfield 97, 3) := dk_180 0 97 (dk_at dksX5_isAlike_2 5 rfl rfl)
theorem dX5_isAlike_55 : decode cX5_isAlike 55 = .ok (.bipush 6, 2) := dk_16 6 (dk_at dksX5_isAlike_2 8 rfl rfl)
theorem dX5_isAlike_57 : decode cX5_isAlike 57 = .ok (.iload_n 2, 1) := dk_28 (dk_at dksX5_isAlike_2 10 rfl rfl)
theorem dX5_isAlike_58 : decode cX5_isAlike 58 = .ok (.imul, 1) := dk_104 (dk_at dksX5_isAlike_2 11 rfl rfl)
theorem dX5_isAlike_59 : decode cX5_isAlike 59 = .ok (.iload 4, 2) := dk_21 4 (dk_at dksX5_isAlike_2 12 rfl rfl)
theorem dX5_isAlike_61 : decode cX5_isAlike 61 = .ok (.iadd, 1) := dk_96 (dk_at dksX5_isAlike_2 14 rfl rfl)
theorem dX5_isAlike_62 : decode cX5_isAlike 62 = .ok (.iaload, 1) := dk_46 (dk_at dksX5_isAlike_2 15 rfl rfl)
theorem dX5_isAlike_63 : decode cX5_isAlike 63 = .ok (.if_icmp .ne 7, 3) := dk_160 0 7 (dk_at dksX5_isAlike_2 16 rfl rfl)
theorem dX5_isAlike_66 : decode cX5_isAlike 66 = .ok (.iconst 1, 1) := dk_4 (dk_at dksX5_isAlike_2 19 rfl rfl)
theorem dX5_isAlike_67 : decode cX5_isAlike 67 = .ok (.goto 4, 3) := dk_167 0 4 (dk_at dksX5_isAlike_2 20 rfl rfl)
theorem dX5_isAlike_70 : decode cX5_isAlike 70 = .ok (.iconst 0, 1) := dk_3 (dk_at dksX5_isAlike_2 23 rfl rfl)
theorem dX5_isAlike_71 : decode cX5_isAlike 71 = .ok (.istore_n 3, 1) := dk_62 (dk_at dksX5_isAlike_3 0 rfl rfl)
theorem dX5_isAlike_72 : decode cX5_isAlike 72 = .ok (.iinc 4 1, 3) := dk_132 4 1 (dk_at dksX5_isAlike_3 1 rfl rfl)
theorem dX5_isAlike_75 : decode cX5_isAlike 75 = .ok (.goto (-51), 3) := dk_167 255 205 (dk_at dksX5_isAlike_3 4 rfl rfl)
theorem dX5_isAlike_78 : decode cX5_isAlike 78 = .ok (.iload_n 3, 1) := dk_29 (dk_at dksX5_isAlike_3 7 rfl rfl)
theorem dX5_isAlike_79 : decode cX5_isAlike 79 = .ok (.ireturn, 1) := dk_172 (dk_at dksX5_isAlike_3 8 rfl rfl)
def dkwX5_pairsOf_5 : List UInt8 := [132, 5, 1, 167, 255, 141, 21, 4, 172]
abbrev dktX5_pairsOf_5 : List UInt8 := dkwX5_pairsOf_5 ++ []
def dkwX5_pairsOf_4 : List UInt8 := [159, 0, 15, 21, 8, 29, 160, 0, 12, 21, 9, 28, 160, 0, 6, 132, 4, 1, 132, 6, 1, 167, 255, 162]
abbrev dktX5_pairsOf_4 : List UInt8 := dkwX5_pairsOf_4 ++ dktX5_pairsOf_5
def dkwX5_pairsOf_3 : List UInt8 := [180, 0, 97, 16, 6, 21, 6, 104, 21, 7, 96, 46, 54, 9, 21, 8, 28, 160, 0, 9, 21, 9, 29]
abbrev dktX5_pairsOf_3 : List UInt8 := dkwX5_pairsOf_3 ++ dktX5_pairsOf_4
def dkwX5_pairsOf_2 : List UInt8 := [21, 6, 182, 1, 64, 54, 7, 42, 180, 0, 97, 16, 6, 21, 5, 104, 21, 7, 96, 46, 54, 8, 42]
abbrev dktX5_pairsOf_2 : List UInt8 := dkwX5_pairsOf_2 ++ dktX5_pairsOf_3
def dkwX5_pairsOf_1 : List UInt8 := [180, 1, 51, 162, 0, 91, 42, 27, 21, 5, 21, 6, 182, 1, 67, 154, 0, 6, 167, 0, 70, 42, 21, 5]
abbrev dktX5_pairsOf_1 : List UInt8 := dkwX5_pairsOf_1 ++ dktX5_pairsOf_2
def dkwX5_pairsOf_0 : List UInt8 := [3, 54, 4, 3, 54, 5, 21, 5, 42, 180, 1, 51, 162, 0, 112, 21, 5, 4, 96, 54, 6, 21, 6, 42]
abbrev dktX5_pairsOf_0 : List UInt8 := dkwX5_pairsOf_0 ++ dktX5_pairsOf_1
theorem dksX5_pairsOf_0 : cX5_pairsOf.data.toList.drop 0 = dktX5_pairsOf_0 := by decide +kernel
theorem dksX5_pairsOf_1 : cX5_pairsOf.data.toList.drop 24 = dktX5_pairsOf_1 := dk_seg dksX5_pairsOf_0 24 rfl rfl
theorem dksX5_pairsOf_2 : cX5_pairsOf.data.toList.drop 48 = dktX5_pairsOf_2 := dk_seg dksX5_pairsOf_1 24 rfl rfl
theorem dksX5_pairsOf_3 : cX5_pairsOf.data.toList.drop 71 = dktX5_pairsOf_3 := dk_seg dksX5_pairsOf_2 23 rfl rfl
theorem dksX5_pairsOf_4 : cX5_pairsOf.data.toList.drop 94 = dktX5_pairsOf_4 := dk_seg dksX5_pairsOf_3 23 rfl rfl
theorem dksX5_pairsOf_5 : cX5_pairsOf.data.toList.drop 118 = dktX5_pairsOf_5 := dk_seg dksX5_pairsOf_4 24 rfl rfl
theorem dX5_pairsOf_0 : decode cX5_pairsOf 0 = .ok (.iconst 0, 1) := dk_3 (dk_at dksX5_pairsOf_0 0 rfl rfl)
theorem dX5_pairsOf_1 : decode cX5_pairsOf 1 = .ok (.istore 4, 2) := dk_54 4 (dk_at dksX5_pairsOf_0 1 rfl rfl)
theorem dX5_pairsOf_3 : decode cX5_pairsOf 3 = .ok (.iconst 0, 1) := dk_3 (dk_at dksX5_pairsOf_0 3 rfl rfl)
theorem dX5_pairsOf_4 : decode cX5_pairsOf 4 = .ok (.istore 5, 2) := dk_54 5 (dk_at dksX5_pairsOf_0 4 rfl rfl)
theorem dX5_pairsOf_6 : decode cX5_pairsOf 6 = .ok (.iload 5, 2) := dk_21 5 (dk_at dksX5_pairsOf_0 6 rfl rfl)
theorem dX5_pairsOf_8 : decode cX5_pairsOf 8 = .ok (.aload_n 0, 1) := dk_42 (dk_at dksX5_pairsOf_0 8 rfl rfl)
theorem dX5_pairsOf_9 : decode cX5_pairsOf 9 = .ok (.getfield 307, 3) := dk_180 1 51 (dk_at dksX5_pairsOf_0 9 rfl rfl)
theorem dX5_pairsOf_12 : decode cX5_pairsOf 12 = .ok (.if_icmp .ge 112, 3) := dk_162 0 112 (dk_at dksX5_pairsOf_0 12 rfl rfl)
theorem dX5_pairsOf_15 : decode cX5_pairsOf 15 = .ok (.iload 5, 2) := dk_21 5 (dk_at dksX5_pairsOf_0 15 rfl rfl)
theorem dX5_pairsOf_17 : decode cX5_pairsOf 17 = .ok (.iconst 1, 1) := dk_4 (dk_at dksX5_pairsOf_0 17 rfl rfl)
theorem dX5_pairsOf_18 : decode cX5_pairsOf 18 = .ok (.iadd, 1) := dk_96 (dk_at dksX5_pairsOf_0 18 rfl rfl)
theorem dX5_pairsOf_19 : decode cX5_pairsOf 19 = .ok (.istore 6, 2) := dk_54 6 (dk_at dksX5_pairsOf_0 19 rfl rfl)
theorem dX5_pairsOf_21 : decode cX5_pairsOf 21 = .ok (.iload 6, 2) := dk_21 6 (dk_at dksX5_pairsOf_0 21 rfl rfl)
theorem dX5_pairsOf_23 : decode cX5_pairsOf 23 = .ok (.aload_n 0, 1) := dk_42 (dk_at dksX5_pairsOf_0 23 rfl rfl)
theorem dX5_pairsOf_24 : decode cX5_pairsOf 24 = .ok (.getfield 307, 3) := dk_180 1 51 (dk_at dksX5_pairsOf_1 0 rfl rfl)
theorem dX5_pairsOf_27 : decode cX5_pairsOf 27 = .ok (.if_icmp .ge 91, 3) := dk_162 0 91 (dk_at dksX5_pairsOf_1 3 rfl rfl)
theorem dX5_pairsOf_30 : decode cX5_pairsOf 30 = .ok (.aload_n 0, 1) := dk_42 (dk_at dksX5_pairsOf_1 6 rfl rfl)
theorem dX5_pairsOf_31 : decode cX5_pairsOf 31 = .ok (.iload_n 1, 1) := dk_27 (dk_at dksX5_pairsOf_1 7 rfl rfl)
theorem dX5_pairsOf_32 : decode cX5_pairsOf 32 = .ok (.iload 5, 2) := dk_21 5 (dk_at dksX5_pairsOf_1 8 rfl rfl)
theorem dX5_pairsOf_34 : decode cX5_pairsOf 34 = .ok (.iload 6, 2) := dk_21 6 (dk_at dksX5_pairsOf_1 10 rfl rfl)
theorem dX5_pairsOf_36 : decode cX5_pairsOf 36 = .ok (.invokevirtual 323, 3) := dk_182 1 67 (dk_at dksX5_pairsOf_1 12 rfl rfl)
theorem dX5_pairsOf_39 : decode cX5_pairsOf 39 = .ok (.ifCond .ne 6, 3) := dk_154 0 6 (dk_at dksX5_pairsOf_1 15 rfl rfl)
theorem dX5_pairsOf_42 : decode cX5_pairsOf 42 = .ok (.goto 70, 3) := dk_167 0 70 (dk_at dksX5_pairsOf_1 18 rfl rfl)
theorem dX5_pairsOf_45 : decode cX5_pairsOf 45 = .ok (.aload_n 0, 1) := dk_42 (dk_at dksX5_pairsOf_1 21 rfl rfl)
theorem dX5_pairsOf_46 : decode cX5_pairsOf 46 = .ok (.iload 5, 2) := dk_21 5 (dk_at dksX5_pairsOf_1 22 rfl rfl)
theorem dX5_pairsOf_48 : decode cX5_pairsOf 48 = .ok (.iload 6, 2) := dk_21 6 (dk_at dksX5_pairsOf_2 0 rfl rfl)
theorem dX5_pairsOf_50 : decode cX5_pairsOf 50 = .ok (.invokevirtual 320, 3) := dk_182 1 64 (dk_at dksX5_pairsOf_2 2 rfl rfl)
theorem dX5_pairsOf_53 : decode cX5_pairsOf 53 = .ok (.istore 7, 2) := dk_54 7 (dk_at dksX5_pairsOf_2 5 rfl rfl)
theorem dX5_pairsOf_55 : decode cX5_pairsOf 55 = .ok (.aload_n 0, 1) := dk_42 (dk_at dksX5_pairsOf_2 7 rfl rfl)
theorem dX5_pairsOf_56 : decode cX5_pairsOf 56 = .ok (.getfield 97, 3) := dk_180 0 97 (dk_at dksX5_pairsOf_2 8 rfl rfl)
theorem dX5_pairsOf_59 : decode cX5_pairsOf 59 = .ok (.bipush 6, 2) := dk_16 6 (dk_at dksX5_pairsOf_2 11 rfl rfl)
theorem dX5_pairsOf_61 : decode cX5_pairsOf 61 = .ok (.iload 5, 2) := dk_21 5 (dk_at dksX5_pairsOf_2 13 rfl rfl)
theorem dX5_pairsOf_63 : decode cX5_pairsOf 63 = .ok (.imul, 1) := dk_104 (dk_at dksX5_pairsOf_2 15 rfl rfl)
theorem dX5_pairsOf_64 : decode cX5_pairsOf 64 = .ok (.iload 7, 2) := dk_21 7 (dk_at dksX5_pairsOf_2 16 rfl rfl)
theorem dX5_pairsOf_66 : decode cX5_pairsOf 66 = .ok (.iadd, 1) := dk_96 (dk_at dksX5_pairsOf_2 18 rfl rfl)
theorem dX5_pairsOf_67 : decode cX5_pairsOf 67 = .ok (.iaload, 1) := dk_46 (dk_at dksX5_pairsOf_2 19 rfl rfl)
theorem dX5_pairsOf_68 : decode cX5_pairsOf 68 = .ok (.istore 8, 2) := dk_54 8 (dk_at dksX5_pairsOf_2 20 rfl rfl)
theorem dX5_pairsOf_70 : decode cX5_pairsOf 70 = .ok (.aload_n 0, 1) := dk_42 (dk_at dksX5_pairsOf_2 22 rfl rfl)
theorem dX5_pairsOf_71 : decode cX5_pairsOf 71 = .ok (.getfield 97, 3) := dk_180 0 97 (dk_at dksX5_pairsOf_3 0 rfl rfl)
theorem dX5_pairsOf_74 : decode cX5_pairsOf 74 = .ok (.bipush 6, 2) := dk_16 6 (dk_at dksX5_pairsOf_3 3 rfl rfl)
theorem dX5_pairsOf_76 : decode cX5_pairsOf 76 = .ok (.iload 6, 2) := dk_21 6 (dk_at dksX5_pairsOf_3 5 rfl rfl)
theorem dX5_pairsOf_78 : decode cX5_pairsOf 78 = .ok (.imul, 1) := dk_104 (dk_at dksX5_pairsOf_3 7 rfl rfl)
theorem dX5_pairsOf_79 : decode cX5_pairsOf 79 = .ok (.iload 7, 2) := dk_21 7 (dk_at dksX5_pairsOf_3 8 rfl rfl)
theorem dX5_pairsOf_81 : decode cX5_pairsOf 81 = .ok (.iadd, 1) := dk_96 (dk_at dksX5_pairsOf_3 10 rfl rfl)
theorem dX5_pairsOf_82 : decode cX5_pairsOf 82 = .ok (.iaload, 1) := dk_46 (dk_at dksX5_pairsOf_3 11 rfl rfl)
theorem dX5_pairsOf_83 : decode cX5_pairsOf 83 = .ok (.istore 9, 2) := dk_54 9 (dk_at dksX5_pairsOf_3 12 rfl rfl)
theorem dX5_pairsOf_85 : decode cX5_pairsOf 85 = .ok (.iload 8, 2) := dk_21 8 (dk_at dksX5_pairsOf_3 14 rfl rfl)
theorem dX5_pairsOf_87 : decode cX5_pairsOf 87 = .ok (.iload_n 2, 1) := dk_28 (dk_at dksX5_pairsOf_3 16 rfl rfl)
theorem dX5_pairsOf_88 : decode cX5_pairsOf 88 = .ok (.if_icmp .ne 9, 3) := dk_160 0 9 (dk_at dksX5_pairsOf_3 17 rfl rfl)
theorem dX5_pairsOf_91 : decode cX5_pairsOf 91 = .ok (.iload 9, 2) := dk_21 9 (dk_at dksX5_pairsOf_3 20 rfl rfl)
theorem dX5_pairsOf_93 : decode cX5_pairsOf 93 = .ok (.iload_n 3, 1) := dk_29 (dk_at dksX5_pairsOf_3 22 rfl rfl)
theorem dX5_pairsOf_94 : decode cX5_pairsOf 94 = .ok (.if_icmp .eq 15, 3) := dk_159 0 15 (dk_at dksX5_pairsOf_4 0 rfl rfl)
theorem dX5_pairsOf_97 : decode cX5_pairsOf 97 = .ok (.iload 8, 2) := dk_21 8 (dk_at dksX5_pairsOf_4 3 rfl rfl)
theorem dX5_pairsOf_99 : decode cX5_pairsOf 99 = .ok (.iload_n 3, 1) := dk_29 (dk_at dksX5_pairsOf_4 5 rfl rfl)
theorem dX5_pairsOf_100 : decode cX5_pairsOf 100 = .ok (.if_icmp .ne 12, 3) := dk_160 0 12 (dk_at dksX5_pairsOf_4 6 rfl rfl)
theorem dX5_pairsOf_103 : decode cX5_pairsOf 103 = .ok (.iload 9, 2) := dk_21 9 (dk_at dksX5_pairsOf_4 9 rfl rfl)
theorem dX5_pairsOf_105 : decode cX5_pairsOf 105 = .ok (.iload_n 2, 1) := dk_28 (dk_at dksX5_pairsOf_4 11 rfl rfl)
theorem dX5_pairsOf_106 : decode cX5_pairsOf 106 = .ok (.if_icmp .ne 6, 3) := dk_160 0 6 (dk_at dksX5_pairsOf_4 12 rfl rfl)
theorem dX5_pairsOf_109 : decode cX5_pairsOf 109 = .ok (.iinc 4 1, 3) := dk_132 4 1 (dk_at dksX5_pairsOf_4 15 rfl rfl)
theorem dX5_pairsOf_112 : decode cX5_pairsOf 112 = .ok (.iinc 6 1, 3) := dk_132 6 1 (dk_at dksX5_pairsOf_4 18 rfl rfl)
theorem dX5_pairsOf_115 : decode cX5_pairsOf 115 = .ok (.goto (-94), 3) := dk_167 255 162 (dk_at dksX5_pairsOf_4 21 rfl rfl)
theorem dX5_pairsOf_118 : decode cX5_pairsOf 118 = .ok (.iinc 5 1, 3) := dk_132 5 1 (dk_at dksX5_pairsOf_5 0 rfl rfl)
theorem dX5_pairsOf_121 : decode cX5_pairsOf 121 = .ok (.goto (-115), 3) := dk_167 255 141 (dk_at dksX5_pairsOf_5 3 rfl rfl)
theorem dX5_pairsOf_124 : decode cX5_pairsOf 124 = .ok (.iload 4, 2) := dk_21 4 (dk_at dksX5_pairsOf_5 6 rfl rfl)
theorem dX5_pairsOf_126 : decode cX5_pairsOf 126 = .ok (.ireturn, 1) := dk_172 (dk_at dksX5_pairsOf_5 8 rfl rfl)
def dkwX5_tellsBy_4 : List UInt8 := [100, 160, 0, 7, 4, 167, 0, 4, 3, 172]
abbrev dktX5_tellsBy_4 : List UInt8 := dkwX5_tellsBy_4 ++ []
def dkwX5_tellsBy_3 : List UInt8 := [28, 46, 4, 100, 160, 0, 7, 4, 167, 0, 25, 3, 167, 0, 21, 21, 4, 42, 180, 0, 38, 27, 46, 4]
abbrev dktX5_tellsBy_3 : List UInt8 := dkwX5_tellsBy_3 ++ dktX5_tellsBy_4
def dkwX5_tellsBy_2 : List UInt8 := [167, 0, 57, 3, 167, 0, 53, 42, 180, 0, 38, 27, 46, 16, 7, 160, 0, 24, 21, 4, 42, 180, 0, 94]
abbrev dktX5_tellsBy_2 : List UInt8 := dkwX5_tellsBy_2 ++ dktX5_tellsBy_3
def dkwX5_tellsBy_1 : List UInt8 := [27, 46, 162, 0, 5, 3, 172, 42, 180, 0, 38, 27, 46, 154, 0, 16, 21, 4, 154, 0, 7, 4]
abbrev dktX5_tellsBy_1 : List UInt8 := dkwX5_tellsBy_1 ++ dktX5_tellsBy_2
def dkwX5_tellsBy_0 : List UInt8 := [42, 28, 29, 182, 1, 64, 54, 4, 21, 4, 2, 159, 0, 18, 42, 180, 0, 94, 28, 46, 42, 180, 0, 41]
abbrev dktX5_tellsBy_0 : List UInt8 := dkwX5_tellsBy_0 ++ dktX5_tellsBy_1
theorem dksX5_tellsBy_0 : cX5_tellsBy.data.toList.drop 0 = dktX5_tellsBy_0 := by decide +kernel
theorem dksX5_tellsBy_1 : cX5_tellsBy.data.toList.drop 24 = dktX5_tellsBy_1 := dk_seg dksX5_tellsBy_0 24 rfl rfl
theorem dksX5_tellsBy_2 : cX5_tellsBy.data.toList.drop 46 = dktX5_tellsBy_2 := dk_seg dksX5_tellsBy_1 22 rfl rfl
theorem dksX5_tellsBy_3 : cX5_tellsBy.data.toList.drop 70 = dktX5_tellsBy_3 := dk_seg dksX5_tellsBy_2 24 rfl rfl
theorem dksX5_tellsBy_4 : cX5_tellsBy.data.toList.drop 94 = dktX5_tellsBy_4 := dk_seg dksX5_tellsBy_3 24 rfl rfl
theorem dX5_tellsBy_0 : decode cX5_tellsBy 0 = .ok (.aload_n 0, 1) := dk_42 (dk_at dksX5_tellsBy_0 0 rfl rfl)
theorem dX5_tellsBy_1 : decode cX5_tellsBy 1 = .ok (.iload_n 2, 1) := dk_28 (dk_at dksX5_tellsBy_0 1 rfl rfl)
theorem dX5_tellsBy_2 : decode cX5_tellsBy 2 = .ok (.iload_n 3, 1) := dk_29 (dk_at dksX5_tellsBy_0 2 rfl rfl)
theorem dX5_tellsBy_3 : decode cX5_tellsBy 3 = .ok (.invokevirtual 320, 3) := dk_182 1 64 (dk_at dksX5_tellsBy_0 3 rfl rfl)
theorem dX5_tellsBy_6 : decode cX5_tellsBy 6 = .ok (.istore 4, 2) := dk_54 4 (dk_at dksX5_tellsBy_0 6 rfl rfl)
theorem dX5_tellsBy_8 : decode cX5_tellsBy 8 = .ok (.iload 4, 2) := dk_21 4 (dk_at dksX5_tellsBy_0 8 rfl rfl)
theorem dX5_tellsBy_10 : decode cX5_tellsBy 10 = .ok (.iconst (-1), 1) := dk_2 (dk_at dksX5_tellsBy_0 10 rfl rfl)
theorem dX5_tellsBy_11 : decode cX5_tellsBy 11 = .ok (.if_icmp .eq 18, 3) := dk_159 0 18 (dk_at dksX5_tellsBy_0 11 rfl rfl)
theorem dX5_tellsBy_14 : decode cX5_tellsBy 14 = .ok (.aload_n 0, 1) := dk_42 (dk_at dksX5_tellsBy_0 14 rfl rfl)
theorem dX5_tellsBy_15 : decode cX5_tellsBy 15 = .ok (.getfield 94, 3) := dk_180 0 94 (dk_at dksX5_tellsBy_0 15 rfl rfl)
theorem dX5_tellsBy_18 : decode cX5_tellsBy 18 = .ok (.iload_n 2, 1) := dk_28 (dk_at dksX5_tellsBy_0 18 rfl rfl)
theorem dX5_tellsBy_19 : decode cX5_tellsBy 19 = .ok (.iaload, 1) := dk_46 (dk_at dksX5_tellsBy_0 19 rfl rfl)
theorem dX5_tellsBy_20 : decode cX5_tellsBy 20 = .ok (.aload_n 0, 1) := dk_42 (dk_at dksX5_tellsBy_0 20 rfl rfl)
theorem dX5_tellsBy_21 : decode cX5_tellsBy 21 = .ok (.getfield 41, 3) := dk_180 0 41 (dk_at dksX5_tellsBy_0 21 rfl rfl)
theorem dX5_tellsBy_24 : decode cX5_tellsBy 24 = .ok (.iload_n 1, 1) := dk_27 (dk_at dksX5_tellsBy_1 0 rfl rfl)
theorem dX5_tellsBy_25 : decode cX5_tellsBy 25 = .ok (.iaload, 1) := dk_46 (dk_at dksX5_tellsBy_1 1 rfl rfl)
theorem dX5_tellsBy_26 : decode cX5_tellsBy 26 = .ok (.if_icmp .ge 5, 3) := dk_162 0 5 (dk_at dksX5_tellsBy_1 2 rfl rfl)
theorem dX5_tellsBy_29 : decode cX5_tellsBy 29 = .ok (.iconst 0, 1) := dk_3 (dk_at dksX5_tellsBy_1 5 rfl rfl)
theorem dX5_tellsBy_30 : decode cX5_tellsBy 30 = .ok (.ireturn, 1) := dk_172 (dk_at dksX5_tellsBy_1 6 rfl rfl)
theorem dX5_tellsBy_31 : decode cX5_tellsBy 31 = .ok (.aload_n 0, 1) := dk_42 (dk_at dksX5_tellsBy_1 7 rfl rfl)
theorem dX5_tellsBy_32 : decode cX5_tellsBy 32 = .ok (.getfield 38, 3) := dk_180 0 38 (dk_at dksX5_tellsBy_1 8 rfl rfl)
theorem dX5_tellsBy_35 : decode cX5_tellsBy 35 = .ok (.iload_n 1, 1) := dk_27 (dk_at dksX5_tellsBy_1 11 rfl rfl)
theorem dX5_tellsBy_36 : decode cX5_tellsBy 36 = .ok (.iaload, 1) := dk_46 (dk_at dksX5_tellsBy_1 12 rfl rfl)
theorem dX5_tellsBy_37 : decode cX5_tellsBy 37 = .ok (.ifCond .ne 16, 3) := dk_154 0 16 (dk_at dksX5_tellsBy_1 13 rfl rfl)
theorem dX5_tellsBy_40 : decode cX5_tellsBy 40 = .ok (.iload 4, 2) := dk_21 4 (dk_at dksX5_tellsBy_1 16 rfl rfl)
theorem dX5_tellsBy_42 : decode cX5_tellsBy 42 = .ok (.ifCond .ne 7, 3) := dk_154 0 7 (dk_at dksX5_tellsBy_1 18 rfl rfl)
theorem dX5_tellsBy_45 : decode cX5_tellsBy 45 = .ok (.iconst 1, 1) := dk_4 (dk_at dksX5_tellsBy_1 21 rfl rfl)
theorem dX5_tellsBy_46 : decode cX5_tellsBy 46 = .ok (.goto 57, 3) := dk_167 0 57 (dk_at dksX5_tellsBy_2 0 rfl rfl)
theorem dX5_tellsBy_49 : decode cX5_tellsBy 49 = .ok (.iconst 0, 1) := dk_3 (dk_at dksX5_tellsBy_2 3 rfl rfl)
theorem dX5_tellsBy_50 : decode cX5_tellsBy 50 = .ok (.goto 53, 3) := dk_167 0 53 (dk_at dksX5_tellsBy_2 4 rfl rfl)
theorem dX5_tellsBy_53 : decode cX5_tellsBy 53 = .ok (.aload_n 0, 1) := dk_42 (dk_at dksX5_tellsBy_2 7 rfl rfl)
theorem dX5_tellsBy_54 : decode cX5_tellsBy 54 = .ok (.getfield 38, 3) := dk_180 0 38 (dk_at dksX5_tellsBy_2 8 rfl rfl)
theorem dX5_tellsBy_57 : decode cX5_tellsBy 57 = .ok (.iload_n 1, 1) := dk_27 (dk_at dksX5_tellsBy_2 11 rfl rfl)
theorem dX5_tellsBy_58 : decode cX5_tellsBy 58 = .ok (.iaload, 1) := dk_46 (dk_at dksX5_tellsBy_2 12 rfl rfl)
theorem dX5_tellsBy_59 : decode cX5_tellsBy 59 = .ok (.bipush 7, 2) := dk_16 7 (dk_at dksX5_tellsBy_2 13 rfl rfl)
theorem dX5_tellsBy_61 : decode cX5_tellsBy 61 = .ok (.if_icmp .ne 24, 3) := dk_160 0 24 (dk_at dksX5_tellsBy_2 15 rfl rfl)
theorem dX5_tellsBy_64 : decode cX5_tellsBy 64 = .ok (.iload 4, 2) := dk_21 4 (dk_at dksX5_tellsBy_2 18 rfl rfl)
theorem dX5_tellsBy_66 : decode cX5_tellsBy 66 = .ok (.aload_n 0, 1) := dk_42 (dk_at dksX5_tellsBy_2 20 rfl rfl)
theorem dX5_tellsBy_67 : decode cX5_tellsBy 67 = .ok (.getfield 94, 3) := dk_180 0 94 (dk_at dksX5_tellsBy_2 21 rfl rfl)
theorem dX5_tellsBy_70 : decode cX5_tellsBy 70 = .ok (.iload_n 2, 1) := dk_28 (dk_at dksX5_tellsBy_3 0 rfl rfl)
theorem dX5_tellsBy_71 : decode cX5_tellsBy 71 = .ok (.iaload, 1) := dk_46 (dk_at dksX5_tellsBy_3 1 rfl rfl)
theorem dX5_tellsBy_72 : decode cX5_tellsBy 72 = .ok (.iconst 1, 1) := dk_4 (dk_at dksX5_tellsBy_3 2 rfl rfl)
theorem dX5_tellsBy_73 : decode cX5_tellsBy 73 = .ok (.isub, 1) := dk_100 (dk_at dksX5_tellsBy_3 3 rfl rfl)
theorem dX5_tellsBy_74 : decode cX5_tellsBy 74 = .ok (.if_icmp .ne 7, 3) := dk_160 0 7 (dk_at dksX5_tellsBy_3 4 rfl rfl)
theorem dX5_tellsBy_77 : decode cX5_tellsBy 77 = .ok (.iconst 1, 1) := dk_4 (dk_at dksX5_tellsBy_3 7 rfl rfl)
theorem dX5_tellsBy_78 : decode cX5_tellsBy 78 = .ok (.goto 25, 3) := dk_167 0 25 (dk_at dksX5_tellsBy_3 8 rfl rfl)
theorem dX5_tellsBy_81 : decode cX5_tellsBy 81 = .ok (.iconst 0, 1) := dk_3 (dk_at dksX5_tellsBy_3 11 rfl rfl)
theorem dX5_tellsBy_82 : decode cX5_tellsBy 82 = .ok (.goto 21, 3) := dk_167 0 21 (dk_at dksX5_tellsBy_3 12 rfl rfl)
theorem dX5_tellsBy_85 : decode cX5_tellsBy 85 = .ok (.iload 4, 2) := dk_21 4 (dk_at dksX5_tellsBy_3 15 rfl rfl)
theorem dX5_tellsBy_87 : decode cX5_tellsBy 87 = .ok (.aload_n 0, 1) := dk_42 (dk_at dksX5_tellsBy_3 17 rfl rfl)
theorem dX5_tellsBy_88 : decode cX5_tellsBy 88 = .ok (.getfield 38, 3) := dk_180 0 38 (dk_at dksX5_tellsBy_3 18 rfl rfl)
theorem dX5_tellsBy_91 : decode cX5_tellsBy 91 = .ok (.iload_n 1, 1) := dk_27 (dk_at dksX5_tellsBy_3 21 rfl rfl)
theorem dX5_tellsBy_92 : decode cX5_tellsBy 92 = .ok (.iaload, 1) := dk_46 (dk_at dksX5_tellsBy_3 22 rfl rfl)
theorem dX5_tellsBy_93 : decode cX5_tellsBy 93 = .ok (.iconst 1, 1) := dk_4 (dk_at dksX5_tellsBy_3 23 rfl rfl)
theorem dX5_tellsBy_94 : decode cX5_tellsBy 94 = .ok (.isub, 1) := dk_100 (dk_at dksX5_tellsBy_4 0 rfl rfl)
theorem dX5_tellsBy_95 : decode cX5_tellsBy 95 = .ok (.if_icmp .ne 7, 3) := dk_160 0 7 (dk_at dksX5_tellsBy_4 1 rfl rfl)
theorem dX5_tellsBy_98 : decode cX5_tellsBy 98 = .ok (.iconst 1, 1) := dk_4 (dk_at dksX5_tellsBy_4 4 rfl rfl)
theorem dX5_tellsBy_99 : decode cX5_tellsBy 99 = .ok (.goto 4, 3) := dk_167 0 4 (dk_at dksX5_tellsBy_4 5 rfl rfl)
theorem dX5_tellsBy_102 : decode cX5_tellsBy 102 = .ok (.iconst 0, 1) := dk_3 (dk_at dksX5_tellsBy_4 8 rfl rfl)
theorem dX5_tellsBy_103 : decode cX5_tellsBy 103 = .ok (.ireturn, 1) := dk_172 (dk_at dksX5_tellsBy_4 9 rfl rfl)
def dkwX5_unlikeAt_3 : List UInt8 := [21, 4, 62, 132, 4, 1, 167, 255, 202, 29, 172]
abbrev dktX5_unlikeAt_3 : List UInt8 := dkwX5_unlikeAt_3 ++ []
def dkwX5_unlikeAt_2 : List UInt8 := [180, 0, 97, 16, 6, 28, 104, 21, 4, 96, 46, 160, 0, 6, 167, 0, 13, 29, 2, 159, 0, 5, 2, 172]
abbrev dktX5_unlikeAt_2 : List UInt8 := dkwX5_unlikeAt_2 ++ dktX5_unlikeAt_3
def dkwX5_unlikeAt_1 : List UInt8 := [42, 180, 0, 94, 27, 46, 162, 0, 49, 42, 180, 0, 97, 16, 6, 27, 104, 21, 4, 96, 46, 42]
abbrev dktX5_unlikeAt_1 : List UInt8 := dkwX5_unlikeAt_1 ++ dktX5_unlikeAt_2
def dkwX5_unlikeAt_0 : List UInt8 := [42, 180, 0, 94, 27, 46, 42, 180, 0, 94, 28, 46, 159, 0, 5, 2, 172, 2, 62, 3, 54, 4, 21, 4]
abbrev dktX5_unlikeAt_0 : List UInt8 := dkwX5_unlikeAt_0 ++ dktX5_unlikeAt_1
theorem dksX5_unlikeAt_0 : cX5_unlikeAt.data.toList.drop 0 = dktX5_unlikeAt_0 := by decide +kernel
theorem dksX5_unlikeAt_1 : cX5_unlikeAt.data.toList.drop 24 = dktX5_unlikeAt_1 := dk_seg dksX5_unlikeAt_0 24 rfl rfl
theorem dksX5_unlikeAt_2 : cX5_unlikeAt.data.toList.drop 46 = dktX5_unlikeAt_2 := dk_seg dksX5_unlikeAt_1 22 rfl rfl
theorem dksX5_unlikeAt_3 : cX5_unlikeAt.data.toList.drop 70 = dktX5_unlikeAt_3 := dk_seg dksX5_unlikeAt_2 24 rfl rfl
theorem dX5_unlikeAt_0 : decode cX5_unlikeAt 0 = .ok (.aload_n 0, 1) := dk_42 (dk_at dksX5_unlikeAt_0 0 rfl rfl)
theorem dX5_unlikeAt_1 : decode cX5_unlikeAt 1 = .ok (.getfield 94, 3) := dk_180 0 94 (dk_at dksX5_unlikeAt_0 1 rfl rfl)
theorem dX5_unlikeAt_4 : decode cX5_unlikeAt 4 = .ok (.iload_n 1, 1) := dk_27 (dk_at dksX5_unlikeAt_0 4 rfl rfl)
theorem dX5_unlikeAt_5 : decode cX5_unlikeAt 5 = .ok (.iaload, 1) := dk_46 (dk_at dksX5_unlikeAt_0 5 rfl rfl)
theorem dX5_unlikeAt_6 : decode cX5_unlikeAt 6 = .ok (.aload_n 0, 1) := dk_42 (dk_at dksX5_unlikeAt_0 6 rfl rfl)
theorem dX5_unlikeAt_7 : decode cX5_unlikeAt 7 = .ok (.getfield 94, 3) := dk_180 0 94 (dk_at dksX5_unlikeAt_0 7 rfl rfl)
theorem dX5_unlikeAt_10 : decode cX5_unlikeAt 10 = .ok (.iload_n 2, 1) := dk_28 (dk_at dksX5_unlikeAt_0 10 rfl rfl)
theorem dX5_unlikeAt_11 : decode cX5_unlikeAt 11 = .ok (.iaload, 1) := dk_46 (dk_at dksX5_unlikeAt_0 11 rfl rfl)
theorem dX5_unlikeAt_12 : decode cX5_unlikeAt 12 = .ok (.if_icmp .eq 5, 3) := dk_159 0 5 (dk_at dksX5_unlikeAt_0 12 rfl rfl)
theorem dX5_unlikeAt_15 : decode cX5_unlikeAt 15 = .ok (.iconst (-1), 1) := dk_2 (dk_at dksX5_unlikeAt_0 15 rfl rfl)
theorem dX5_unlikeAt_16 : decode cX5_unlikeAt 16 = .ok (.ireturn, 1) := dk_172 (dk_at dksX5_unlikeAt_0 16 rfl rfl)
theorem dX5_unlikeAt_17 : decode cX5_unlikeAt 17 = .ok (.iconst (-1), 1) := dk_2 (dk_at dksX5_unlikeAt_0 17 rfl rfl)
theorem dX5_unlikeAt_18 : decode cX5_unlikeAt 18 = .ok (.istore_n 3, 1) := dk_62 (dk_at dksX5_unlikeAt_0 18 rfl rfl)
theorem dX5_unlikeAt_19 : decode cX5_unlikeAt 19 = .ok (.iconst 0, 1) := dk_3 (dk_at dksX5_unlikeAt_0 19 rfl rfl)
theorem dX5_unlikeAt_20 : decode cX5_unlikeAt 20 = .ok (.istore 4, 2) := dk_54 4 (dk_at dksX5_unlikeAt_0 20 rfl rfl)
theorem dX5_unlikeAt_22 : decode cX5_unlikeAt 22 = .ok (.iload 4, 2) := dk_21 4 (dk_at dksX5_unlikeAt_0 22 rfl rfl)
theorem dX5_unlikeAt_24 : decode cX5_unlikeAt 24 = .ok (.aload_n 0, 1) := dk_42 (dk_at dksX5_unlikeAt_1 0 rfl rfl)
theorem dX5_unlikeAt_25 : decode cX5_unlikeAt 25 = .ok (.getfield 94, 3) := dk_180 0 94 (dk_at dksX5_unlikeAt_1 1 rfl rfl)
theorem dX5_unlikeAt_28 : decode cX5_unlikeAt 28 = .ok (.iload_n 1, 1) := dk_27 (dk_at dksX5_unlikeAt_1 4 rfl rfl)
theorem dX5_unlikeAt_29 : decode cX5_unlikeAt 29 = .ok (.iaload, 1) := dk_46 (dk_at dksX5_unlikeAt_1 5 rfl rfl)
theorem dX5_unlikeAt_30 : decode cX5_unlikeAt 30 = .ok (.if_icmp .ge 49, 3) := dk_162 0 49 (dk_at dksX5_unlikeAt_1 6 rfl rfl)
theorem dX5_unlikeAt_33 : decode cX5_unlikeAt 33 = .ok (.aload_n 0, 1) := dk_42 (dk_at dksX5_unlikeAt_1 9 rfl rfl)
theorem dX5_unlikeAt_34 : decode cX5_unlikeAt 34 = .ok (.getfield 97, 3) := dk_180 0 97 (dk_at dksX5_unlikeAt_1 10 rfl rfl)
theorem dX5_unlikeAt_37 : decode cX5_unlikeAt 37 = .ok (.bipush 6, 2) := dk_16 6 (dk_at dksX5_unlikeAt_1 13 rfl rfl)
theorem dX5_unlikeAt_39 : decode cX5_unlikeAt 39 = .ok (.iload_n 1, 1) := dk_27 (dk_at dksX5_unlikeAt_1 15 rfl rfl)
theorem dX5_unlikeAt_40 : decode cX5_unlikeAt 40 = .ok (.imul, 1) := dk_104 (dk_at dksX5_unlikeAt_1 16 rfl rfl)
theorem dX5_unlikeAt_41 : decode cX5_unlikeAt 41 = .ok (.iload 4, 2) := dk_21 4 (dk_at dksX5_unlikeAt_1 17 rfl rfl)
theorem dX5_unlikeAt_43 : decode cX5_unlikeAt 43 = .ok (.iadd, 1) := dk_96 (dk_at dksX5_unlikeAt_1 19 rfl rfl)
theorem dX5_unlikeAt_44 : decode cX5_unlikeAt 44 = .ok (.iaload, 1) := dk_46 (dk_at dksX5_unlikeAt_1 20 rfl rfl)
theorem dX5_unlikeAt_45 : decode cX5_unlikeAt 45 = .ok (.aload_n 0, 1) := dk_42 (dk_at dksX5_unlikeAt_1 21 rfl rfl)
theorem dX5_unlikeAt_46 : decode cX5_unlikeAt 46 = .ok (.getfield 97, 3) := dk_180 0 97 (dk_at dksX5_unlikeAt_2 0 rfl rfl)
theorem dX5_unlikeAt_49 : decode cX5_unlikeAt 49 = .ok (.bipush 6, 2) := dk_16 6 (dk_at dksX5_unlikeAt_2 3 rfl rfl)
theorem dX5_unlikeAt_51 : decode cX5_unlikeAt 51 = .ok (.iload_n 2, 1) := dk_28 (dk_at dksX5_unlikeAt_2 5 rfl rfl)
theorem dX5_unlikeAt_52 : decode cX5_unlikeAt 52 = .ok (.imul, 1) := dk_104 (dk_at dksX5_unlikeAt_2 6 rfl rfl)
theorem dX5_unlikeAt_53 : decode cX5_unlikeAt 53 = .ok (.iload 4, 2) := dk_21 4 (dk_at dksX5_unlikeAt_2 7 rfl rfl)
theorem dX5_unlikeAt_55 : decode cX5_unlikeAt 55 = .ok (.iadd, 1) := dk_96 (dk_at dksX5_unlikeAt_2 9 rfl rfl)
theorem dX5_unlikeAt_56 : decode cX5_unlikeAt 56 = .ok (.iaload, 1) := dk_46 (dk_at dksX5_unlikeAt_2 10 rfl rfl)
theorem dX5_unlikeAt_57 : decode cX5_unlikeAt 57 = .ok (.if_icmp .ne 6, 3) := dk_160 0 6 (dk_at dksX5_unlikeAt_2 11 rfl rfl)
theorem dX5_unlikeAt_60 : decode cX5_unlikeAt 60 = .ok (.goto 13, 3) := dk_167 0 13 (dk_at dksX5_unlikeAt_2 14 rfl rfl)
theorem dX5_unlikeAt_63 : decode cX5_unlikeAt 63 = .ok (.iload_n 3, 1) := dk_29 (dk_at dksX5_unlikeAt_2 17 rfl rfl)
theorem dX5_unlikeAt_64 : decode cX5_unlikeAt 64 = .ok (.iconst (-1), 1) := dk_2 (dk_at dksX5_unlikeAt_2 18 rfl rfl)
theorem dX5_unlikeAt_65 : decode cX5_unlikeAt 65 = .ok (.if_icmp .eq 5, 3) := dk_159 0 5 (dk_at dksX5_unlikeAt_2 19 rfl rfl)
theorem dX5_unlikeAt_68 : decode cX5_unlikeAt 68 = .ok (.iconst (-1), 1) := dk_2 (dk_at dksX5_unlikeAt_2 22 rfl rfl)
theorem dX5_unlikeAt_69 : decode cX5_unlikeAt 69 = .ok (.ireturn, 1) := dk_172 (dk_at dksX5_unlikeAt_2 23 rfl rfl)
theorem dX5_unlikeAt_70 : decode cX5_unlikeAt 70 = .ok (.iload 4, 2) := dk_21 4 (dk_at dksX5_unlikeAt_3 0 rfl rfl)
theorem dX5_unlikeAt_72 : decode cX5_unlikeAt 72 = .ok (.istore_n 3, 1) := dk_62 (dk_at dksX5_unlikeAt_3 2 rfl rfl)
theorem dX5_unlikeAt_73 : decode cX5_unlikeAt 73 = .ok (.iinc 4 1, 3) := dk_132 4 1 (dk_at dksX5_unlikeAt_3 3 rfl rfl)
theorem dX5_unlikeAt_76 : decode cX5_unlikeAt 76 = .ok (.goto (-54), 3) := dk_167 255 202 (dk_at dksX5_unlikeAt_3 6 rfl rfl)
theorem dX5_unlikeAt_79 : decode cX5_unlikeAt 79 = .ok (.iload_n 3, 1) := dk_29 (dk_at dksX5_unlikeAt_3 9 rfl rfl)
theorem dX5_unlikeAt_80 : decode cX5_unlikeAt 80 = .ok (.ireturn, 1) := dk_172 (dk_at dksX5_unlikeAt_3 10 rfl rfl)
def dkwX5_links_3 : List UInt8 := [162, 0, 6, 132, 3, 1, 132, 4, 1, 167, 255, 213, 29, 172]
abbrev dktX5_links_3 : List UInt8 := dkwX5_links_3 ++ []
def dkwX5_links_2 : List UInt8 := [17, 6, 64, 27, 104, 21, 4, 96, 51, 153, 0, 19, 21, 4, 16, 40, 108, 21, 4, 16, 40, 112]
abbrev dktX5_links_2 : List UInt8 := dkwX5_links_2 ++ dktX5_links_3
def dkwX5_links_1 : List UInt8 := [42, 28, 182, 1, 89, 3, 62, 3, 54, 4, 21, 4, 17, 6, 64, 162, 0, 41, 42, 180, 0, 100]
abbrev dktX5_links_1 : List UInt8 := dkwX5_links_1 ++ dktX5_links_2
def dkwX5_links_0 : List UInt8 := [42, 3, 181, 0, 1, 27, 3, 4, 184, 0, 169, 153, 0, 11, 42, 28, 182, 1, 42, 154, 0, 5, 2, 172]
abbrev dktX5_links_0 : List UInt8 := dkwX5_links_0 ++ dktX5_links_1
theorem dksX5_links_0 : cX5_links.data.toList.drop 0 = dktX5_links_0 := by decide +kernel
theorem dksX5_links_1 : cX5_links.data.toList.drop 24 = dktX5_links_1 := dk_seg dksX5_links_0 24 rfl rfl
theorem dksX5_links_2 : cX5_links.data.toList.drop 46 = dktX5_links_2 := dk_seg dksX5_links_1 22 rfl rfl
theorem dksX5_links_3 : cX5_links.data.toList.drop 68 = dktX5_links_3 := dk_seg dksX5_links_2 22 rfl rfl
theorem dX5_links_0 : decode cX5_links 0 = .ok (.aload_n 0, 1) := dk_42 (dk_at dksX5_links_0 0 rfl rfl)
theorem dX5_links_1 : decode cX5_links 1 = .ok (.iconst 0, 1) := dk_3 (dk_at dksX5_links_0 1 rfl rfl)
theorem dX5_links_2 : decode cX5_links 2 = .ok (.putfield 1, 3) := dk_181 0 1 (dk_at dksX5_links_0 2 rfl rfl)
theorem dX5_links_5 : decode cX5_links 5 = .ok (.iload_n 1, 1) := dk_27 (dk_at dksX5_links_0 5 rfl rfl)
theorem dX5_links_6 : decode cX5_links 6 = .ok (.iconst 0, 1) := dk_3 (dk_at dksX5_links_0 6 rfl rfl)
theorem dX5_links_7 : decode cX5_links 7 = .ok (.iconst 1, 1) := dk_4 (dk_at dksX5_links_0 7 rfl rfl)
theorem dX5_links_8 : decode cX5_links 8 = .ok (.invokestatic 169, 3) := dk_184 0 169 (dk_at dksX5_links_0 8 rfl rfl)
theorem dX5_links_11 : decode cX5_links 11 = .ok (.ifCond .eq 11, 3) := dk_153 0 11 (dk_at dksX5_links_0 11 rfl rfl)
theorem dX5_links_14 : decode cX5_links 14 = .ok (.aload_n 0, 1) := dk_42 (dk_at dksX5_links_0 14 rfl rfl)
theorem dX5_links_15 : decode cX5_links 15 = .ok (.iload_n 2, 1) := dk_28 (dk_at dksX5_links_0 15 rfl rfl)
theorem dX5_links_16 : decode cX5_links 16 = .ok (.invokevirtual 298, 3) := dk_182 1 42 (dk_at dksX5_links_0 16 rfl rfl)
theorem dX5_links_19 : decode cX5_links 19 = .ok (.ifCond .ne 5, 3) := dk_154 0 5 (dk_at dksX5_links_0 19 rfl rfl)
theorem dX5_links_22 : decode cX5_links 22 = .ok (.iconst (-1), 1) := dk_2 (dk_at dksX5_links_0 22 rfl rfl)
theorem dX5_links_23 : decode cX5_links 23 = .ok (.ireturn, 1) := dk_172 (dk_at dksX5_links_0 23 rfl rfl)
theorem dX5_links_24 : decode cX5_links 24 = .ok (.aload_n 0, 1) := dk_42 (dk_at dksX5_links_1 0 rfl rfl)
theorem dX5_links_25 : decode cX5_links 25 = .ok (.iload_n 2, 1) := dk_28 (dk_at dksX5_links_1 1 rfl rfl)
theorem dX5_links_26 : decode cX5_links 26 = .ok (.invokevirtual 345, 3) := dk_182 1 89 (dk_at dksX5_links_1 2 rfl rfl)
theorem dX5_links_29 : decode cX5_links 29 = .ok (.iconst 0, 1) := dk_3 (dk_at dksX5_links_1 5 rfl rfl)
theorem dX5_links_30 : decode cX5_links 30 = .ok (.istore_n 3, 1) := dk_62 (dk_at dksX5_links_1 6 rfl rfl)
theorem dX5_links_31 : decode cX5_links 31 = .ok (.iconst 0, 1) := dk_3 (dk_at dksX5_links_1 7 rfl rfl)
theorem dX5_links_32 : decode cX5_links 32 = .ok (.istore 4, 2) := dk_54 4 (dk_at dksX5_links_1 8 rfl rfl)
theorem dX5_links_34 : decode cX5_links 34 = .ok (.iload 4, 2) := dk_21 4 (dk_at dksX5_links_1 10 rfl rfl)
theorem dX5_links_36 : decode cX5_links 36 = .ok (.sipush 1600, 3) := dk_17 6 64 (dk_at dksX5_links_1 12 rfl rfl)
theorem dX5_links_39 : decode cX5_links 39 = .ok (.if_icmp .ge 41, 3) := dk_162 0 41 (dk_at dksX5_links_1 15 rfl rfl)
theorem dX5_links_42 : decode cX5_links 42 = .ok (.aload_n 0, 1) := dk_42 (dk_at dksX5_links_1 18 rfl rfl)
theorem dX5_links_43 : decode cX5_links 43 = .ok (.getfield 100, 3) := dk_180 0 100 (dk_at dksX5_links_1 19 rfl rfl)
theorem dX5_links_46 : decode cX5_links 46 = .ok (.sipush 1600, 3) := dk_17 6 64 (dk_at dksX5_links_2 0 rfl rfl)
theorem dX5_links_49 : decode cX5_links 49 = .ok (.iload_n 1, 1) := dk_27 (dk_at dksX5_links_2 3 rfl rfl)
theorem dX5_links_50 : decode cX5_links 50 = .ok (.imul, 1) := dk_104 (dk_at dksX5_links_2 4 rfl rfl)
theorem dX5_links_51 : decode cX5_links 51 = .ok (.iload 4, 2) := dk_21 4 (dk_at dksX5_links_2 5 rfl rfl)
theorem dX5_links_53 : decode cX5_links 53 = .ok (.iadd, 1) := dk_96 (dk_at dksX5_links_2 7 rfl rfl)
theorem dX5_links_54 : decode cX5_links 54 = .ok (.baload, 1) := dk_51 (dk_at dksX5_links_2 8 rfl rfl)
theorem dX5_links_55 : decode cX5_links 55 = .ok (.ifCond .eq 19, 3) := dk_153 0 19 (dk_at dksX5_links_2 9 rfl rfl)
theorem dX5_links_58 : decode cX5_links 58 = .ok (.iload 4, 2) := dk_21 4 (dk_at dksX5_links_2 12 rfl rfl)
theorem dX5_links_60 : decode cX5_links 60 = .ok (.bipush 40, 2) := dk_16 40 (dk_at dksX5_links_2 14 rfl rfl)
theorem dX5_links_62 : decode cX5_links 62 = .ok (.idiv, 1) := dk_108 (dk_at dksX5_links_2 16 rfl rfl)
theorem dX5_links_63 : decode cX5_links 63 = .ok (.iload 4, 2) := dk_21 4 (dk_at dksX5_links_2 17 rfl rfl)
theorem dX5_links_65 : decode cX5_links 65 = .ok (.bipush 40, 2) := dk_16 40 (dk_at dksX5_links_2 19 rfl rfl)
theorem dX5_links_67 : decode cX5_links 67 = .ok (.irem, 1) := dk_112 (dk_at dksX5_links_2 21 rfl rfl)
theorem dX5_links_68 : decode cX5_links 68 = .ok (.if_icmp .ge 6, 3) := dk_162 0 6 (dk_at dksX5_links_3 0 rfl rfl)
theorem dX5_links_71 : decode cX5_links 71 = .ok (.iinc 3 1, 3) := dk_132 3 1 (dk_at dksX5_links_3 3 rfl rfl)
theorem dX5_links_74 : decode cX5_links 74 = .ok (.iinc 4 1, 3) := dk_132 4 1 (dk_at dksX5_links_3 6 rfl rfl)
theorem dX5_links_77 : decode cX5_links 77 = .ok (.goto (-43), 3) := dk_167 255 213 (dk_at dksX5_links_3 9 rfl rfl)
theorem dX5_links_80 : decode cX5_links 80 = .ok (.iload_n 3, 1) := dk_29 (dk_at dksX5_links_3 12 rfl rfl)
theorem dX5_links_81 : decode cX5_links 81 = .ok (.ireturn, 1) := dk_172 (dk_at dksX5_links_3 13 rfl rfl)
def dkwX5_findLinks_10 : List UInt8 := [167, 255, 114, 42, 182, 1, 86, 177]
abbrev dktX5_findLinks_10 : List UInt8 := dkwX5_findLinks_10 ++ []
def dkwX5_findLinks_9 : List UInt8 := [17, 6, 64, 42, 180, 0, 75, 29, 46, 104, 16, 40, 21, 5, 104, 96, 21, 4, 96, 4, 84, 132, 3, 1]
abbrev dktX5_findLinks_9 : List UInt8 := dkwX5_findLinks_9 ++ dktX5_findLinks_10
def dkwX5_findLinks_8 : List UInt8 := [42, 180, 0, 75, 29, 46, 104, 16, 40, 21, 4, 104, 96, 21, 5, 96, 4, 84, 42, 180, 0, 103]
abbrev dktX5_findLinks_8 : List UInt8 := dkwX5_findLinks_8 ++ dktX5_findLinks_9
def dkwX5_findLinks_7 : List UInt8 := [42, 42, 180, 0, 75, 29, 46, 21, 4, 21, 5, 182, 1, 82, 167, 0, 53, 42, 180, 0, 103, 17, 6, 64]
abbrev dktX5_findLinks_7 : List UInt8 := dkwX5_findLinks_7 ++ dktX5_findLinks_8
def dkwX5_findLinks_6 : List UInt8 := [180, 0, 91, 29, 46, 27, 184, 0, 177, 154, 0, 6, 167, 0, 79, 42, 180, 0, 84, 29, 51, 153, 0, 20]
abbrev dktX5_findLinks_6 : List UInt8 := dkwX5_findLinks_6 ++ dktX5_findLinks_7
def dkwX5_findLinks_5 : List UInt8 := [42, 180, 0, 81, 29, 46, 46, 54, 5, 21, 4, 21, 5, 159, 0, 101, 42, 180, 0, 88, 29, 46, 42]
abbrev dktX5_findLinks_5 : List UInt8 := dkwX5_findLinks_5 ++ dktX5_findLinks_6
def dkwX5_findLinks_4 : List UInt8 := [42, 180, 1, 48, 162, 0, 140, 42, 180, 0, 72, 42, 180, 0, 78, 29, 46, 46, 54, 4, 42, 180, 0, 72]
abbrev dktX5_findLinks_4 : List UInt8 := dkwX5_findLinks_4 ++ dktX5_findLinks_5
def dkwX5_findLinks_3 : List UInt8 := [46, 5, 162, 0, 13, 42, 16, 12, 28, 104, 29, 96, 182, 1, 79, 132, 3, 1, 167, 255, 213, 3, 62, 29]
abbrev dktX5_findLinks_3 : List UInt8 := dkwX5_findLinks_3 ++ dktX5_findLinks_4
def dkwX5_findLinks_2 : List UInt8 := [2, 159, 0, 44, 29, 42, 180, 0, 32, 28, 46, 162, 0, 34, 42, 180, 0, 35, 16, 12, 28, 104, 29, 96]
abbrev dktX5_findLinks_2 : List UInt8 := dkwX5_findLinks_2 ++ dktX5_findLinks_3
def dkwX5_findLinks_1 : List UInt8 := [3, 84, 42, 180, 0, 103, 28, 3, 84, 132, 2, 1, 167, 255, 232, 42, 27, 182, 1, 70, 61, 3, 62, 28]
abbrev dktX5_findLinks_1 : List UInt8 := dkwX5_findLinks_1 ++ dktX5_findLinks_2
def dkwX5_findLinks_0 : List UInt8 := [42, 27, 182, 1, 45, 42, 27, 182, 1, 73, 3, 61, 28, 17, 12, 128, 162, 0, 23, 42, 180, 0, 100, 28]
abbrev dktX5_findLinks_0 : List UInt8 := dkwX5_findLinks_0 ++ dktX5_findLinks_1
theorem dksX5_findLinks_0 : cX5_findLinks.data.toList.drop 0 = dktX5_findLinks_0 := by decide +kernel
theorem dksX5_findLinks_1 : cX5_findLinks.data.toList.drop 24 = dktX5_findLinks_1 := dk_seg dksX5_findLinks_0 24 rfl rfl
theorem dksX5_findLinks_2 : cX5_findLinks.data.toList.drop 48 = dktX5_findLinks_2 := dk_seg dksX5_findLinks_1 24 rfl rfl
theorem dksX5_findLinks_3 : cX5_findLinks.data.toList.drop 72 = dktX5_findLinks_3 := dk_seg dksX5_findLinks_2 24 rfl rfl
theorem dksX5_findLinks_4 : cX5_findLinks.data.toList.drop 96 = dktX5_findLinks_4 := dk_seg dksX5_findLinks_3 24 rfl rfl
theorem dksX5_findLinks_5 : cX5_findLinks.data.toList.drop 120 = dktX5_findLinks_5 := dk_seg dksX5_findLinks_4 24 rfl rfl
theorem dksX5_findLinks_6 : cX5_findLinks.data.toList.drop 143 = dktX5_findLinks_6 := dk_seg dksX5_findLinks_5 23 rfl rfl
theorem dksX5_findLinks_7 : cX5_findLinks.data.toList.drop 167 = dktX5_findLinks_7 := dk_seg dksX5_findLinks_6 24 rfl rfl
theorem dksX5_findLinks_8 : cX5_findLinks.data.toList.drop 191 = dktX5_findLinks_8 := dk_seg dksX5_findLinks_7 24 rfl rfl
theorem dksX5_findLinks_9 : cX5_findLinks.data.toList.drop 213 = dktX5_findLinks_9 := dk_seg dksX5_findLinks_8 22 rfl rfl
theorem dksX5_findLinks_10 : cX5_findLinks.data.toList.drop 237 = dktX5_findLinks_10 := dk_seg dksX5_findLinks_9 24 rfl rfl
theorem dX5_findLinks_0 : decode cX5_findLinks 0 = .ok (.aload_n 0, 1) := dk_42 (dk_at dksX5_findLinks_0 0 rfl rfl)
theorem dX5_findLinks_1 : decode cX5_findLinks 1 = .ok (.iload_n 1, 1) := dk_27 (dk_at dksX5_findLinks_0 1 rfl rfl)
theorem dX5_findLinks_2 : decode cX5_findLinks 2 = .ok (.invokevirtual 301, 3) := dk_182 1 45 (dk_at dksX5_findLinks_0 2 rfl rfl)
theorem dX5_findLinks_5 : decode cX5_findLinks 5 = .ok (.aload_n 0, 1) := dk_42 (dk_at dksX5_findLinks_0 5 rfl rfl)
theorem dX5_findLinks_6 : decode cX5_findLinks 6 = .ok (.iload_n 1, 1) := dk_27 (dk_at dksX5_findLinks_0 6 rfl rfl)
theorem dX5_findLinks_7 : decode cX5_findLinks 7 = .ok (.invokevirtual 329, 3) := dk_182 1 73 (dk_at dksX5_findLinks_0 7 rfl rfl)
theorem dX5_findLinks_10 : decode cX5_findLinks 10 = .ok (.iconst 0, 1) := dk_3 (dk_at dksX5_findLinks_0 10 rfl rfl)
theorem dX5_findLinks_11 : decode cX5_findLinks 11 = .ok (.istore_n 2, 1) := dk_61 (dk_at dksX5_findLinks_0 11 rfl rfl)
theorem dX5_findLinks_12 : decode cX5_findLinks 12 = .ok (.iload_n 2, 1) := dk_28 (dk_at dksX5_findLinks_0 12 rfl rfl)
theorem dX5_findLinks_13 : decode cX5_findLinks 13 = .ok (.sipush 3200, 3) := dk_17 12 128 (dk_at dksX5_findLinks_0 13 rfl rfl)
theorem dX5_findLinks_16 : decode cX5_findLinks 16 = .ok (.if_icmp .ge 23, 3) := dk_162 0 23 (dk_at dksX5_findLinks_0 16 rfl rfl)
theorem dX5_findLinks_19 : decode cX5_findLinks 19 = .ok (.aload_n 0, 1) := dk_42 (dk_at dksX5_findLinks_0 19 rfl rfl)
theorem dX5_findLinks_20 : decode cX5_findLinks 20 = .ok (.getfield 100, 3) := dk_180 0 100 (dk_at dksX5_findLinks_0 20 rfl rfl)
theorem dX5_findLinks_23 : decode cX5_findLinks 23 = .ok (.iload_n 2, 1) := dk_28 (dk_at dksX5_findLinks_0 23 rfl rfl)
theorem dX5_findLinks_24 : decode cX5_findLinks 24 = .ok (.iconst 0, 1) := dk_3 (dk_at dksX5_findLinks_1 0 rfl rfl)
theorem dX5_findLinks_25 : decode cX5_findLinks 25 = .ok (.bastore, 1) := dk_84 (dk_at dksX5_findLinks_1 1 rfl rfl)
theorem dX5_findLinks_26 : decode cX5_findLinks 26 = .ok (.aload_n 0, 1) := dk_42 (dk_at dksX5_findLinks_1 2 rfl rfl)
theorem dX5_findLinks_27 : decode cX5_findLinks 27 = .ok (.getfield 103, 3) := dk_180 0 103 (dk_at dksX5_findLinks_1 3 rfl rfl)
theorem dX5_findLinks_30 : decode cX5_findLinks 30 = .ok (.iload_n 2, 1) := dk_28 (dk_at dksX5_findLinks_1 6 rfl rfl)
theorem dX5_findLinks_31 : decode cX5_findLinks 31 = .ok (.iconst 0, 1) := dk_3 (dk_at dksX5_findLinks_1 7 rfl rfl)
theorem dX5_findLinks_32 : decode cX5_findLinks 32 = .ok (.bastore, 1) := dk_84 (dk_at dksX5_findLinks_1 8 rfl rfl)
theorem dX5_findLinks_33 : decode cX5_findLinks 33 = .ok (.iinc 2 1, 3) := dk_132 2 1 (dk_at dksX5_findLinks_1 9 rfl rfl)
theorem dX5_findLinks_36 : decode cX5_findLinks 36 = .ok (.goto (-24), 3) := dk_167 255 232 (dk_at dksX5_findLinks_1 12 rfl rfl)
theorem dX5_findLinks_39 : decode cX5_findLinks 39 = .ok (.aload_n 0, 1) := dk_42 (dk_at dksX5_findLinks_1 15 rfl rfl)
theorem dX5_findLinks_40 : decode cX5_findLinks 40 = .ok (.iload_n 1, 1) := dk_27 (dk_at dksX5_findLinks_1 16 rfl rfl)
theorem dX5_findLinks_41 : decode cX5_findLinks 41 = .ok (.invokevirtual 326, 3) := dk_182 1 70 (dk_at dksX5_findLinks_1 17 rfl rfl)
theorem dX5_findLinks_44 : decode cX5_findLinks 44 = .ok (.istore_n 2, 1) := dk_61 (dk_at dksX5_findLinks_1 20 rfl rfl)
theorem dX5_findLinks_45 : decode cX5_findLinks 45 = .ok (.iconst 0, 1) := dk_3 (dk_at dksX5_findLinks_1 21 rfl rfl)
theorem dX5_findLinks_46 : decode cX5_findLinks 46 = .ok (.istore_n 3, 1) := dk_62 (dk_at dksX5_findLinks_1 22 rfl rfl)
theorem dX5_findLinks_47 : decode cX5_findLinks 47 = .ok (.iload_n 2, 1) := dk_28 (dk_at dksX5_findLinks_1 23 rfl rfl)
theorem dX5_findLinks_48 : decode cX5_findLinks 48 = .ok (.iconst (-1), 1) := dk_2 (dk_at dksX5_findLinks_2 0 rfl rfl)
theorem dX5_findLinks_49 : decode cX5_findLinks 49 = .ok (.if_icmp .eq 44, 3) := dk_159 0 44 (dk_at dksX5_findLinks_2 1 rfl rfl)
theorem dX5_findLinks_52 : decode cX5_findLinks 52 = .ok (.iload_n 3, 1) := dk_29 (dk_at dksX5_findLinks_2 4 rfl rfl)
theorem dX5_findLinks_53 : decode cX5_findLinks 53 = .ok (.aload_n 0, 1) := dk_42 (dk_at dksX5_findLinks_2 5 rfl rfl)
theorem dX5_findLinks_54 : decode cX5_findLinks 54 = .ok (.getfield 32, 3) := dk_180 0 32 (dk_at dksX5_findLinks_2 6 rfl rfl)
theorem dX5_findLinks_57 : decode cX5_findLinks 57 = .ok (.iload_n 2, 1) := dk_28 (dk_at dksX5_findLinks_2 9 rfl rfl)
theorem dX5_findLinks_58 : decode cX5_findLinks 58 = .ok (.iaload, 1) := dk_46 (dk_at dksX5_findLinks_2 10 rfl rfl)
theorem dX5_findLinks_59 : decode cX5_findLinks 59 = .ok (.if_icmp .ge 34, 3) := dk_162 0 34 (dk_at dksX5_findLinks_2 11 rfl rfl)
theorem dX5_findLinks_62 : decode cX5_findLinks 62 = .ok (.aload_n 0, 1) := dk_42 (dk_at dksX5_findLinks_2 14 rfl rfl)
theorem dX5_findLinks_63 : decode cX5_findLinks 63 = .ok (.getfield 35, 3) := dk_180 0 35 (dk_at dksX5_findLinks_2 15 rfl rfl)
theorem dX5_findLinks_66 : decode cX5_findLinks 66 = .ok (.bipush 12, 2) := dk_16 12 (dk_at dksX5_findLinks_2 18 rfl rfl)
theorem dX5_findLinks_68 : decode cX5_findLinks 68 = .ok (.iload_n 2, 1) := dk_28 (dk_at dksX5_findLinks_2 20 rfl rfl)
theorem dX5_findLinks_69 : decode cX5_findLinks 69 = .ok (.imul, 1) := dk_104 (dk_at dksX5_findLinks_2 21 rfl rfl)
theorem dX5_findLinks_70 : decode cX5_findLinks 70 = .ok (.iload_n 3, 1) := dk_29 (dk_at dksX5_findLinks_2 22 rfl rfl)
theorem dX5_findLinks_71 : decode cX5_findLinks 71 = .ok (.iadd, 1) := dk_96 (dk_at dksX5_findLinks_2 23 rfl rfl)
theorem dX5_findLinks_72 : decode cX5_findLinks 72 = .ok (.iaload, 1) := dk_46 (dk_at dksX5_findLinks_3 0 rfl rfl)
theorem dX5_findLinks_73 : decode cX5_findLinks 73 = .ok (.iconst 2, 1) := dk_5 (dk_at dksX5_findLinks_3 1 rfl rfl)
theorem dX5_findLinks_74 : decode cX5_findLinks 74 = .ok (.if_icmp .ge 13, 3) := dk_162 0 13 (dk_at dksX5_findLinks_3 2 rfl rfl)
theorem dX5_findLinks_77 : decode cX5_findLinks 77 = .ok (.aload_n 0, 1) := dk_42 (dk_at dksX5_findLinks_3 5 rfl rfl)
theorem dX5_findLinks_78 : decode cX5_findLinks 78 = .ok (.bipush 12, 2) := dk_16 12 (dk_at dksX5_findLinks_3 6 rfl rfl)
theorem dX5_findLinks_80 : decode cX5_findLinks 80 = .ok (.iload_n 2, 1) := dk_28 (dk_at dksX5_findLinks_3 8 rfl rfl)
theorem dX5_findLinks_81 : decode cX5_findLinks 81 = .ok (.imul, 1) := dk_104 (dk_at dksX5_findLinks_3 9 rfl rfl)
theorem dX5_findLinks_82 : decode cX5_findLinks 82 = .ok (.iload_n 3, 1) := dk_29 (dk_at dksX5_findLinks_3 10 rfl rfl)
theorem dX5_findLinks_83 : decode cX5_findLinks 83 = .ok (.iadd, 1) := dk_96 (dk_at dksX5_findLinks_3 11 rfl rfl)
theorem dX5_findLinks_84 : decode cX5_findLinks 84 = .ok (.invokevirtual 335, 3) := dk_182 1 79 (dk_at dksX5_findLinks_3 12 rfl rfl)
theorem dX5_findLinks_87 : decode cX5_findLinks 87 = .ok (.iinc 3 1, 3) := dk_132 3 1 (dk_at dksX5_findLinks_3 15 rfl rfl)
theorem dX5_findLinks_90 : decode cX5_findLinks 90 = .ok (.goto (-43), 3) := dk_167 255 213 (dk_at dksX5_findLinks_3 18 rfl rfl)
theorem dX5_findLinks_93 : decode cX5_findLinks 93 = .ok (.iconst 0, 1) := dk_3 (dk_at dksX5_findLinks_3 21 rfl rfl)
theorem dX5_findLinks_94 : decode cX5_findLinks 94 = .ok (.istore_n 3, 1) := dk_62 (dk_at dksX5_findLinks_3 22 rfl rfl)
theorem dX5_findLinks_95 : decode cX5_findLinks 95 = .ok (.iload_n 3, 1) := dk_29 (dk_at dksX5_findLinks_3 23 rfl rfl)
theorem dX5_findLinks_96 : decode cX5_findLinks 96 = .ok (.aload_n 0, 1) := dk_42 (dk_at dksX5_findLinks_4 0 rfl rfl)
theorem dX5_findLinks_97 : decode cX5_findLinks 97 = .ok (.getfield 304, 3) := dk_180 1 48 (dk_at dksX5_findLinks_4 1 rfl rfl)
theorem dX5_findLinks_100 : decode cX5_findLinks 100 = .ok (.if_icmp .ge 140, 3) := dk_162 0 140 (dk_at dksX5_findLinks_4 4 rfl rfl)
theorem dX5_findLinks_103 : decode cX5_findLinks 103 = .ok (.aload_n 0, 1) := dk_42 (dk_at dksX5_findLinks_4 7 rfl rfl)
theorem dX5_findLinks_104 : decode cX5_findLinks 104 = .ok (.getfield 72, 3) := dk_180 0 72 (dk_at dksX5_findLinks_4 8 rfl rfl)
theorem dX5_findLinks_107 : decode cX5_findLinks 107 = .ok (.aload_n 0, 1) := dk_42 (dk_at dksX5_findLinks_4 11 rfl rfl)
theorem dX5_findLinks_108 : decode cX5_findLinks 108 = .ok (.getfield 78, 3) := dk_180 0 78 (dk_at dksX5_findLinks_4 12 rfl rfl)
theorem dX5_findLinks_111 : decode cX5_findLinks 111 = .ok (.iload_n 3, 1) := dk_29 (dk_at dksX5_findLinks_4 15 rfl rfl)
theorem dX5_findLinks_112 : decode cX5_findLinks 112 = .ok (.iaload, 1) := dk_46 (dk_at dksX5_findLinks_4 16 rfl rfl)
theorem dX5_findLinks_113 : decode cX5_findLinks 113 = .ok (.iaload, 1) := dk_46 (dk_at dksX5_findLinks_4 17 rfl rfl)
theorem dX5_findLinks_114 : decode cX5_findLinks 114 = .ok (.istore 4, 2) := dk_54 4 (dk_at dksX5_findLinks_4 18 rfl rfl)
theorem dX5_findLinks_116 : decode cX5_findLinks 116 = .ok (.aload_n 0, 1) := dk_42 (dk_at dksX5_findLinks_4 20 rfl rfl)
theorem dX5_findLinks_117 : decode cX5_findLinks 117 = .ok (.getfield 72, 3) := dk_180 0 72 (dk_at dksX5_findLinks_4 21 rfl rfl)
theorem dX5_findLinks_120 : decode cX5_findLinks 120 = .ok (.aload_n 0, 1) := dk_42 (dk_at dksX5_findLinks_5 0 rfl rfl)
theorem dX5_findLinks_121 : decode cX5_findLinks 121 = .ok (.getfield 81, 3) := dk_180 0 81 (dk_at dksX5_findLinks_5 1 rfl rfl)
theorem dX5_findLinks_124 : decode cX5_findLinks 124 = .ok (.iload_n 3, 1) := dk_29 (dk_at dksX5_findLinks_5 4 rfl rfl)
theorem dX5_findLinks_125 : decode cX5_findLinks 125 = .ok (.iaload, 1) := dk_46 (dk_at dksX5_findLinks_5 5 rfl rfl)
theorem dX5_findLinks_126 : decode cX5_findLinks 126 = .ok (.iaload, 1) := dk_46 (dk_at dksX5_findLinks_5 6 rfl rfl)
theorem dX5_findLinks_127 : decode cX5_findLinks 127 = .ok (.istore 5, 2) := dk_54 5 (dk_at dksX5_findLinks_5 7 rfl rfl)
theorem dX5_findLinks_129 : decode cX5_findLinks 129 = .ok (.iload 4, 2) := dk_21 4 (dk_at dksX5_findLinks_5 9 rfl rfl)
theorem dX5_findLinks_131 : decode cX5_findLinks 131 = .ok (.iload 5, 2) := dk_21 5 (dk_at dksX5_findLinks_5 11 rfl rfl)
theorem dX5_findLinks_133 : decode cX5_findLinks 133 = .ok (.if_icmp .eq 101, 3) := dk_159 0 101 (dk_at dksX5_findLinks_5 13 rfl rfl)
theorem dX5_findLinks_136 : decode cX5_findLinks 136 = .ok (.aload_n 0, 1) := dk_42 (dk_at dksX5_findLinks_5 16 rfl rfl)
theorem dX5_findLinks_137 : decode cX5_findLinks 137 = .ok (.getfield 88, 3) := dk_180 0 88 (dk_at dksX5_findLinks_5 17 rfl rfl)
theorem dX5_findLinks_140 : decode cX5_findLinks 140 = .ok (.iload_n 3, 1) := dk_29 (dk_at dksX5_findLinks_5 20 rfl rfl)
theorem dX5_findLinks_141 : decode cX5_findLinks 141 = .ok (.iaload, 1) := dk_46 (dk_at dksX5_findLinks_5 21 rfl rfl)
theorem dX5_findLinks_142 : decode cX5_findLinks 142 = .ok (.aload_n 0, 1) := dk_42 (dk_at dksX5_findLinks_5 22 rfl rfl)
theorem dX5_findLinks_143 : decode cX5_findLinks 143 = .ok (.getfield 91, 3) := dk_180 0 91 (dk_at dksX5_findLinks_6 0 rfl rfl)
theorem dX5_findLinks_146 : decode cX5_findLinks 146 = .ok (.iload_n 3, 1) := dk_29 (dk_at dksX5_findLinks_6 3 rfl rfl)
theorem dX5_findLinks_147 : decode cX5_findLinks 147 = .ok (.iaload, 1) := dk_46 (dk_at dksX5_findLinks_6 4 rfl rfl)
theorem dX5_findLinks_148 : decode cX5_findLinks 148 = .ok (.iload_n 1, 1) := dk_27 (dk_at dksX5_findLinks_6 5 rfl rfl)
theorem dX5_findLinks_149 : decode cX5_findLinks 149 = .ok (.invokestatic 177, 3) := dk_184 0 177 (dk_at dksX5_findLinks_6 6 rfl rfl)
theorem dX5_findLinks_152 : decode cX5_findLinks 152 = .ok (.ifCond .ne 6, 3) := dk_154 0 6 (dk_at dksX5_findLinks_6 9 rfl rfl)
theorem dX5_findLinks_155 : decode cX5_findLinks 155 = .ok (.goto 79, 3) := dk_167 0 79 (dk_at dksX5_findLinks_6 12 rfl rfl)
theorem dX5_findLinks_158 : decode cX5_findLinks 158 = .ok (.aload_n 0, 1) := dk_42 (dk_at dksX5_findLinks_6 15 rfl rfl)
theorem dX5_findLinks_159 : decode cX5_findLinks 159 = .ok (.getfield 84, 3) := dk_180 0 84 (dk_at dksX5_findLinks_6 16 rfl rfl)
theorem dX5_findLinks_162 : decode cX5_findLinks 162 = .ok (.iload_n 3, 1) := dk_29 (dk_at dksX5_findLinks_6 19 rfl rfl)
theorem dX5_findLinks_163 : decode cX5_findLinks 163 = .ok (.baload, 1) := dk_51 (dk_at dksX5_findLinks_6 20 rfl rfl)
theorem dX5_findLinks_164 : decode cX5_findLinks 164 = .ok (.ifCond .eq 20, 3) := dk_153 0 20 (dk_at dksX5_findLinks_6 21 rfl rfl)
theorem dX5_findLinks_167 : decode cX5_findLinks 167 = .ok (.aload_n 0, 1) := dk_42 (dk_at dksX5_findLinks_7 0 rfl rfl)
theorem dX5_findLinks_168 : decode cX5_findLinks 168 = .ok (.aload_n 0, 1) := dk_42 (dk_at dksX5_findLinks_7 1 rfl rfl)
theorem dX5_findLinks_169 : decode cX5_findLinks 169 = .ok (.getfield 75, 3) := dk_180 0 75 (dk_at dksX5_findLinks_7 2 rfl rfl)
theorem dX5_findLinks_172 : decode cX5_findLinks 172 = .ok (.iload_n 3, 1) := dk_29 (dk_at dksX5_findLinks_7 5 rfl rfl)
theorem dX5_findLinks_173 : decode cX5_findLinks 173 = .ok (.iaload, 1) := dk_46 (dk_at dksX5_findLinks_7 6 rfl rfl)
theorem dX5_findLinks_174 : decode cX5_findLinks 174 = .ok (.iload 4, 2) := dk_21 4 (dk_at dksX5_findLinks_7 7 rfl rfl)
theorem dX5_findLinks_176 : decode cX5_findLinks 176 = .ok (.iload 5, 2) := dk_21 5 (dk_at dksX5_findLinks_7 9 rfl rfl)
theorem dX5_findLinks_178 : decode cX5_findLinks 178 = .ok (.invokevirtual 338, 3) := dk_182 1 82 (dk_at dksX5_findLinks_7 11 rfl rfl)
theorem dX5_findLinks_181 : decode cX5_findLinks 181 = .ok (.goto 53, 3) := dk_167 0 53 (dk_at dksX5_findLinks_7 14 rfl rfl)
theorem dX5_findLinks_184 : decode cX5_findLinks 184 = .ok (.aload_n 0, 1) := dk_42 (dk_at dksX5_findLinks_7 17 rfl rfl)
theorem dX5_findLinks_185 : decode cX5_findLinks 185 = .ok (.getfield 103, 3) := dk_180 0 103 (dk_at dksX5_findLinks_7 18 rfl rfl)
theorem dX5_findLinks_188 : decode cX5_findLinks 188 = .ok (.sipush 1600, 3) := dk_17 6 64 (dk_at dksX5_findLinks_7 21 rfl rfl)
theorem dX5_findLinks_191 : decode cX5_findLinks 191 = .ok (.aload_n 0, 1) := dk_42 (dk_at dksX5_findLinks_8 0 rfl rfl)
theorem dX5_findLinks_192 : decode cX5_findLinks 192 = .ok (.getfield 75, 3) := dk_180 0 75 (dk_at dksX5_findLinks_8 1 rfl rfl)
theorem dX5_findLinks_195 : decode cX5_findLinks 195 = .ok (.iload_n 3, 1) := dk_29 (dk_at dksX5_findLinks_8 4 rfl rfl)
theorem dX5_findLinks_196 : decode cX5_findLinks 196 = .ok (.iaload, 1) := dk_46 (dk_at dksX5_findLinks_8 5 rfl rfl)
theorem dX5_findLinks_197 : decode cX5_findLinks 197 = .ok (.imul, 1) := dk_104 (dk_at dksX5_findLinks_8 6 rfl rfl)
theorem dX5_findLinks_198 : decode cX5_findLinks 198 = .ok (.bipush 40, 2) := dk_16 40 (dk_at dksX5_findLinks_8 7 rfl rfl)
theorem dX5_findLinks_200 : decode cX5_findLinks 200 = .ok (.iload 4, 2) := dk_21 4 (dk_at dksX5_findLinks_8 9 rfl rfl)
theorem dX5_findLinks_202 : decode cX5_findLinks 202 = .ok (.imul, 1) := dk_104 (dk_at dksX5_findLinks_8 11 rfl rfl)
theorem dX5_findLinks_203 : decode cX5_findLinks 203 = .ok (.iadd, 1) := dk_96 (dk_at dksX5_findLinks_8 12 rfl rfl)
theorem dX5_findLinks_204 : decode cX5_findLinks 204 = .ok (.iload 5, 2) := dk_21 5 (dk_at dksX5_findLinks_8 13 rfl rfl)
theorem dX5_findLinks_206 : decode cX5_findLinks 206 = .ok (.iadd, 1) := dk_96 (dk_at dksX5_findLinks_8 15 rfl rfl)
theorem dX5_findLinks_207 : decode cX5_findLinks 207 = .ok (.iconst 1, 1) := dk_4 (dk_at dksX5_findLinks_8 16 rfl rfl)
theorem dX5_findLinks_208 : decode cX5_findLinks 208 = .ok (.bastore, 1) := dk_84 (dk_at dksX5_findLinks_8 17 rfl rfl)
theorem dX5_findLinks_209 : decode cX5_findLinks 209 = .ok (.aload_n 0, 1) := dk_42 (dk_at dksX5_findLinks_8 18 rfl rfl)
theorem dX5_findLinks_210 : decode cX5_findLinks 210 = .ok (.getfield 103, 3) := dk_180 0 103 (dk_at dksX5_findLinks_8 19 rfl rfl)
theorem dX5_findLinks_213 : decode cX5_findLinks 213 = .ok (.sipush 1600, 3) := dk_17 6 64 (dk_at dksX5_findLinks_9 0 rfl rfl)
theorem dX5_findLinks_216 : decode cX5_findLinks 216 = .ok (.aload_n 0, 1) := dk_42 (dk_at dksX5_findLinks_9 3 rfl rfl)
theorem dX5_findLinks_217 : decode cX5_findLinks 217 = .ok (.getfield 75, 3) := dk_180 0 75 (dk_at dksX5_findLinks_9 4 rfl rfl)
theorem dX5_findLinks_220 : decode cX5_findLinks 220 = .ok (.iload_n 3, 1) := dk_29 (dk_at dksX5_findLinks_9 7 rfl rfl)
theorem dX5_findLinks_221 : decode cX5_findLinks 221 = .ok (.iaload, 1) := dk_46 (dk_at dksX5_findLinks_9 8 rfl rfl)
theorem dX5_findLinks_222 : decode cX5_findLinks 222 = .ok (.imul, 1) := dk_104 (dk_at dksX5_findLinks_9 9 rfl rfl)
theorem dX5_findLinks_223 : decode cX5_findLinks 223 = .ok (.bipush 40, 2) := dk_16 40 (dk_at dksX5_findLinks_9 10 rfl rfl)
theorem dX5_findLinks_225 : decode cX5_findLinks 225 = .ok (.iload 5, 2) := dk_21 5 (dk_at dksX5_findLinks_9 12 rfl rfl)
theorem dX5_findLinks_227 : decode cX5_findLinks 227 = .ok (.imul, 1) := dk_104 (dk_at dksX5_findLinks_9 14 rfl rfl)
theorem dX5_findLinks_228 : decode cX5_findLinks 228 = .ok (.iadd, 1) := dk_96 (dk_at dksX5_findLinks_9 15 rfl rfl)
theorem dX5_findLinks_229 : decode cX5_findLinks 229 = .ok (.iload 4, 2) := dk_21 4 (dk_at dksX5_findLinks_9 16 rfl rfl)
theorem dX5_findLinks_231 : decode cX5_findLinks 231 = .ok (.iadd, 1) := dk_96 (dk_at dksX5_findLinks_9 18 rfl rfl)
theorem dX5_findLinks_232 : decode cX5_findLinks 232 = .ok (.iconst 1, 1) := dk_4 (dk_at dksX5_findLinks_9 19 rfl rfl)
theorem dX5_findLinks_233 : decode cX5_findLinks 233 = .ok (.bastore, 1) := dk_84 (dk_at dksX5_findLinks_9 20 rfl rfl)
theorem dX5_findLinks_234 : decode cX5_findLinks 234 = .ok (.iinc 3 1, 3) := dk_132 3 1 (dk_at dksX5_findLinks_9 21 rfl rfl)
theorem dX5_findLinks_237 : decode cX5_findLinks 237 = .ok (.goto (-142), 3) := dk_167 255 114 (dk_at dksX5_findLinks_10 0 rfl rfl)
theorem dX5_findLinks_240 : decode cX5_findLinks 240 = .ok (.aload_n 0, 1) := dk_42 (dk_at dksX5_findLinks_10 3 rfl rfl)
theorem dX5_findLinks_241 : decode cX5_findLinks 241 = .ok (.invokevirtual 342, 3) := dk_182 1 86 (dk_at dksX5_findLinks_10 4 rfl rfl)
theorem dX5_findLinks_244 : decode cX5_findLinks 244 = .ok (.return_, 1) := dk_177 (dk_at dksX5_findLinks_10 7 rfl rfl)
def dkwX5_linksBy_7 : List UInt8 := [42, 180, 0, 35, 27, 46, 28, 16, 40, 108, 28, 16, 40, 112, 182, 1, 82, 132, 2, 1, 167, 255, 213, 177]
abbrev dktX5_linksBy_7 : List UInt8 := dkwX5_linksBy_7 ++ []
def dkwX5_linksBy_6 : List UInt8 := [61, 28, 17, 6, 64, 162, 0, 42, 42, 180, 0, 109, 28, 46, 42, 180, 0, 44, 27, 46, 161, 0, 21, 42]
abbrev dktX5_linksBy_6 : List UInt8 := dkwX5_linksBy_6 ++ dktX5_linksBy_7
def dkwX5_linksBy_5 : List UInt8 := [21, 6, 104, 21, 5, 96, 92, 46, 4, 96, 79, 132, 3, 1, 167, 255, 161, 132, 2, 1, 167, 255, 143, 3]
abbrev dktX5_linksBy_5 : List UInt8 := dkwX5_linksBy_5 ++ dktX5_linksBy_6
def dkwX5_linksBy_4 : List UInt8 := [180, 0, 109, 21, 5, 21, 6, 162, 0, 14, 16, 40, 21, 5, 104, 21, 6, 96, 167, 0, 11, 16, 40]
abbrev dktX5_linksBy_4 : List UInt8 := dkwX5_linksBy_4 ++ dktX5_linksBy_5
def dkwX5_linksBy_3 : List UInt8 := [104, 21, 4, 96, 46, 54, 5, 42, 180, 0, 97, 16, 6, 29, 104, 21, 4, 96, 46, 54, 6, 42]
abbrev dktX5_linksBy_3 : List UInt8 := dkwX5_linksBy_3 ++ dktX5_linksBy_4
def dkwX5_linksBy_2 : List UInt8 := [182, 1, 67, 154, 0, 6, 167, 0, 74, 42, 28, 29, 182, 1, 64, 54, 4, 42, 180, 0, 97, 16, 6, 28]
abbrev dktX5_linksBy_2 : List UInt8 := dkwX5_linksBy_2 ++ dktX5_linksBy_3
def dkwX5_linksBy_1 : List UInt8 := [28, 42, 180, 1, 51, 162, 0, 111, 28, 4, 96, 62, 29, 42, 180, 1, 51, 162, 0, 93, 42, 27, 28, 29]
abbrev dktX5_linksBy_1 : List UInt8 := dkwX5_linksBy_1 ++ dktX5_linksBy_2
def dkwX5_linksBy_0 : List UInt8 := [3, 61, 28, 17, 6, 64, 162, 0, 16, 42, 180, 0, 109, 28, 3, 79, 132, 2, 1, 167, 255, 239, 3, 61]
abbrev dktX5_linksBy_0 : List UInt8 := dkwX5_linksBy_0 ++ dktX5_linksBy_1
theorem dksX5_linksBy_0 : cX5_linksBy.data.toList.drop 0 = dktX5_linksBy_0 := by decide +kernel
theorem dksX5_linksBy_1 : cX5_linksBy.data.toList.drop 24 = dktX5_linksBy_1 := dk_seg dksX5_linksBy_0 24 rfl rfl
theorem dksX5_linksBy_2 : cX5_linksBy.data.toList.drop 48 = dktX5_linksBy_2 := dk_seg dksX5_linksBy_1 24 rfl rfl
theorem dksX5_linksBy_3 : cX5_linksBy.data.toList.drop 72 = dktX5_linksBy_3 := dk_seg dksX5_linksBy_2 24 rfl rfl
theorem dksX5_linksBy_4 : cX5_linksBy.data.toList.drop 94 = dktX5_linksBy_4 := dk_seg dksX5_linksBy_3 22 rfl rfl
theorem dksX5_linksBy_5 : cX5_linksBy.data.toList.drop 117 = dktX5_linksBy_5 := dk_seg dksX5_linksBy_4 23 rfl rfl
theorem dksX5_linksBy_6 : cX5_linksBy.data.toList.drop 141 = dktX5_linksBy_6 := dk_seg dksX5_linksBy_5 24 rfl rfl
theorem dksX5_linksBy_7 : cX5_linksBy.data.toList.drop 165 = dktX5_linksBy_7 := dk_seg dksX5_linksBy_6 24 rfl rfl
theorem dX5_linksBy_0 : decode cX5_linksBy 0 = .ok (.iconst 0, 1) := dk_3 (dk_at dksX5_linksBy_0 0 rfl rfl)
theorem dX5_linksBy_1 : decode cX5_linksBy 1 = .ok (.istore_n 2, 1) := dk_61 (dk_at dksX5_linksBy_0 1 rfl rfl)
theorem dX5_linksBy_2 : decode cX5_linksBy 2 = .ok (.iload_n 2, 1) := dk_28 (dk_at dksX5_linksBy_0 2 rfl rfl)
theorem dX5_linksBy_3 : decode cX5_linksBy 3 = .ok (.sipush 1600, 3) := dk_17 6 64 (dk_at dksX5_linksBy_0 3 rfl rfl)
theorem dX5_linksBy_6 : decode cX5_linksBy 6 = .ok (.if_icmp .ge 16, 3) := dk_162 0 16 (dk_at dksX5_linksBy_0 6 rfl rfl)
theorem dX5_linksBy_9 : decode cX5_linksBy 9 = .ok (.aload_n 0, 1) := dk_42 (dk_at dksX5_linksBy_0 9 rfl rfl)
theorem dX5_linksBy_10 : decode cX5_linksBy 10 = .ok (.getfield 109, 3) := dk_180 0 109 (dk_at dksX5_linksBy_0 10 rfl rfl)
theorem dX5_linksBy_13 : decode cX5_linksBy 13 = .ok (.iload_n 2, 1) := dk_28 (dk_at dksX5_linksBy_0 13 rfl rfl)
theorem dX5_linksBy_14 : decode cX5_linksBy 14 = .ok (.iconst 0, 1) := dk_3 (dk_at dksX5_linksBy_0 14 rfl rfl)
theorem dX5_linksBy_15 : decode cX5_linksBy 15 = .ok (.iastore, 1) := dk_79 (dk_at dksX5_linksBy_0 15 rfl rfl)
theorem dX5_linksBy_16 : decode cX5_linksBy 16 = .ok (.iinc 2 1, 3) := dk_132 2 1 (dk_at dksX5_linksBy_0 16 rfl rfl)
theorem dX5_linksBy_19 : decode cX5_linksBy 19 = .ok (.goto (-17), 3) := dk_167 255 239 (dk_at dksX5_linksBy_0 19 rfl rfl)
theorem dX5_linksBy_22 : decode cX5_linksBy 22 = .ok (.iconst 0, 1) := dk_3 (dk_at dksX5_linksBy_0 22 rfl rfl)
theorem dX5_linksBy_23 : decode cX5_linksBy 23 = .ok (.istore_n 2, 1) := dk_61 (dk_at dksX5_linksBy_0 23 rfl rfl)
theorem dX5_linksBy_24 : decode cX5_linksBy 24 = .ok (.iload_n 2, 1) := dk_28 (dk_at dksX5_linksBy_1 0 rfl rfl)
theorem dX5_linksBy_25 : decode cX5_linksBy 25 = .ok (.aload_n 0, 1) := dk_42 (dk_at dksX5_linksBy_1 1 rfl rfl)
theorem dX5_linksBy_26 : decode cX5_linksBy 26 = .ok (.getfield 307, 3) := dk_180 1 51 (dk_at dksX5_linksBy_1 2 rfl rfl)
theorem dX5_linksBy_29 : decode cX5_linksBy 29 = .ok (.if_icmp .ge 111, 3) := dk_162 0 111 (dk_at dksX5_linksBy_1 5 rfl rfl)
theorem dX5_linksBy_32 : decode cX5_linksBy 32 = .ok (.iload_n 2, 1) := dk_28 (dk_at dksX5_linksBy_1 8 rfl rfl)
theorem dX5_linksBy_33 : decode cX5_linksBy 33 = .ok (.iconst 1, 1) := dk_4 (dk_at dksX5_linksBy_1 9 rfl rfl)
theorem dX5_linksBy_34 : decode cX5_linksBy 34 = .ok (.iadd, 1) := dk_96 (dk_at dksX5_linksBy_1 10 rfl rfl)
theorem dX5_linksBy_35 : decode cX5_linksBy 35 = .ok (.istore_n 3, 1) := dk_62 (dk_at dksX5_linksBy_1 11 rfl rfl)
theorem dX5_linksBy_36 : decode cX5_linksBy 36 = .ok (.iload_n 3, 1) := dk_29 (dk_at dksX5_linksBy_1 12 rfl rfl)
theorem dX5_linksBy_37 : decode cX5_linksBy 37 = .ok (.aload_n 0, 1) := dk_42 (dk_at dksX5_linksBy_1 13 rfl rfl)
theorem dX5_linksBy_38 : decode cX5_linksBy 38 = .ok (.getfield 307, 3) := dk_180 1 51 (dk_at dksX5_linksBy_1 14 rfl rfl)
theorem dX5_linksBy_41 : decode cX5_linksBy 41 = .ok (.if_icmp .ge 93, 3) := dk_162 0 93 (dk_at dksX5_linksBy_1 17 rfl rfl)
theorem dX5_linksBy_44 : decode cX5_linksBy 44 = .ok (.aload_n 0, 1) := dk_42 (dk_at dksX5_linksBy_1 20 rfl rfl)
theorem dX5_linksBy_45 : decode cX5_linksBy 45 = .ok (.iload_n 1, 1) := dk_27 (dk_at dksX5_linksBy_1 21 rfl rfl)
theorem dX5_linksBy_46 : decode cX5_linksBy 46 = .ok (.iload_n 2, 1) := dk_28 (dk_at dksX5_linksBy_1 22 rfl rfl)
theorem dX5_linksBy_47 : decode cX5_linksBy 47 = .ok (.iload_n 3, 1) := dk_29 (dk_at dksX5_linksBy_1 23 rfl rfl)
theorem dX5_linksBy_48 : decode cX5_linksBy 48 = .ok (.invokevirtual 323, 3) := dk_182 1 67 (dk_at dksX5_linksBy_2 0 rfl rfl)
theorem dX5_linksBy_51 : decode cX5_linksBy 51 = .ok (.ifCond .ne 6, 3) := dk_154 0 6 (dk_at dksX5_linksBy_2 3 rfl rfl)
theorem dX5_linksBy_54 : decode cX5_linksBy 54 = .ok (.goto 74, 3) := dk_167 0 74 (dk_at dksX5_linksBy_2 6 rfl rfl)
theorem dX5_linksBy_57 : decode cX5_linksBy 57 = .ok (.aload_n 0, 1) := dk_42 (dk_at dksX5_linksBy_2 9 rfl rfl)
theorem dX5_linksBy_58 : decode cX5_linksBy 58 = .ok (.iload_n 2, 1) := dk_28 (dk_at dksX5_linksBy_2 10 rfl rfl)
theorem dX5_linksBy_59 : decode cX5_linksBy 59 = .ok (.iload_n 3, 1) := dk_29 (dk_at dksX5_linksBy_2 11 rfl rfl)
theorem dX5_linksBy_60 : decode cX5_linksBy 60 = .ok (.invokevirtual 320, 3) := dk_182 1 64 (dk_at dksX5_linksBy_2 12 rfl rfl)
theorem dX5_linksBy_63 : decode cX5_linksBy 63 = .ok (.istore 4, 2) := dk_54 4 (dk_at dksX5_linksBy_2 15 rfl rfl)
theorem dX5_linksBy_65 : decode cX5_linksBy 65 = .ok (.aload_n 0, 1) := dk_42 (dk_at dksX5_linksBy_2 17 rfl rfl)
theorem dX5_linksBy_66 : decode cX5_linksBy 66 = .ok (.getfield 97, 3) := dk_180 0 97 (dk_at dksX5_linksBy_2 18 rfl rfl)
theorem dX5_linksBy_69 : decode cX5_linksBy 69 = .ok (.bipush 6, 2) := dk_16 6 (dk_at dksX5_linksBy_2 21 rfl rfl)
theorem dX5_linksBy_71 : decode cX5_linksBy 71 = .ok (.iload_n 2, 1) := dk_28 (dk_at dksX5_linksBy_2 23 rfl rfl)
theorem dX5_linksBy_72 : decode cX5_linksBy 72 = .ok (.imul, 1) := dk_104 (dk_at dksX5_linksBy_3 0 rfl rfl)
theorem dX5_linksBy_73 : decode cX5_linksBy 73 = .ok (.iload 4, 2) := dk_21 4 (dk_at dksX5_linksBy_3 1 rfl rfl)
theorem dX5_linksBy_75 : decode cX5_linksBy 75 = .ok (.iadd, 1) := dk_96 (dk_at dksX5_linksBy_3 3 rfl rfl)
theorem dX5_linksBy_76 : decode cX5_linksBy 76 = .ok (.iaload, 1) := dk_46 (dk_at dksX5_linksBy_3 4 rfl rfl)
theorem dX5_linksBy_77 : decode cX5_linksBy 77 = .ok (.istore 5, 2) := dk_54 5 (dk_at dksX5_linksBy_3 5 rfl rfl)
theorem dX5_linksBy_79 : decode cX5_linksBy 79 = .ok (.aload_n 0, 1) := dk_42 (dk_at dksX5_linksBy_3 7 rfl rfl)
theorem dX5_linksBy_80 : decode cX5_linksBy 80 = .ok (.getfield 97, 3) := dk_180 0 97 (dk_at dksX5_linksBy_3 8 rfl rfl)
theorem dX5_linksBy_83 : decode cX5_linksBy 83 = .ok (.bipush 6, 2) := dk_16 6 (dk_at dksX5_linksBy_3 11 rfl rfl)
theorem dX5_linksBy_85 : decode cX5_linksBy 85 = .ok (.iload_n 3, 1) := dk_29 (dk_at dksX5_linksBy_3 13 rfl rfl)
theorem dX5_linksBy_86 : decode cX5_linksBy 86 = .ok (.imul, 1) := dk_104 (dk_at dksX5_linksBy_3 14 rfl rfl)
theorem dX5_linksBy_87 : decode cX5_linksBy 87 = .ok (.iload 4, 2) := dk_21 4 (dk_at dksX5_linksBy_3 15 rfl rfl)
theorem dX5_linksBy_89 : decode cX5_linksBy 89 = .ok (.iadd, 1) := dk_96 (dk_at dksX5_linksBy_3 17 rfl rfl)
theorem dX5_linksBy_90 : decode cX5_linksBy 90 = .ok (.iaload, 1) := dk_46 (dk_at dksX5_linksBy_3 18 rfl rfl)
theorem dX5_linksBy_91 : decode cX5_linksBy 91 = .ok (.istore 6, 2) := dk_54 6 (dk_at dksX5_linksBy_3 19 rfl rfl)
theorem dX5_linksBy_93 : decode cX5_linksBy 93 = .ok (.aload_n 0, 1) := dk_42 (dk_at dksX5_linksBy_3 21 rfl rfl)
theorem dX5_linksBy_94 : decode cX5_linksBy 94 = .ok (.getfield 109, 3) := dk_180 0 109 (dk_at dksX5_linksBy_4 0 rfl rfl)
theorem dX5_linksBy_97 : decode cX5_linksBy 97 = .ok (.iload 5, 2) := dk_21 5 (dk_at dksX5_linksBy_4 3 rfl rfl)
theorem dX5_linksBy_99 : decode cX5_linksBy 99 = .ok (.iload 6, 2) := dk_21 6 (dk_at dksX5_linksBy_4 5 rfl rfl)
theorem dX5_linksBy_101 : decode cX5_linksBy 101 = .ok (.if_icmp .ge 14, 3) := dk_162 0 14 (dk_at dksX5_linksBy_4 7 rfl rfl)
theorem dX5_linksBy_104 : decode cX5_linksBy 104 = .ok (.bipush 40, 2) := dk_16 40 (dk_at dksX5_linksBy_4 10 rfl rfl)
theorem dX5_linksBy_106 : decode cX5_linksBy 106 = .ok (.iload 5, 2) := dk_21 5 (dk_at dksX5_linksBy_4 12 rfl rfl)
theorem dX5_linksBy_108 : decode cX5_linksBy 108 = .ok (.imul, 1) := dk_104 (dk_at dksX5_linksBy_4 14 rfl rfl)
theorem dX5_linksBy_109 : decode cX5_linksBy 109 = .ok (.iload 6, 2) := dk_21 6 (dk_at dksX5_linksBy_4 15 rfl rfl)
theorem dX5_linksBy_111 : decode cX5_linksBy 111 = .ok (.iadd, 1) := dk_96 (dk_at dksX5_linksBy_4 17 rfl rfl)
theorem dX5_linksBy_112 : decode cX5_linksBy 112 = .ok (.goto 11, 3) := dk_167 0 11 (dk_at dksX5_linksBy_4 18 rfl rfl)
theorem dX5_linksBy_115 : decode cX5_linksBy 115 = .ok (.bipush 40, 2) := dk_16 40 (dk_at dksX5_linksBy_4 21 rfl rfl)
theorem dX5_linksBy_117 : decode cX5_linksBy 117 = .ok (.iload 6, 2) := dk_21 6 (dk_at dksX5_linksBy_5 0 rfl rfl)
theorem dX5_linksBy_119 : decode cX5_linksBy 119 = .ok (.imul, 1) := dk_104 (dk_at dksX5_linksBy_5 2 rfl rfl)
theorem dX5_linksBy_120 : decode cX5_linksBy 120 = .ok (.iload 5, 2) := dk_21 5 (dk_at dksX5_linksBy_5 3 rfl rfl)
theorem dX5_linksBy_122 : decode cX5_linksBy 122 = .ok (.iadd, 1) := dk_96 (dk_at dksX5_linksBy_5 5 rfl rfl)
theorem dX5_linksBy_123 : decode cX5_linksBy 123 = .ok (.dup2, 1) := dk_92 (dk_at dksX5_linksBy_5 6 rfl rfl)
theorem dX5_linksBy_124 : decode cX5_linksBy 124 = .ok (.iaload, 1) := dk_46 (dk_at dksX5_linksBy_5 7 rfl rfl)
theorem dX5_linksBy_125 : decode cX5_linksBy 125 = .ok (.iconst 1, 1) := dk_4 (dk_at dksX5_linksBy_5 8 rfl rfl)
theorem dX5_linksBy_126 : decode cX5_linksBy 126 = .ok (.iadd, 1) := dk_96 (dk_at dksX5_linksBy_5 9 rfl rfl)
theorem dX5_linksBy_127 : decode cX5_linksBy 127 = .ok (.iastore, 1) := dk_79 (dk_at dksX5_linksBy_5 10 rfl rfl)
theorem dX5_linksBy_128 : decode cX5_linksBy 128 = .ok (.iinc 3 1, 3) := dk_132 3 1 (dk_at dksX5_linksBy_5 11 rfl rfl)
theorem dX5_linksBy_131 : decode cX5_linksBy 131 = .ok (.goto (-95), 3) := dk_167 255 161 (dk_at dksX5_linksBy_5 14 rfl rfl)
theorem dX5_linksBy_134 : decode cX5_linksBy 134 = .ok (.iinc 2 1, 3) := dk_132 2 1 (dk_at dksX5_linksBy_5 17 rfl rfl)
theorem dX5_linksBy_137 : decode cX5_linksBy 137 = .ok (.goto (-113), 3) := dk_167 255 143 (dk_at dksX5_linksBy_5 20 rfl rfl)
theorem dX5_linksBy_140 : decode cX5_linksBy 140 = .ok (.iconst 0, 1) := dk_3 (dk_at dksX5_linksBy_5 23 rfl rfl)
theorem dX5_linksBy_141 : decode cX5_linksBy 141 = .ok (.istore_n 2, 1) := dk_61 (dk_at dksX5_linksBy_6 0 rfl rfl)
theorem dX5_linksBy_142 : decode cX5_linksBy 142 = .ok (.iload_n 2, 1) := dk_28 (dk_at dksX5_linksBy_6 1 rfl rfl)
theorem dX5_linksBy_143 : decode cX5_linksBy 143 = .ok (.sipush 1600, 3) := dk_17 6 64 (dk_at dksX5_linksBy_6 2 rfl rfl)
theorem dX5_linksBy_146 : decode cX5_linksBy 146 = .ok (.if_icmp .ge 42, 3) := dk_162 0 42 (dk_at dksX5_linksBy_6 5 rfl rfl)
theorem dX5_linksBy_149 : decode cX5_linksBy 149 = .ok (.aload_n 0, 1) := dk_42 (dk_at dksX5_linksBy_6 8 rfl rfl)
theorem dX5_linksBy_150 : decode cX5_linksBy 150 = .ok (.getfield 109, 3) := dk_180 0 109 (dk_at dksX5_linksBy_6 9 rfl rfl)
theorem dX5_linksBy_153 : decode cX5_linksBy 153 = .ok (.iload_n 2, 1) := dk_28 (dk_at dksX5_linksBy_6 12 rfl rfl)
theorem dX5_linksBy_154 : decode cX5_linksBy 154 = .ok (.iaload, 1) := dk_46 (dk_at dksX5_linksBy_6 13 rfl rfl)
theorem dX5_linksBy_155 : decode cX5_linksBy 155 = .ok (.aload_n 0, 1) := dk_42 (dk_at dksX5_linksBy_6 14 rfl rfl)
theorem dX5_linksBy_156 : decode cX5_linksBy 156 = .ok (.getfield 44, 3) := dk_180 0 44 (dk_at dksX5_linksBy_6 15 rfl rfl)
theorem dX5_linksBy_159 : decode cX5_linksBy 159 = .ok (.iload_n 1, 1) := dk_27 (dk_at dksX5_linksBy_6 18 rfl rfl)
theorem dX5_linksBy_160 : decode cX5_linksBy 160 = .ok (.iaload, 1) := dk_46 (dk_at dksX5_linksBy_6 19 rfl rfl)
theorem dX5_linksBy_161 : decode cX5_linksBy 161 = .ok (.if_icmp .lt 21, 3) := dk_161 0 21 (dk_at dksX5_linksBy_6 20 rfl rfl)
theorem dX5_linksBy_164 : decode cX5_linksBy 164 = .ok (.aload_n 0, 1) := dk_42 (dk_at dksX5_linksBy_6 23 rfl rfl)
theorem dX5_linksBy_165 : decode cX5_linksBy 165 = .ok (.aload_n 0, 1) := dk_42 (dk_at dksX5_linksBy_7 0 rfl rfl)
theorem dX5_linksBy_166 : decode cX5_linksBy 166 = .ok (.getfield 35, 3) := dk_180 0 35 (dk_at dksX5_linksBy_7 1 rfl rfl)
theorem dX5_linksBy_169 : decode cX5_linksBy 169 = .ok (.iload_n 1, 1) := dk_27 (dk_at dksX5_linksBy_7 4 rfl rfl)
theorem dX5_linksBy_170 : decode cX5_linksBy 170 = .ok (.iaload, 1) := dk_46 (dk_at dksX5_linksBy_7 5 rfl rfl)
theorem dX5_linksBy_171 : decode cX5_linksBy 171 = .ok (.iload_n 2, 1) := dk_28 (dk_at dksX5_linksBy_7 6 rfl rfl)
theorem dX5_linksBy_172 : decode cX5_linksBy 172 = .ok (.bipush 40, 2) := dk_16 40 (dk_at dksX5_linksBy_7 7 rfl rfl)
theorem dX5_linksBy_174 : decode cX5_linksBy 174 = .ok (.idiv, 1) := dk_108 (dk_at dksX5_linksBy_7 9 rfl rfl)
theorem dX5_linksBy_175 : decode cX5_linksBy 175 = .ok (.iload_n 2, 1) := dk_28 (dk_at dksX5_linksBy_7 10 rfl rfl)
theorem dX5_linksBy_176 : decode cX5_linksBy 176 = .ok (.bipush 40, 2) := dk_16 40 (dk_at dksX5_linksBy_7 11 rfl rfl)
theorem dX5_linksBy_178 : decode cX5_linksBy 178 = .ok (.irem, 1) := dk_112 (dk_at dksX5_linksBy_7 13 rfl rfl)
theorem dX5_linksBy_179 : decode cX5_linksBy 179 = .ok (.invokevirtual 338, 3) := dk_182 1 82 (dk_at dksX5_linksBy_7 14 rfl rfl)
theorem dX5_linksBy_182 : decode cX5_linksBy 182 = .ok (.iinc 2 1, 3) := dk_132 2 1 (dk_at dksX5_linksBy_7 17 rfl rfl)
theorem dX5_linksBy_185 : decode cX5_linksBy 185 = .ok (.goto (-43), 3) := dk_167 255 213 (dk_at dksX5_linksBy_7 20 rfl rfl)
theorem dX5_linksBy_188 : decode cX5_linksBy 188 = .ok (.return_, 1) := dk_177 (dk_at dksX5_linksBy_7 23 rfl rfl)
def dkwX5_links_2_1 : List UInt8 := [17, 6, 64, 27, 104, 16, 40, 29, 104, 96, 28, 96, 4, 84, 177]
abbrev dktX5_links_2_1 : List UInt8 := dkwX5_links_2_1 ++ []
def dkwX5_links_2_0 : List UInt8 := [42, 180, 0, 100, 17, 6, 64, 27, 104, 16, 40, 28, 104, 96, 29, 96, 4, 84, 42, 180, 0, 100]
abbrev dktX5_links_2_0 : List UInt8 := dkwX5_links_2_0 ++ dktX5_links_2_1
theorem dksX5_links_2_0 : cX5_links_2.data.toList.drop 0 = dktX5_links_2_0 := by decide +kernel
theorem dksX5_links_2_1 : cX5_links_2.data.toList.drop 22 = dktX5_links_2_1 := dk_seg dksX5_links_2_0 22 rfl rfl
theorem dX5_links_2_0 : decode cX5_links_2 0 = .ok (.aload_n 0, 1) := dk_42 (dk_at dksX5_links_2_0 0 rfl rfl)
theorem dX5_links_2_1 : decode cX5_links_2 1 = .ok (.getfield 100, 3) := dk_180 0 100 (dk_at dksX5_links_2_0 1 rfl rfl)
theorem dX5_links_2_4 : decode cX5_links_2 4 = .ok (.sipush 1600, 3) := dk_17 6 64 (dk_at dksX5_links_2_0 4 rfl rfl)
theorem dX5_links_2_7 : decode cX5_links_2 7 = .ok (.iload_n 1, 1) := dk_27 (dk_at dksX5_links_2_0 7 rfl rfl)
theorem dX5_links_2_8 : decode cX5_links_2 8 = .ok (.imul, 1) := dk_104 (dk_at dksX5_links_2_0 8 rfl rfl)
theorem dX5_links_2_9 : decode cX5_links_2 9 = .ok (.bipush 40, 2) := dk_16 40 (dk_at dksX5_links_2_0 9 rfl rfl)
theorem dX5_links_2_11 : decode cX5_links_2 11 = .ok (.iload_n 2, 1) := dk_28 (dk_at dksX5_links_2_0 11 rfl rfl)
theorem dX5_links_2_12 : decode cX5_links_2 12 = .ok (.imul, 1) := dk_104 (dk_at dksX5_links_2_0 12 rfl rfl)
theorem dX5_links_2_13 : decode cX5_links_2 13 = .ok (.iadd, 1) := dk_96 (dk_at dksX5_links_2_0 13 rfl rfl)
theorem dX5_links_2_14 : decode cX5_links_2 14 = .ok (.iload_n 3, 1) := dk_29 (dk_at dksX5_links_2_0 14 rfl rfl)
theorem dX5_links_2_15 : decode cX5_links_2 15 = .ok (.iadd, 1) := dk_96 (dk_at dksX5_links_2_0 15 rfl rfl)
theorem dX5_links_2_16 : decode cX5_links_2 16 = .ok (.iconst 1, 1) := dk_4 (dk_at dksX5_links_2_0 16 rfl rfl)
theorem dX5_links_2_17 : decode cX5_links_2 17 = .ok (.bastore, 1) := dk_84 (dk_at dksX5_links_2_0 17 rfl rfl)
theorem dX5_links_2_18 : decode cX5_links_2 18 = .ok (.aload_n 0, 1) := dk_42 (dk_at dksX5_links_2_0 18 rfl rfl)
theorem dX5_links_2_19 : decode cX5_links_2 19 = .ok (.getfield 100, 3) := dk_180 0 100 (dk_at dksX5_links_2_0 19 rfl rfl)
theorem dX5_links_2_22 : decode cX5_links_2 22 = .ok (.sipush 1600, 3) := dk_17 6 64 (dk_at dksX5_links_2_1 0 rfl rfl)
theorem dX5_links_2_25 : decode cX5_links_2 25 = .ok (.iload_n 1, 1) := dk_27 (dk_at dksX5_links_2_1 3 rfl rfl)
theorem dX5_links_2_26 : decode cX5_links_2 26 = .ok (.imul, 1) := dk_104 (dk_at dksX5_links_2_1 4 rfl rfl)
theorem dX5_links_2_27 : decode cX5_links_2 27 = .ok (.bipush 40, 2) := dk_16 40 (dk_at dksX5_links_2_1 5 rfl rfl)
theorem dX5_links_2_29 : decode cX5_links_2 29 = .ok (.iload_n 3, 1) := dk_29 (dk_at dksX5_links_2_1 7 rfl rfl)
theorem dX5_links_2_30 : decode cX5_links_2 30 = .ok (.imul, 1) := dk_104 (dk_at dksX5_links_2_1 8 rfl rfl)
theorem dX5_links_2_31 : decode cX5_links_2 31 = .ok (.iadd, 1) := dk_96 (dk_at dksX5_links_2_1 9 rfl rfl)
theorem dX5_links_2_32 : decode cX5_links_2 32 = .ok (.iload_n 2, 1) := dk_28 (dk_at dksX5_links_2_1 10 rfl rfl)
theorem dX5_links_2_33 : decode cX5_links_2 33 = .ok (.iadd, 1) := dk_96 (dk_at dksX5_links_2_1 11 rfl rfl)
theorem dX5_links_2_34 : decode cX5_links_2 34 = .ok (.iconst 1, 1) := dk_4 (dk_at dksX5_links_2_1 12 rfl rfl)
theorem dX5_links_2_35 : decode cX5_links_2 35 = .ok (.bastore, 1) := dk_84 (dk_at dksX5_links_2_1 13 rfl rfl)
theorem dX5_links_2_36 : decode cX5_links_2 36 = .ok (.return_, 1) := dk_177 (dk_at dksX5_links_2_1 14 rfl rfl)
def dkwX5_findClasses_5 : List UInt8 := [21, 5, 46, 79, 4, 61, 132, 3, 1, 167, 255, 173, 167, 255, 162, 132, 1, 1, 167, 255, 123, 177]
abbrev dktX5_findClasses_5 : List UInt8 := dkwX5_findClasses_5 ++ []
def dkwX5_findClasses_4 : List UInt8 := [42, 180, 0, 106, 21, 5, 46, 163, 0, 6, 167, 0, 19, 42, 180, 0, 106, 21, 4, 42, 180, 0, 106]
abbrev dktX5_findClasses_4 : List UInt8 := dkwX5_findClasses_4 ++ dktX5_findClasses_5
def dkwX5_findClasses_3 : List UInt8 := [54, 5, 42, 180, 0, 100, 17, 6, 64, 27, 104, 29, 96, 51, 153, 0, 39, 42, 180, 0, 106, 21, 4, 46]
abbrev dktX5_findClasses_3 : List UInt8 := dkwX5_findClasses_3 ++ dktX5_findClasses_4
def dkwX5_findClasses_2 : List UInt8 := [162, 0, 82, 16, 40, 27, 104, 29, 16, 40, 108, 96, 54, 4, 16, 40, 27, 104, 29, 16, 40, 112, 96]
abbrev dktX5_findClasses_2 : List UInt8 := dkwX5_findClasses_2 ++ dktX5_findClasses_3
def dkwX5_findClasses_1 : List UInt8 := [96, 28, 79, 132, 2, 1, 167, 255, 235, 4, 61, 28, 153, 0, 96, 3, 61, 3, 62, 29, 17, 6, 64]
abbrev dktX5_findClasses_1 : List UInt8 := dkwX5_findClasses_1 ++ dktX5_findClasses_2
def dkwX5_findClasses_0 : List UInt8 := [3, 60, 27, 5, 162, 0, 134, 3, 61, 28, 16, 40, 162, 0, 21, 42, 180, 0, 106, 16, 40, 27, 104, 28]
abbrev dktX5_findClasses_0 : List UInt8 := dkwX5_findClasses_0 ++ dktX5_findClasses_1
theorem dksX5_findClasses_0 : cX5_findClasses.data.toList.drop 0 = dktX5_findClasses_0 := by decide +kernel
theorem dksX5_findClasses_1 : cX5_findClasses.data.toList.drop 24 = dktX5_findClasses_1 := dk_seg dksX5_findClasses_0 24 rfl rfl
theorem dksX5_findClasses_2 : cX5_findClasses.data.toList.drop 47 = dktX5_findClasses_2 := dk_seg dksX5_findClasses_1 23 rfl rfl
theorem dksX5_findClasses_3 : cX5_findClasses.data.toList.drop 70 = dktX5_findClasses_3 := dk_seg dksX5_findClasses_2 23 rfl rfl
theorem dksX5_findClasses_4 : cX5_findClasses.data.toList.drop 94 = dktX5_findClasses_4 := dk_seg dksX5_findClasses_3 24 rfl rfl
theorem dksX5_findClasses_5 : cX5_findClasses.data.toList.drop 117 = dktX5_findClasses_5 := dk_seg dksX5_findClasses_4 23 rfl rfl
theorem dX5_findClasses_0 : decode cX5_findClasses 0 = .ok (.iconst 0, 1) := dk_3 (dk_at dksX5_findClasses_0 0 rfl rfl)
theorem dX5_findClasses_1 : decode cX5_findClasses 1 = .ok (.istore_n 1, 1) := dk_60 (dk_at dksX5_findClasses_0 1 rfl rfl)
theorem dX5_findClasses_2 : decode cX5_findClasses 2 = .ok (.iload_n 1, 1) := dk_27 (dk_at dksX5_findClasses_0 2 rfl rfl)
theorem dX5_findClasses_3 : decode cX5_findClasses 3 = .ok (.iconst 2, 1) := dk_5 (dk_at dksX5_findClasses_0 3 rfl rfl)
theorem dX5_findClasses_4 : decode cX5_findClasses 4 = .ok (.if_icmp .ge 134, 3) := dk_162 0 134 (dk_at dksX5_findClasses_0 4 rfl rfl)
theorem dX5_findClasses_7 : decode cX5_findClasses 7 = .ok (.iconst 0, 1) := dk_3 (dk_at dksX5_findClasses_0 7 rfl rfl)
theorem dX5_findClasses_8 : decode cX5_findClasses 8 = .ok (.istore_n 2, 1) := dk_61 (dk_at dksX5_findClasses_0 8 rfl rfl)
theorem dX5_findClasses_9 : decode cX5_findClasses 9 = .ok (.iload_n 2, 1) := dk_28 (dk_at dksX5_findClasses_0 9 rfl rfl)
theorem dX5_findClasses_10 : decode cX5_findClasses 10 = .ok (.bipush 40, 2) := dk_16 40 (dk_at dksX5_findClasses_0 10 rfl rfl)
theorem dX5_findClasses_12 : decode cX5_findClasses 12 = .ok (.if_icmp .ge 21, 3) := dk_162 0 21 (dk_at dksX5_findClasses_0 12 rfl rfl)
theorem dX5_findClasses_15 : decode cX5_findClasses 15 = .ok (.aload_n 0, 1) := dk_42 (dk_at dksX5_findClasses_0 15 rfl rfl)
theorem dX5_findClasses_16 : decode cX5_findClasses 16 = .ok (.getfield 106, 3) := dk_180 0 106 (dk_at dksX5_findClasses_0 16 rfl rfl)
theorem dX5_findClasses_19 : decode cX5_findClasses 19 = .ok (.bipush 40, 2) := dk_16 40 (dk_at dksX5_findClasses_0 19 rfl rfl)
theorem dX5_findClasses_21 : decode cX5_findClasses 21 = .ok (.iload_n 1, 1) := dk_27 (dk_at dksX5_findClasses_0 21 rfl rfl)
theorem dX5_findClasses_22 : decode cX5_findClasses 22 = .ok (.imul, 1) := dk_104 (dk_at dksX5_findClasses_0 22 rfl rfl)
theorem dX5_findClasses_23 : decode cX5_findClasses 23 = .ok (.iload_n 2, 1) := dk_28 (dk_at dksX5_findClasses_0 23 rfl rfl)
theorem dX5_findClasses_24 : decode cX5_findClasses 24 = .ok (.iadd, 1) := dk_96 (dk_at dksX5_findClasses_1 0 rfl rfl)
theorem dX5_findClasses_25 : decode cX5_findClasses 25 = .ok (.iload_n 2, 1) := dk_28 (dk_at dksX5_findClasses_1 1 rfl rfl)
theorem dX5_findClasses_26 : decode cX5_findClasses 26 = .ok (.iastore, 1) := dk_79 (dk_at dksX5_findClasses_1 2 rfl rfl)
theorem dX5_findClasses_27 : decode cX5_findClasses 27 = .ok (.iinc 2 1, 3) := dk_132 2 1 (dk_at dksX5_findClasses_1 3 rfl rfl)
theorem dX5_findClasses_30 : decode cX5_findClasses 30 = .ok (.goto (-21), 3) := dk_167 255 235 (dk_at dksX5_findClasses_1 6 rfl rfl)
theorem dX5_findClasses_33 : decode cX5_findClasses 33 = .ok (.iconst 1, 1) := dk_4 (dk_at dksX5_findClasses_1 9 rfl rfl)
theorem dX5_findClasses_34 : decode cX5_findClasses 34 = .ok (.istore_n 2, 1) := dk_61 (dk_at dksX5_findClasses_1 10 rfl rfl)
theorem dX5_findClasses_35 : decode cX5_findClasses 35 = .ok (.iload_n 2, 1) := dk_28 (dk_at dksX5_findClasses_1 11 rfl rfl)
theorem dX5_findClasses_36 : decode cX5_findClasses 36 = .ok (.ifCond .eq 96, 3) := dk_153 0 96 (dk_at dksX5_findClasses_1 12 rfl rfl)
theorem dX5_findClasses_39 : decode cX5_findClasses 39 = .ok (.iconst 0, 1) := dk_3 (dk_at dksX5_findClasses_1 15 rfl rfl)
theorem dX5_findClasses_40 : decode cX5_findClasses 40 = .ok (.istore_n 2, 1) := dk_61 (dk_at dksX5_findClasses_1 16 rfl rfl)
theorem dX5_findClasses_41 : decode cX5_findClasses 41 = .ok (.iconst 0, 1) := dk_3 (dk_at dksX5_findClasses_1 17 rfl rfl)
theorem dX5_findClasses_42 : decode cX5_findClasses 42 = .ok (.istore_n 3, 1) := dk_62 (dk_at dksX5_findClasses_1 18 rfl rfl)
theorem dX5_findClasses_43 : decode cX5_findClasses 43 = .ok (.iload_n 3, 1) := dk_29 (dk_at dksX5_findClasses_1 19 rfl rfl)
theorem dX5_findClasses_44 : decode cX5_findClasses 44 = .ok (.sipush 1600, 3) := dk_17 6 64 (dk_at dksX5_findClasses_1 20 rfl rfl)
theorem dX5_findClasses_47 : decode cX5_findClasses 47 = .ok (.if_icmp .ge 82, 3) := dk_162 0 82 (dk_at dksX5_findClasses_2 0 rfl rfl)
theorem dX5_findClasses_50 : decode cX5_findClasses 50 = .ok (.bipush 40, 2) := dk_16 40 (dk_at dksX5_findClasses_2 3 rfl rfl)
theorem dX5_findClasses_52 : decode cX5_findClasses 52 = .ok (.iload_n 1, 1) := dk_27 (dk_at dksX5_findClasses_2 5 rfl rfl)
theorem dX5_findClasses_53 : decode cX5_findClasses 53 = .ok (.imul, 1) := dk_104 (dk_at dksX5_findClasses_2 6 rfl rfl)
theorem dX5_findClasses_54 : decode cX5_findClasses 54 = .ok (.iload_n 3, 1) := dk_29 (dk_at dksX5_findClasses_2 7 rfl rfl)
theorem dX5_findClasses_55 : decode cX5_findClasses 55 = .ok (.bipush 40, 2) := dk_16 40 (dk_at dksX5_findClasses_2 8 rfl rfl)
theorem dX5_findClasses_57 : decode cX5_findClasses 57 = .ok (.idiv, 1) := dk_108 (dk_at dksX5_findClasses_2 10 rfl rfl)
theorem dX5_findClasses_58 : decode cX5_findClasses 58 = .ok (.iadd, 1) := dk_96 (dk_at dksX5_findClasses_2 11 rfl rfl)
theorem dX5_findClasses_59 : decode cX5_findClasses 59 = .ok (.istore 4, 2) := dk_54 4 (dk_at dksX5_findClasses_2 12 rfl rfl)
theorem dX5_findClasses_61 : decode cX5_findClasses 61 = .ok (.bipush 40, 2) := dk_16 40 (dk_at dksX5_findClasses_2 14 rfl rfl)
theorem dX5_findClasses_63 : decode cX5_findClasses 63 = .ok (.iload_n 1, 1) := dk_27 (dk_at dksX5_findClasses_2 16 rfl rfl)
theorem dX5_findClasses_64 : decode cX5_findClasses 64 = .ok (.imul, 1) := dk_104 (dk_at dksX5_findClasses_2 17 rfl rfl)
theorem dX5_findClasses_65 : decode cX5_findClasses 65 = .ok (.iload_n 3, 1) := dk_29 (dk_at dksX5_findClasses_2 18 rfl rfl)
theorem dX5_findClasses_66 : decode cX5_findClasses 66 = .ok (.bipush 40, 2) := dk_16 40 (dk_at dksX5_findClasses_2 19 rfl rfl)
theorem dX5_findClasses_68 : decode cX5_findClasses 68 = .ok (.irem, 1) := dk_112 (dk_at dksX5_findClasses_2 21 rfl rfl)
theorem dX5_findClasses_69 : decode cX5_findClasses 69 = .ok (.iadd, 1) := dk_96 (dk_at dksX5_findClasses_2 22 rfl rfl)
theorem dX5_findClasses_70 : decode cX5_findClasses 70 = .ok (.istore 5, 2) := dk_54 5 (dk_at dksX5_findClasses_3 0 rfl rfl)
theorem dX5_findClasses_72 : decode cX5_findClasses 72 = .ok (.aload_n 0, 1) := dk_42 (dk_at dksX5_findClasses_3 2 rfl rfl)
theorem dX5_findClasses_73 : decode cX5_findClasses 73 = .ok (.getfield 100, 3) := dk_180 0 100 (dk_at dksX5_findClasses_3 3 rfl rfl)
theorem dX5_findClasses_76 : decode cX5_findClasses 76 = .ok (.sipush 1600, 3) := dk_17 6 64 (dk_at dksX5_findClasses_3 6 rfl rfl)
theorem dX5_findClasses_79 : decode cX5_findClasses 79 = .ok (.iload_n 1, 1) := dk_27 (dk_at dksX5_findClasses_3 9 rfl rfl)
theorem dX5_findClasses_80 : decode cX5_findClasses 80 = .ok (.imul, 1) := dk_104 (dk_at dksX5_findClasses_3 10 rfl rfl)
theorem dX5_findClasses_81 : decode cX5_findClasses 81 = .ok (.iload_n 3, 1) := dk_29 (dk_at dksX5_findClasses_3 11 rfl rfl)
theorem dX5_findClasses_82 : decode cX5_findClasses 82 = .ok (.iadd, 1) := dk_96 (dk_at dksX5_findClasses_3 12 rfl rfl)
theorem dX5_findClasses_83 : decode cX5_findClasses 83 = .ok (.baload, 1) := dk_51 (dk_at dksX5_findClasses_3 13 rfl rfl)
theorem dX5_findClasses_84 : decode cX5_findClasses 84 = .ok (.ifCond .eq 39, 3) := dk_153 0 39 (dk_at dksX5_findClasses_3 14 rfl rfl)
theorem dX5_findClasses_87 : decode cX5_findClasses 87 = .ok (.aload_n 0, 1) := dk_42 (dk_at dksX5_findClasses_3 17 rfl rfl)
theorem dX5_findClasses_88 : decode cX5_findClasses 88 = .ok (.getfield 106, 3) := dk_180 0 106 (dk_at dksX5_findClasses_3 18 rfl rfl)
theorem dX5_findClasses_91 : decode cX5_findClasses 91 = .ok (.iload 4, 2) := dk_21 4 (dk_at dksX5_findClasses_3 21 rfl rfl)
theorem dX5_findClasses_93 : decode cX5_findClasses 93 = .ok (.iaload, 1) := dk_46 (dk_at dksX5_findClasses_3 23 rfl rfl)
theorem dX5_findClasses_94 : decode cX5_findClasses 94 = .ok (.aload_n 0, 1) := dk_42 (dk_at dksX5_findClasses_4 0 rfl rfl)
theorem dX5_findClasses_95 : decode cX5_findClasses 95 = .ok (.getfield 106, 3) := dk_180 0 106 (dk_at dksX5_findClasses_4 1 rfl rfl)
theorem dX5_findClasses_98 : decode cX5_findClasses 98 = .ok (.iload 5, 2) := dk_21 5 (dk_at dksX5_findClasses_4 4 rfl rfl)
theorem dX5_findClasses_100 : decode cX5_findClasses 100 = .ok (.iaload, 1) := dk_46 (dk_at dksX5_findClasses_4 6 rfl rfl)
theorem dX5_findClasses_101 : decode cX5_findClasses 101 = .ok (.if_icmp .gt 6, 3) := dk_163 0 6 (dk_at dksX5_findClasses_4 7 rfl rfl)
theorem dX5_findClasses_104 : decode cX5_findClasses 104 = .ok (.goto 19, 3) := dk_167 0 19 (dk_at dksX5_findClasses_4 10 rfl rfl)
theorem dX5_findClasses_107 : decode cX5_findClasses 107 = .ok (.aload_n 0, 1) := dk_42 (dk_at dksX5_findClasses_4 13 rfl rfl)
theorem dX5_findClasses_108 : decode cX5_findClasses 108 = .ok (.getfield 106, 3) := dk_180 0 106 (dk_at dksX5_findClasses_4 14 rfl rfl)
theorem dX5_findClasses_111 : decode cX5_findClasses 111 = .ok (.iload 4, 2) := dk_21 4 (dk_at dksX5_findClasses_4 17 rfl rfl)
theorem dX5_findClasses_113 : decode cX5_findClasses 113 = .ok (.aload_n 0, 1) := dk_42 (dk_at dksX5_findClasses_4 19 rfl rfl)
theorem dX5_findClasses_114 : decode cX5_findClasses 114 = .ok (.getfield 106, 3) := dk_180 0 106 (dk_at dksX5_findClasses_4 20 rfl rfl)
theorem dX5_findClasses_117 : decode cX5_findClasses 117 = .ok (.iload 5, 2) := dk_21 5 (dk_at dksX5_findClasses_5 0 rfl rfl)
theorem dX5_findClasses_119 : decode cX5_findClasses 119 = .ok (.iaload, 1) := dk_46 (dk_at dksX5_findClasses_5 2 rfl rfl)
theorem dX5_findClasses_120 : decode cX5_findClasses 120 = .ok (.iastore, 1) := dk_79 (dk_at dksX5_findClasses_5 3 rfl rfl)
theorem dX5_findClasses_121 : decode cX5_findClasses 121 = .ok (.iconst 1, 1) := dk_4 (dk_at dksX5_findClasses_5 4 rfl rfl)
theorem dX5_findClasses_122 : decode cX5_findClasses 122 = .ok (.istore_n 2, 1) := dk_61 (dk_at dksX5_findClasses_5 5 rfl rfl)
theorem dX5_findClasses_123 : decode cX5_findClasses 123 = .ok (.iinc 3 1, 3) := dk_132 3 1 (dk_at dksX5_findClasses_5 6 rfl rfl)
theorem dX5_findClasses_126 : decode cX5_findClasses 126 = .ok (.goto (-83), 3) := dk_167 255 173 (dk_at dksX5_findClasses_5 9 rfl rfl)
theorem dX5_findClasses_129 : decode cX5_findClasses 129 = .ok (.goto (-94), 3) := dk_167 255 162 (dk_at dksX5_findClasses_5 12 rfl rfl)
theorem dX5_findClasses_132 : decode cX5_findClasses 132 = .ok (.iinc 1 1, 3) := dk_132 1 1 (dk_at dksX5_findClasses_5 15 rfl rfl)
theorem dX5_findClasses_135 : decode cX5_findClasses 135 = .ok (.goto (-133), 3) := dk_167 255 123 (dk_at dksX5_findClasses_5 18 rfl rfl)
theorem dX5_findClasses_138 : decode cX5_findClasses 138 = .ok (.return_, 1) := dk_177 (dk_at dksX5_findClasses_5 21 rfl rfl)
def dkwX5_classOf_2 : List UInt8 := [180, 0, 72, 28, 46, 96, 46, 172]
abbrev dktX5_classOf_2 : List UInt8 := dkwX5_classOf_2 ++ []
def dkwX5_classOf_1 : List UInt8 := [182, 1, 42, 154, 0, 5, 2, 172, 42, 29, 182, 1, 89, 42, 180, 0, 106, 16, 40, 27, 104, 42]
abbrev dktX5_classOf_1 : List UInt8 := dkwX5_classOf_1 ++ dktX5_classOf_2
def dkwX5_classOf_0 : List UInt8 := [42, 3, 181, 0, 1, 27, 3, 4, 184, 0, 169, 153, 0, 18, 28, 184, 1, 32, 153, 0, 11, 42, 29]
abbrev dktX5_classOf_0 : List UInt8 := dkwX5_classOf_0 ++ dktX5_classOf_1
theorem dksX5_classOf_0 : cX5_classOf.data.toList.drop 0 = dktX5_classOf_0 := by decide +kernel
theorem dksX5_classOf_1 : cX5_classOf.data.toList.drop 23 = dktX5_classOf_1 := dk_seg dksX5_classOf_0 23 rfl rfl
theorem dksX5_classOf_2 : cX5_classOf.data.toList.drop 45 = dktX5_classOf_2 := dk_seg dksX5_classOf_1 22 rfl rfl
theorem dX5_classOf_0 : decode cX5_classOf 0 = .ok (.aload_n 0, 1) := dk_42 (dk_at dksX5_classOf_0 0 rfl rfl)
theorem dX5_classOf_1 : decode cX5_classOf 1 = .ok (.iconst 0, 1) := dk_3 (dk_at dksX5_classOf_0 1 rfl rfl)
theorem dX5_classOf_2 : decode cX5_classOf 2 = .ok (.putfield 1, 3) := dk_181 0 1 (dk_at dksX5_classOf_0 2 rfl rfl)
theorem dX5_classOf_5 : decode cX5_classOf 5 = .ok (.iload_n 1, 1) := dk_27 (dk_at dksX5_classOf_0 5 rfl rfl)
theorem dX5_classOf_6 : decode cX5_classOf 6 = .ok (.iconst 0, 1) := dk_3 (dk_at dksX5_classOf_0 6 rfl rfl)
theorem dX5_classOf_7 : decode cX5_classOf 7 = .ok (.iconst 1, 1) := dk_4 (dk_at dksX5_classOf_0 7 rfl rfl)
theorem dX5_classOf_8 : decode cX5_classOf 8 = .ok (.invokestatic 169, 3) := dk_184 0 169 (dk_at dksX5_classOf_0 8 rfl rfl)
theorem dX5_classOf_11 : decode cX5_classOf 11 = .ok (.ifCond .eq 18, 3) := dk_153 0 18 (dk_at dksX5_classOf_0 11 rfl rfl)
theorem dX5_classOf_14 : decode cX5_classOf 14 = .ok (.iload_n 2, 1) := dk_28 (dk_at dksX5_classOf_0 14 rfl rfl)
theorem dX5_classOf_15 : decode cX5_classOf 15 = .ok (.invokestatic 288, 3) := dk_184 1 32 (dk_at dksX5_classOf_0 15 rfl rfl)
theorem dX5_classOf_18 : decode cX5_classOf 18 = .ok (.ifCond .eq 11, 3) := dk_153 0 11 (dk_at dksX5_classOf_0 18 rfl rfl)
theorem dX5_classOf_21 : decode cX5_classOf 21 = .ok (.aload_n 0, 1) := dk_42 (dk_at dksX5_classOf_0 21 rfl rfl)
theorem dX5_classOf_22 : decode cX5_classOf 22 = .ok (.iload_n 3, 1) := dk_29 (dk_at dksX5_classOf_0 22 rfl rfl)
theorem dX5_classOf_23 : decode cX5_classOf 23 = .ok (.invokevirtual 298, 3) := dk_182 1 42 (dk_at dksX5_classOf_1 0 rfl rfl)
theorem dX5_classOf_26 : decode cX5_classOf 26 = .ok (.ifCond .ne 5, 3) := dk_154 0 5 (dk_at dksX5_classOf_1 3 rfl rfl)
theorem dX5_classOf_29 : decode cX5_classOf 29 = .ok (.iconst (-1), 1) := dk_2 (dk_at dksX5_classOf_1 6 rfl rfl)
theorem dX5_classOf_30 : decode cX5_classOf 30 = .ok (.ireturn, 1) := dk_172 (dk_at dksX5_classOf_1 7 rfl rfl)
theorem dX5_classOf_31 : decode cX5_classOf 31 = .ok (.aload_n 0, 1) := dk_42 (dk_at dksX5_classOf_1 8 rfl rfl)
theorem dX5_classOf_32 : decode cX5_classOf 32 = .ok (.iload_n 3, 1) := dk_29 (dk_at dksX5_classOf_1 9 rfl rfl)
theorem dX5_classOf_33 : decode cX5_classOf 33 = .ok (.invokevirtual 345, 3) := dk_182 1 89 (dk_at dksX5_classOf_1 10 rfl rfl)
theorem dX5_classOf_36 : decode cX5_classOf 36 = .ok (.aload_n 0, 1) := dk_42 (dk_at dksX5_classOf_1 13 rfl rfl)
theorem dX5_classOf_37 : decode cX5_classOf 37 = .ok (.getfield 106, 3) := dk_180 0 106 (dk_at dksX5_classOf_1 14 rfl rfl)
theorem dX5_classOf_40 : decode cX5_classOf 40 = .ok (.bipush 40, 2) := dk_16 40 (dk_at dksX5_classOf_1 17 rfl rfl)
theorem dX5_classOf_42 : decode cX5_classOf 42 = .ok (.iload_n 1, 1) := dk_27 (dk_at dksX5_classOf_1 19 rfl rfl)
theorem dX5_classOf_43 : decode cX5_classOf 43 = .ok (.imul, 1) := dk_104 (dk_at dksX5_classOf_1 20 rfl rfl)
theorem dX5_classOf_44 : decode cX5_classOf 44 = .ok (.aload_n 0, 1) := dk_42 (dk_at dksX5_classOf_1 21 rfl rfl)
theorem dX5_classOf_45 : decode cX5_classOf 45 = .ok (.getfield 72, 3) := dk_180 0 72 (dk_at dksX5_classOf_2 0 rfl rfl)
theorem dX5_classOf_48 : decode cX5_classOf 48 = .ok (.iload_n 2, 1) := dk_28 (dk_at dksX5_classOf_2 3 rfl rfl)
theorem dX5_classOf_49 : decode cX5_classOf 49 = .ok (.iaload, 1) := dk_46 (dk_at dksX5_classOf_2 4 rfl rfl)
theorem dX5_classOf_50 : decode cX5_classOf 50 = .ok (.iadd, 1) := dk_96 (dk_at dksX5_classOf_2 5 rfl rfl)
theorem dX5_classOf_51 : decode cX5_classOf 51 = .ok (.iaload, 1) := dk_46 (dk_at dksX5_classOf_2 6 rfl rfl)
theorem dX5_classOf_52 : decode cX5_classOf 52 = .ok (.ireturn, 1) := dk_172 (dk_at dksX5_classOf_2 7 rfl rfl)
def dkwX5_clash_2 : List UInt8 := [42, 180, 1, 106, 167, 0, 19, 28, 5, 160, 0, 10, 42, 180, 1, 109, 167, 0, 7, 42, 180, 1, 96, 172]
abbrev dktX5_clash_2 : List UInt8 := dkwX5_clash_2 ++ []
def dkwX5_clash_1 : List UInt8 := [182, 1, 115, 154, 0, 5, 2, 172, 28, 154, 0, 10, 42, 180, 1, 103, 167, 0, 31, 28, 4, 160, 0, 10]
abbrev dktX5_clash_1 : List UInt8 := dkwX5_clash_1 ++ dktX5_clash_2
def dkwX5_clash_0 : List UInt8 := [42, 3, 181, 0, 1, 42, 27, 182, 1, 42, 153, 0, 20, 28, 3, 6, 184, 0, 169, 153, 0, 11, 42, 27]
abbrev dktX5_clash_0 : List UInt8 := dkwX5_clash_0 ++ dktX5_clash_1
theorem dksX5_clash_0 : cX5_clash.data.toList.drop 0 = dktX5_clash_0 := by decide +kernel
theorem dksX5_clash_1 : cX5_clash.data.toList.drop 24 = dktX5_clash_1 := dk_seg dksX5_clash_0 24 rfl rfl
theorem dksX5_clash_2 : cX5_clash.data.toList.drop 48 = dktX5_clash_2 := dk_seg dksX5_clash_1 24 rfl rfl
theorem dX5_clash_0 : decode cX5_clash 0 = .ok (.aload_n 0, 1) := dk_42 (dk_at dksX5_clash_0 0 rfl rfl)
theorem dX5_clash_1 : decode cX5_clash 1 = .ok (.iconst 0, 1) := dk_3 (dk_at dksX5_clash_0 1 rfl rfl)
theorem dX5_clash_2 : decode cX5_clash 2 = .ok (.putfield 1, 3) := dk_181 0 1 (dk_at dksX5_clash_0 2 rfl rfl)
theorem dX5_clash_5 : decode cX5_clash 5 = .ok (.aload_n 0, 1) := dk_42 (dk_at dksX5_clash_0 5 rfl rfl)
theorem dX5_clash_6 : decode cX5_clash 6 = .ok (.iload_n 1, 1) := dk_27 (dk_at dksX5_clash_0 6 rfl rfl)
theorem dX5_clash_7 : decode cX5_clash 7 = .ok (.invokevirtual 298, 3) := dk_182 1 42 (dk_at dksX5_clash_0 7 rfl rfl)
theorem dX5_clash_10 : decode cX5_clash 10 = .ok (.ifCond .eq 20, 3) := dk_153 0 20 (dk_at dksX5_clash_0 10 rfl rfl)
theorem dX5_clash_13 : decode cX5_clash 13 = .ok (.iload_n 2, 1) := dk_28 (dk_at dksX5_clash_0 13 rfl rfl)
theorem dX5_clash_14 : decode cX5_clash 14 = .ok (.iconst 0, 1) := dk_3 (dk_at dksX5_clash_0 14 rfl rfl)
theorem dX5_clash_15 : decode cX5_clash 15 = .ok (.iconst 3, 1) := dk_6 (dk_at dksX5_clash_0 15 rfl rfl)
theorem dX5_clash_16 : decode cX5_clash 16 = .ok (.invokestatic 169, 3) := dk_184 0 169 (dk_at dksX5_clash_0 16 rfl rfl)
theorem dX5_clash_19 : decode cX5_clash 19 = .ok (.ifCond .eq 11, 3) := dk_153 0 11 (dk_at dksX5_clash_0 19 rfl rfl)
theorem dX5_clash_22 : decode cX5_clash 22 = .ok (.aload_n 0, 1) := dk_42 (dk_at dksX5_clash_0 22 rfl rfl)
theorem dX5_clash_23 : decode cX5_clash 23 = .ok (.iload_n 1, 1) := dk_27 (dk_at dksX5_clash_0 23 rfl rfl)
theorem dX5_clash_24 : decode cX5_clash 24 = .ok (.invokevirtual 371, 3) := dk_182 1 115 (dk_at dksX5_clash_1 0 rfl rfl)
theorem dX5_clash_27 : decode cX5_clash 27 = .ok (.ifCond .ne 5, 3) := dk_154 0 5 (dk_at dksX5_clash_1 3 rfl rfl)
theorem dX5_clash_30 : decode cX5_clash 30 = .ok (.iconst (-1), 1) := dk_2 (dk_at dksX5_clash_1 6 rfl rfl)
theorem dX5_clash_31 : decode cX5_clash 31 = .ok (.ireturn, 1) := dk_172 (dk_at dksX5_clash_1 7 rfl rfl)
theorem dX5_clash_32 : decode cX5_clash 32 = .ok (.iload_n 2, 1) := dk_28 (dk_at dksX5_clash_1 8 rfl rfl)
theorem dX5_clash_33 : decode cX5_clash 33 = .ok (.ifCond .ne 10, 3) := dk_154 0 10 (dk_at dksX5_clash_1 9 rfl rfl)
theorem dX5_clash_36 : decode cX5_clash 36 = .ok (.aload_n 0, 1) := dk_42 (dk_at dksX5_clash_1 12 rfl rfl)
theorem dX5_clash_37 : decode cX5_clash 37 = .ok (.getfield 359, 3) := dk_180 1 103 (dk_at dksX5_clash_1 13 rfl rfl)
theorem dX5_clash_40 : decode cX5_clash 40 = .ok (.goto 31, 3) := dk_167 0 31 (dk_at dksX5_clash_1 16 rfl rfl)
theorem dX5_clash_43 : decode cX5_clash 43 = .ok (.iload_n 2, 1) := dk_28 (dk_at dksX5_clash_1 19 rfl rfl)
theorem dX5_clash_44 : decode cX5_clash 44 = .ok (.iconst 1, 1) := dk_4 (dk_at dksX5_clash_1 20 rfl rfl)
theorem dX5_clash_45 : decode cX5_clash 45 = .ok (.if_icmp .ne 10, 3) := dk_160 0 10 (dk_at dksX5_clash_1 21 rfl rfl)
theorem dX5_clash_48 : decode cX5_clash 48 = .ok (.aload_n 0, 1) := dk_42 (dk_at dksX5_clash_2 0 rfl rfl)
theorem dX5_clash_49 : decode cX5_clash 49 = .ok (.getfield 362, 3) := dk_180 1 106 (dk_at dksX5_clash_2 1 rfl rfl)
theorem dX5_clash_52 : decode cX5_clash 52 = .ok (.goto 19, 3) := dk_167 0 19 (dk_at dksX5_clash_2 4 rfl rfl)
theorem dX5_clash_55 : decode cX5_clash 55 = .ok (.iload_n 2, 1) := dk_28 (dk_at dksX5_clash_2 7 rfl rfl)
theorem dX5_clash_56 : decode cX5_clash 56 = .ok (.iconst 2, 1) := dk_5 (dk_at dksX5_clash_2 8 rfl rfl)
theorem dX5_clash_57 : decode cX5_clash 57 = .ok (.if_icmp .ne 10, 3) := dk_160 0 10 (dk_at dksX5_clash_2 9 rfl rfl)
theorem dX5_clash_60 : decode cX5_clash 60 = .ok (.aload_n 0, 1) := dk_42 (dk_at dksX5_clash_2 12 rfl rfl)
theorem dX5_clash_61 : decode cX5_clash 61 = .ok (.getfield 365, 3) := dk_180 1 109 (dk_at dksX5_clash_2 13 rfl rfl)
theorem dX5_clash_64 : decode cX5_clash 64 = .ok (.goto 7, 3) := dk_167 0 7 (dk_at dksX5_clash_2 16 rfl rfl)
theorem dX5_clash_67 : decode cX5_clash 67 = .ok (.aload_n 0, 1) := dk_42 (dk_at dksX5_clash_2 19 rfl rfl)
theorem dX5_clash_68 : decode cX5_clash 68 = .ok (.getfield 352, 3) := dk_180 1 96 (dk_at dksX5_clash_2 20 rfl rfl)
theorem dX5_clash_71 : decode cX5_clash 71 = .ok (.ireturn, 1) := dk_172 (dk_at dksX5_clash_2 23 rfl rfl)
def dkwX5_findClash_10 : List UInt8 := [162, 0, 7, 4, 167, 0, 4, 3, 172]
abbrev dktX5_findClash_10 : List UInt8 := dkwX5_findClash_10 ++ []
def dkwX5_findClash_9 : List UInt8 := [21, 6, 4, 182, 1, 99, 132, 3, 1, 167, 255, 132, 132, 2, 1, 167, 255, 116, 42, 180, 1, 96, 18, 255]
abbrev dktX5_findClash_9 : List UInt8 := dkwX5_findClash_9 ++ dktX5_findClash_10
def dkwX5_findClash_8 : List UInt8 := [180, 0, 103, 17, 6, 64, 21, 4, 96, 51, 153, 0, 20, 21, 6, 18, 255, 162, 0, 13, 42, 28, 29, 5]
abbrev dktX5_findClash_8 : List UInt8 := dkwX5_findClash_8 ++ dktX5_findClash_9
def dkwX5_findClash_7 : List UInt8 := [51, 153, 0, 20, 21, 5, 18, 255, 162, 0, 13, 42, 28, 29, 5, 21, 5, 3, 182, 1, 99, 42]
abbrev dktX5_findClash_7 : List UInt8 := dkwX5_findClash_7 ++ dktX5_findClash_8
def dkwX5_findClash_6 : List UInt8 := [18, 255, 162, 0, 16, 42, 28, 29, 4, 21, 5, 21, 6, 96, 3, 182, 1, 99, 42, 180, 0, 103, 21, 4]
abbrev dktX5_findClash_6 : List UInt8 := dkwX5_findClash_6 ++ dktX5_findClash_7
def dkwX5_findClash_5 : List UInt8 := [54, 5, 42, 180, 0, 115, 17, 6, 64, 21, 4, 96, 46, 54, 6, 21, 5, 18, 255, 162, 0, 23, 21, 6]
abbrev dktX5_findClash_5 : List UInt8 := dkwX5_findClash_5 ++ dktX5_findClash_6
def dkwX5_findClash_4 : List UInt8 := [4, 96, 62, 29, 16, 40, 162, 0, 124, 16, 40, 28, 104, 29, 96, 54, 4, 42, 180, 0, 115, 21, 4, 46]
abbrev dktX5_findClash_4 : List UInt8 := dkwX5_findClash_4 ++ dktX5_findClash_5
def dkwX5_findClash_3 : List UInt8 := [167, 255, 200, 132, 2, 1, 167, 255, 187, 42, 18, 255, 181, 1, 96, 3, 61, 28, 16, 40, 162, 0, 140, 28]
abbrev dktX5_findClash_3 : List UInt8 := dkwX5_findClash_3 ++ dktX5_findClash_4
def dkwX5_findClash_2 : List UInt8 := [29, 104, 96, 21, 4, 96, 42, 180, 0, 112, 21, 4, 46, 79, 132, 4, 1, 167, 255, 221, 132, 3, 1]
abbrev dktX5_findClash_2 : List UInt8 := dkwX5_findClash_2 ++ dktX5_findClash_3
def dkwX5_findClash_1 : List UInt8 := [182, 1, 92, 3, 54, 4, 21, 4, 16, 40, 162, 0, 34, 42, 180, 0, 115, 17, 6, 64, 28, 104, 16, 40]
abbrev dktX5_findClash_1 : List UInt8 := dkwX5_findClash_1 ++ dktX5_findClash_2
def dkwX5_findClash_0 : List UInt8 := [42, 27, 182, 1, 89, 3, 61, 28, 5, 162, 0, 70, 3, 62, 29, 16, 40, 162, 0, 56, 42, 28, 29]
abbrev dktX5_findClash_0 : List UInt8 := dkwX5_findClash_0 ++ dktX5_findClash_1
theorem dksX5_findClash_0 : cX5_findClash.data.toList.drop 0 = dktX5_findClash_0 := by decide +kernel
theorem dksX5_findClash_1 : cX5_findClash.data.toList.drop 23 = dktX5_findClash_1 := dk_seg dksX5_findClash_0 23 rfl rfl
theorem dksX5_findClash_2 : cX5_findClash.data.toList.drop 47 = dktX5_findClash_2 := dk_seg dksX5_findClash_1 24 rfl rfl
theorem dksX5_findClash_3 : cX5_findClash.data.toList.drop 70 = dktX5_findClash_3 := dk_seg dksX5_findClash_2 23 rfl rfl
theorem dksX5_findClash_4 : cX5_findClash.data.toList.drop 94 = dktX5_findClash_4 := dk_seg dksX5_findClash_3 24 rfl rfl
theorem dksX5_findClash_5 : cX5_findClash.data.toList.drop 118 = dktX5_findClash_5 := dk_seg dksX5_findClash_4 24 rfl rfl
theorem dksX5_findClash_6 : cX5_findClash.data.toList.drop 142 = dktX5_findClash_6 := dk_seg dksX5_findClash_5 24 rfl rfl
theorem dksX5_findClash_7 : cX5_findClash.data.toList.drop 166 = dktX5_findClash_7 := dk_seg dksX5_findClash_6 24 rfl rfl
theorem dksX5_findClash_8 : cX5_findClash.data.toList.drop 188 = dktX5_findClash_8 := dk_seg dksX5_findClash_7 22 rfl rfl
theorem dksX5_findClash_9 : cX5_findClash.data.toList.drop 212 = dktX5_findClash_9 := dk_seg dksX5_findClash_8 24 rfl rfl
theorem dksX5_findClash_10 : cX5_findClash.data.toList.drop 236 = dktX5_findClash_10 := dk_seg dksX5_findClash_9 24 rfl rfl
theorem dX5_findClash_0 : decode cX5_findClash 0 = .ok (.aload_n 0, 1) := dk_42 (dk_at dksX5_findClash_0 0 rfl rfl)
theorem dX5_findClash_1 : decode cX5_findClash 1 = .ok (.iload_n 1, 1) := dk_27 (dk_at dksX5_findClash_0 1 rfl rfl)
theorem dX5_findClash_2 : decode cX5_findClash 2 = .ok (.invokevirtual 345, 3) := dk_182 1 89 (dk_at dksX5_findClash_0 2 rfl rfl)
theorem dX5_findClash_5 : decode cX5_findClash 5 = .ok (.iconst 0, 1) := dk_3 (dk_at dksX5_findClash_0 5 rfl rfl)
theorem dX5_findClash_6 : decode cX5_findClash 6 = .ok (.istore_n 2, 1) := dk_61 (dk_at dksX5_findClash_0 6 rfl rfl)
theorem dX5_findClash_7 : decode cX5_findClash 7 = .ok (.iload_n 2, 1) := dk_28 (dk_at dksX5_findClash_0 7 rfl rfl)
theorem dX5_findClash_8 : decode cX5_findClash 8 = .ok (.iconst 2, 1) := dk_5 (dk_at dksX5_findClash_0 8 rfl rfl)
theorem dX5_findClash_9 : decode cX5_findClash 9 = .ok (.if_icmp .ge 70, 3) := dk_162 0 70 (dk_at dksX5_findClash_0 9 rfl rfl)
theorem dX5_findClash_12 : decode cX5_findClash 12 = .ok (.iconst 0, 1) := dk_3 (dk_at dksX5_findClash_0 12 rfl rfl)
theorem dX5_findClash_13 : decode cX5_findClash 13 = .ok (.istore_n 3, 1) := dk_62 (dk_at dksX5_findClash_0 13 rfl rfl)
theorem dX5_findClash_14 : decode cX5_findClash 14 = .ok (.iload_n 3, 1) := dk_29 (dk_at dksX5_findClash_0 14 rfl rfl)
theorem dX5_findClash_15 : decode cX5_findClash 15 = .ok (.bipush 40, 2) := dk_16 40 (dk_at dksX5_findClash_0 15 rfl rfl)
theorem dX5_findClash_17 : decode cX5_findClash 17 = .ok (.if_icmp .ge 56, 3) := dk_162 0 56 (dk_at dksX5_findClash_0 17 rfl rfl)
theorem dX5_findClash_20 : decode cX5_findClash 20 = .ok (.aload_n 0, 1) := dk_42 (dk_at dksX5_findClash_0 20 rfl rfl)
theorem dX5_findClash_21 : decode cX5_findClash 21 = .ok (.iload_n 2, 1) := dk_28 (dk_at dksX5_findClash_0 21 rfl rfl)
theorem dX5_findClash_22 : decode cX5_findClash 22 = .ok (.iload_n 3, 1) := dk_29 (dk_at dksX5_findClash_0 22 rfl rfl)
theorem dX5_findClash_23 : decode cX5_findClash 23 = .ok (.invokevirtual 348, 3) := dk_182 1 92 (dk_at dksX5_findClash_1 0 rfl rfl)
theorem dX5_findClash_26 : decode cX5_findClash 26 = .ok (.iconst 0, 1) := dk_3 (dk_at dksX5_findClash_1 3 rfl rfl)
theorem dX5_findClash_27 : decode cX5_findClash 27 = .ok (.istore 4, 2) := dk_54 4 (dk_at dksX5_findClash_1 4 rfl rfl)
theorem dX5_findClash_29 : decode cX5_findClash 29 = .ok (.iload 4, 2) := dk_21 4 (dk_at dksX5_findClash_1 6 rfl rfl)
theorem dX5_findClash_31 : decode cX5_findClash 31 = .ok (.bipush 40, 2) := dk_16 40 (dk_at dksX5_findClash_1 8 rfl rfl)
theorem dX5_findClash_33 : decode cX5_findClash 33 = .ok (.if_icmp .ge 34, 3) := dk_162 0 34 (dk_at dksX5_findClash_1 10 rfl rfl)
theorem dX5_findClash_36 : decode cX5_findClash 36 = .ok (.aload_n 0, 1) := dk_42 (dk_at dksX5_findClash_1 13 rfl rfl)
theorem dX5_findClash_37 : decode cX5_findClash 37 = .ok (.getfield 115, 3) := dk_180 0 115 (dk_at dksX5_findClash_1 14 rfl rfl)
theorem dX5_findClash_40 : decode cX5_findClash 40 = .ok (.sipush 1600, 3) := dk_17 6 64 (dk_at dksX5_findClash_1 17 rfl rfl)
theorem dX5_findClash_43 : decode cX5_findClash 43 = .ok (.iload_n 2, 1) := dk_28 (dk_at dksX5_findClash_1 20 rfl rfl)
theorem dX5_findClash_44 : decode cX5_findClash 44 = .ok (.imul, 1) := dk_104 (dk_at dksX5_findClash_1 21 rfl rfl)
theorem dX5_findClash_45 : decode cX5_findClash 45 = .ok (.bipush 40, 2) := dk_16 40 (dk_at dksX5_findClash_1 22 rfl rfl)
theorem dX5_findClash_47 : decode cX5_findClash 47 = .ok (.iload_n 3, 1) := dk_29 (dk_at dksX5_findClash_2 0 rfl rfl)
theorem dX5_findClash_48 : decode cX5_findClash 48 = .ok (.imul, 1) := dk_104 (dk_at dksX5_findClash_2 1 rfl rfl)
theorem dX5_findClash_49 : decode cX5_findClash 49 = .ok (.iadd, 1) := dk_96 (dk_at dksX5_findClash_2 2 rfl rfl)
theorem dX5_findClash_50 : decode cX5_findClash 50 = .ok (.iload 4, 2) := dk_21 4 (dk_at dksX5_findClash_2 3 rfl rfl)
theorem dX5_findClash_52 : decode cX5_findClash 52 = .ok (.iadd, 1) := dk_96 (dk_at dksX5_findClash_2 5 rfl rfl)
theorem dX5_findClash_53 : decode cX5_findClash 53 = .ok (.aload_n 0, 1) := dk_42 (dk_at dksX5_findClash_2 6 rfl rfl)
theorem dX5_findClash_54 : decode cX5_findClash 54 = .ok (.getfield 112, 3) := dk_180 0 112 (dk_at dksX5_findClash_2 7 rfl rfl)
theorem dX5_findClash_57 : decode cX5_findClash 57 = .ok (.iload 4, 2) := dk_21 4 (dk_at dksX5_findClash_2 10 rfl rfl)
theorem dX5_findClash_59 : decode cX5_findClash 59 = .ok (.iaload, 1) := dk_46 (dk_at dksX5_findClash_2 12 rfl rfl)
theorem dX5_findClash_60 : decode cX5_findClash 60 = .ok (.iastore, 1) := dk_79 (dk_at dksX5_findClash_2 13 rfl rfl)
theorem dX5_findClash_61 : decode cX5_findClash 61 = .ok (.iinc 4 1, 3) := dk_132 4 1 (dk_at dksX5_findClash_2 14 rfl rfl)
theorem dX5_findClash_64 : decode cX5_findClash 64 = .ok (.goto (-35), 3) := dk_167 255 221 (dk_at dksX5_findClash_2 17 rfl rfl)
theorem dX5_findClash_67 : decode cX5_findClash 67 = .ok (.iinc 3 1, 3) := dk_132 3 1 (dk_at dksX5_findClash_2 20 rfl rfl)
theorem dX5_findClash_70 : decode cX5_findClash 70 = .ok (.goto (-56), 3) := dk_167 255 200 (dk_at dksX5_findClash_3 0 rfl rfl)
theorem dX5_findClash_73 : decode cX5_findClash 73 = .ok (.iinc 2 1, 3) := dk_132 2 1 (dk_at dksX5_findClash_3 3 rfl rfl)
theorem dX5_findClash_76 : decode cX5_findClash 76 = .ok (.goto (-69), 3) := dk_167 255 187 (dk_at dksX5_findClash_3 6 rfl rfl)
theorem dX5_findClash_79 : decode cX5_findClash 79 = .ok (.aload_n 0, 1) := dk_42 (dk_at dksX5_findClash_3 9 rfl rfl)
theorem dX5_findClash_80 : decode cX5_findClash 80 = .ok (.ldc 255, 2) := dk_18 255 (dk_at dksX5_findClash_3 10 rfl rfl)
theorem dX5_findClash_82 : decode cX5_findClash 82 = .ok (.putfield 352, 3) := dk_181 1 96 (dk_at dksX5_findClash_3 12 rfl rfl)
theorem dX5_findClash_85 : decode cX5_findClash 85 = .ok (.iconst 0, 1) := dk_3 (dk_at dksX5_findClash_3 15 rfl rfl)
theorem dX5_findClash_86 : decode cX5_findClash 86 = .ok (.istore_n 2, 1) := dk_61 (dk_at dksX5_findClash_3 16 rfl rfl)
theorem dX5_findClash_87 : decode cX5_findClash 87 = .ok (.iload_n 2, 1) := dk_28 (dk_at dksX5_findClash_3 17 rfl rfl)
theorem dX5_findClash_88 : decode cX5_findClash 88 = .ok (.bipush 40, 2) := dk_16 40 (dk_at dksX5_findClash_3 18 rfl rfl)
theorem dX5_findClash_90 : decode cX5_findClash 90 = .ok (.if_icmp .ge 140, 3) := dk_162 0 140 (dk_at dksX5_findClash_3 20 rfl rfl)
theorem dX5_findClash_93 : decode cX5_findClash 93 = .ok (.iload_n 2, 1) := dk_28 (dk_at dksX5_findClash_3 23 rfl rfl)
theorem dX5_findClash_94 : decode cX5_findClash 94 = .ok (.iconst 1, 1) := dk_4 (dk_at dksX5_findClash_4 0 rfl rfl)
theorem dX5_findClash_95 : decode cX5_findClash 95 = .ok (.iadd, 1) := dk_96 (dk_at dksX5_findClash_4 1 rfl rfl)
theorem dX5_findClash_96 : decode cX5_findClash 96 = .ok (.istore_n 3, 1) := dk_62 (dk_at dksX5_findClash_4 2 rfl rfl)
theorem dX5_findClash_97 : decode cX5_findClash 97 = .ok (.iload_n 3, 1) := dk_29 (dk_at dksX5_findClash_4 3 rfl rfl)
theorem dX5_findClash_98 : decode cX5_findClash 98 = .ok (.bipush 40, 2) := dk_16 40 (dk_at dksX5_findClash_4 4 rfl rfl)
theorem dX5_findClash_100 : decode cX5_findClash 100 = .ok (.if_icmp .ge 124, 3) := dk_162 0 124 (dk_at dksX5_findClash_4 6 rfl rfl)
theorem dX5_findClash_103 : decode cX5_findClash 103 = .ok (.bipush 40, 2) := dk_16 40 (dk_at dksX5_findClash_4 9 rfl rfl)
theorem dX5_findClash_105 : decode cX5_findClash 105 = .ok (.iload_n 2, 1) := dk_28 (dk_at dksX5_findClash_4 11 rfl rfl)
theorem dX5_findClash_106 : decode cX5_findClash 106 = .ok (.imul, 1) := dk_104 (dk_at dksX5_findClash_4 12 rfl rfl)
theorem dX5_findClash_107 : decode cX5_findClash 107 = .ok (.iload_n 3, 1) := dk_29 (dk_at dksX5_findClash_4 13 rfl rfl)
theorem dX5_findClash_108 : decode cX5_findClash 108 = .ok (.iadd, 1) := dk_96 (dk_at dksX5_findClash_4 14 rfl rfl)
theorem dX5_findClash_109 : decode cX5_findClash 109 = .ok (.istore 4, 2) := dk_54 4 (dk_at dksX5_findClash_4 15 rfl rfl)
theorem dX5_findClash_111 : decode cX5_findClash 111 = .ok (.aload_n 0, 1) := dk_42 (dk_at dksX5_findClash_4 17 rfl rfl)
theorem dX5_findClash_112 : decode cX5_findClash 112 = .ok (.getfield 115, 3) := dk_180 0 115 (dk_at dksX5_findClash_4 18 rfl rfl)
theorem dX5_findClash_115 : decode cX5_findClash 115 = .ok (.iload 4, 2) := dk_21 4 (dk_at dksX5_findClash_4 21 rfl rfl)
theorem dX5_findClash_117 : decode cX5_findClash 117 = .ok (.iaload, 1) := dk_46 (dk_at dksX5_findClash_4 23 rfl rfl)
theorem dX5_findClash_118 : decode cX5_findClash 118 = .ok (.istore 5, 2) := dk_54 5 (dk_at dksX5_findClash_5 0 rfl rfl)
theorem dX5_findClash_120 : decode cX5_findClash 120 = .ok (.aload_n 0, 1) := dk_42 (dk_at dksX5_findClash_5 2 rfl rfl)
theorem dX5_findClash_121 : decode cX5_findClash 121 = .ok (.getfield 115, 3) := dk_180 0 115 (dk_at dksX5_findClash_5 3 rfl rfl)
theorem dX5_findClash_124 : decode cX5_findClash 124 = .ok (.sipush 1600, 3) := dk_17 6 64 (dk_at dksX5_findClash_5 6 rfl rfl)
theorem dX5_findClash_127 : decode cX5_findClash 127 = .ok (.iload 4, 2) := dk_21 4 (dk_at dksX5_findClash_5 9 rfl rfl)
theorem dX5_findClash_129 : decode cX5_findClash 129 = .ok (.iadd, 1) := dk_96 (dk_at dksX5_findClash_5 11 rfl rfl)
theorem dX5_findClash_130 : decode cX5_findClash 130 = .ok (.iaload, 1) := dk_46 (dk_at dksX5_findClash_5 12 rfl rfl)
theorem dX5_findClash_131 : decode cX5_findClash 131 = .ok (.istore 6, 2) := dk_54 6 (dk_at dksX5_findClash_5 13 rfl rfl)
theorem dX5_findClash_133 : decode cX5_findClash 133 = .ok (.iload 5, 2) := dk_21 5 (dk_at dksX5_findClash_5 15 rfl rfl)
theorem dX5_findClash_135 : decode cX5_findClash 135 = .ok (.ldc 255, 2) := dk_18 255 (dk_at dksX5_findClash_5 17 rfl rfl)
theorem dX5_findClash_137 : decode cX5_findClash 137 = .ok (.if_icmp .ge 23, 3) := dk_162 0 23 (dk_at dksX5_findClash_5 19 rfl rfl)
theorem dX5_findClash_140 : decode cX5_findClash 140 = .ok (.iload 6, 2) := dk_21 6 (dk_at dksX5_findClash_5 22 rfl rfl)
theorem dX5_findClash_142 : decode cX5_findClash 142 = .ok (.ldc 255, 2) := dk_18 255 (dk_at dksX5_findClash_6 0 rfl rfl)
theorem dX5_findClash_144 : decode cX5_findClash 144 = .ok (.if_icmp .ge 16, 3) := dk_162 0 16 (dk_at dksX5_findClash_6 2 rfl rfl)
theorem dX5_findClash_147 : decode cX5_findClash 147 = .ok (.aload_n 0, 1) := dk_42 (dk_at dksX5_findClash_6 5 rfl rfl)
theorem dX5_findClash_148 : decode cX5_findClash 148 = .ok (.iload_n 2, 1) := dk_28 (dk_at dksX5_findClash_6 6 rfl rfl)
theorem dX5_findClash_149 : decode cX5_findClash 149 = .ok (.iload_n 3, 1) := dk_29 (dk_at dksX5_findClash_6 7 rfl rfl)
theorem dX5_findClash_150 : decode cX5_findClash 150 = .ok (.iconst 1, 1) := dk_4 (dk_at dksX5_findClash_6 8 rfl rfl)
theorem dX5_findClash_151 : decode cX5_findClash 151 = .ok (.iload 5, 2) := dk_21 5 (dk_at dksX5_findClash_6 9 rfl rfl)
theorem dX5_findClash_153 : decode cX5_findClash 153 = .ok (.iload 6, 2) := dk_21 6 (dk_at dksX5_findClash_6 11 rfl rfl)
theorem dX5_findClash_155 : decode cX5_findClash 155 = .ok (.iadd, 1) := dk_96 (dk_at dksX5_findClash_6 13 rfl rfl)
theorem dX5_findClash_156 : decode cX5_findClash 156 = .ok (.iconst 0, 1) := dk_3 (dk_at dksX5_findClash_6 14 rfl rfl)
theorem dX5_findClash_157 : decode cX5_findClash 157 = .ok (.invokevirtual 355, 3) := dk_182 1 99 (dk_at dksX5_findClash_6 15 rfl rfl)
theorem dX5_findClash_160 : decode cX5_findClash 160 = .ok (.aload_n 0, 1) := dk_42 (dk_at dksX5_findClash_6 18 rfl rfl)
theorem dX5_findClash_161 : decode cX5_findClash 161 = .ok (.getfield 103, 3) := dk_180 0 103 (dk_at dksX5_findClash_6 19 rfl rfl)
theorem dX5_findClash_164 : decode cX5_findClash 164 = .ok (.iload 4, 2) := dk_21 4 (dk_at dksX5_findClash_6 22 rfl rfl)
theorem dX5_findClash_166 : decode cX5_findClash 166 = .ok (.baload, 1) := dk_51 (dk_at dksX5_findClash_7 0 rfl rfl)
theorem dX5_findClash_167 : decode cX5_findClash 167 = .ok (.ifCond .eq 20, 3) := dk_153 0 20 (dk_at dksX5_findClash_7 1 rfl rfl)
theorem dX5_findClash_170 : decode cX5_findClash 170 = .ok (.iload 5, 2) := dk_21 5 (dk_at dksX5_findClash_7 4 rfl rfl)
theorem dX5_findClash_172 : decode cX5_findClash 172 = .ok (.ldc 255, 2) := dk_18 255 (dk_at dksX5_findClash_7 6 rfl rfl)
theorem dX5_findClash_174 : decode cX5_findClash 174 = .ok (.if_icmp .ge 13, 3) := dk_162 0 13 (dk_at dksX5_findClash_7 8 rfl rfl)
theorem dX5_findClash_177 : decode cX5_findClash 177 = .ok (.aload_n 0, 1) := dk_42 (dk_at dksX5_findClash_7 11 rfl rfl)
theorem dX5_findClash_178 : decode cX5_findClash 178 = .ok (.iload_n 2, 1) := dk_28 (dk_at dksX5_findClash_7 12 rfl rfl)
theorem dX5_findClash_179 : decode cX5_findClash 179 = .ok (.iload_n 3, 1) := dk_29 (dk_at dksX5_findClash_7 13 rfl rfl)
theorem dX5_findClash_180 : decode cX5_findClash 180 = .ok (.iconst 2, 1) := dk_5 (dk_at dksX5_findClash_7 14 rfl rfl)
theorem dX5_findClash_181 : decode cX5_findClash 181 = .ok (.iload 5, 2) := dk_21 5 (dk_at dksX5_findClash_7 15 rfl rfl)
theorem dX5_findClash_183 : decode cX5_findClash 183 = .ok (.iconst 0, 1) := dk_3 (dk_at dksX5_findClash_7 17 rfl rfl)
theorem dX5_findClash_184 : decode cX5_findClash 184 = .ok (.invokevirtual 355, 3) := dk_182 1 99 (dk_at dksX5_findClash_7 18 rfl rfl)
theorem dX5_findClash_187 : decode cX5_findClash 187 = .ok (.aload_n 0, 1) := dk_42 (dk_at dksX5_findClash_7 21 rfl rfl)
theorem dX5_findClash_188 : decode cX5_findClash 188 = .ok (.getfield 103, 3) := dk_180 0 103 (dk_at dksX5_findClash_8 0 rfl rfl)
theorem dX5_findClash_191 : decode cX5_findClash 191 = .ok (.sipush 1600, 3) := dk_17 6 64 (dk_at dksX5_findClash_8 3 rfl rfl)
theorem dX5_findClash_194 : decode cX5_findClash 194 = .ok (.iload 4, 2) := dk_21 4 (dk_at dksX5_findClash_8 6 rfl rfl)
theorem dX5_findClash_196 : decode cX5_findClash 196 = .ok (.iadd, 1) := dk_96 (dk_at dksX5_findClash_8 8 rfl rfl)
theorem dX5_findClash_197 : decode cX5_findClash 197 = .ok (.baload, 1) := dk_51 (dk_at dksX5_findClash_8 9 rfl rfl)
theorem dX5_findClash_198 : decode cX5_findClash 198 = .ok (.ifCond .eq 20, 3) := dk_153 0 20 (dk_at dksX5_findClash_8 10 rfl rfl)
theorem dX5_findClash_201 : decode cX5_findClash 201 = .ok (.iload 6, 2) := dk_21 6 (dk_at dksX5_findClash_8 13 rfl rfl)
theorem dX5_findClash_203 : decode cX5_findClash 203 = .ok (.ldc 255, 2) := dk_18 255 (dk_at dksX5_findClash_8 15 rfl rfl)
theorem dX5_findClash_205 : decode cX5_findClash 205 = .ok (.if_icmp .ge 13, 3) := dk_162 0 13 (dk_at dksX5_findClash_8 17 rfl rfl)
theorem dX5_findClash_208 : decode cX5_findClash 208 = .ok (.aload_n 0, 1) := dk_42 (dk_at dksX5_findClash_8 20 rfl rfl)
theorem dX5_findClash_209 : decode cX5_findClash 209 = .ok (.iload_n 2, 1) := dk_28 (dk_at dksX5_findClash_8 21 rfl rfl)
theorem dX5_findClash_210 : decode cX5_findClash 210 = .ok (.iload_n 3, 1) := dk_29 (dk_at dksX5_findClash_8 22 rfl rfl)
theorem dX5_findClash_211 : decode cX5_findClash 211 = .ok (.iconst 2, 1) := dk_5 (dk_at dksX5_findClash_8 23 rfl rfl)
theorem dX5_findClash_212 : decode cX5_findClash 212 = .ok (.iload 6, 2) := dk_21 6 (dk_at dksX5_findClash_9 0 rfl rfl)
theorem dX5_findClash_214 : decode cX5_findClash 214 = .ok (.iconst 1, 1) := dk_4 (dk_at dksX5_findClash_9 2 rfl rfl)
theorem dX5_findClash_215 : decode cX5_findClash 215 = .ok (.invokevirtual 355, 3) := dk_182 1 99 (dk_at dksX5_findClash_9 3 rfl rfl)
theorem dX5_findClash_218 : decode cX5_findClash 218 = .ok (.iinc 3 1, 3) := dk_132 3 1 (dk_at dksX5_findClash_9 6 rfl rfl)
theorem dX5_findClash_221 : decode cX5_findClash 221 = .ok (.goto (-124), 3) := dk_167 255 132 (dk_at dksX5_findClash_9 9 rfl rfl)
theorem dX5_findClash_224 : decode cX5_findClash 224 = .ok (.iinc 2 1, 3) := dk_132 2 1 (dk_at dksX5_findClash_9 12 rfl rfl)
theorem dX5_findClash_227 : decode cX5_findClash 227 = .ok (.goto (-140), 3) := dk_167 255 116 (dk_at dksX5_findClash_9 15 rfl rfl)
theorem dX5_findClash_230 : decode cX5_findClash 230 = .ok (.aload_n 0, 1) := dk_42 (dk_at dksX5_findClash_9 18 rfl rfl)
theorem dX5_findClash_231 : decode cX5_findClash 231 = .ok (.getfield 352, 3) := dk_180 1 96 (dk_at dksX5_findClash_9 19 rfl rfl)
theorem dX5_findClash_234 : decode cX5_findClash 234 = .ok (.ldc 255, 2) := dk_18 255 (dk_at dksX5_findClash_9 22 rfl rfl)
theorem dX5_findClash_236 : decode cX5_findClash 236 = .ok (.if_icmp .ge 7, 3) := dk_162 0 7 (dk_at dksX5_findClash_10 0 rfl rfl)
theorem dX5_findClash_239 : decode cX5_findClash 239 = .ok (.iconst 1, 1) := dk_4 (dk_at dksX5_findClash_10 3 rfl rfl)
theorem dX5_findClash_240 : decode cX5_findClash 240 = .ok (.goto 4, 3) := dk_167 0 4 (dk_at dksX5_findClash_10 4 rfl rfl)
theorem dX5_findClash_243 : decode cX5_findClash 243 = .ok (.iconst 0, 1) := dk_3 (dk_at dksX5_findClash_10 7 rfl rfl)
theorem dX5_findClash_244 : decode cX5_findClash 244 = .ok (.ireturn, 1) := dk_172 (dk_at dksX5_findClash_10 8 rfl rfl)
def dkwX5_findFar_5 : List UInt8 := [132, 4, 1, 167, 255, 177, 167, 255, 165, 177]
abbrev dktX5_findFar_5 : List UInt8 := dkwX5_findFar_5 ++ []
def dkwX5_findFar_4 : List UInt8 := [42, 180, 0, 112, 21, 4, 16, 40, 112, 42, 180, 0, 112, 21, 4, 16, 40, 108, 46, 4, 96, 79, 4, 62]
abbrev dktX5_findFar_4 : List UInt8 := dkwX5_findFar_4 ++ dktX5_findFar_5
def dkwX5_findFar_3 : List UInt8 := [21, 4, 16, 40, 112, 46, 42, 180, 0, 112, 21, 4, 16, 40, 108, 46, 4, 96, 163, 0, 6, 167, 0, 27]
abbrev dktX5_findFar_3 : List UInt8 := dkwX5_findFar_3 ++ dktX5_findFar_4
def dkwX5_findFar_2 : List UInt8 := [162, 0, 77, 42, 180, 0, 100, 17, 6, 64, 27, 104, 21, 4, 96, 51, 153, 0, 55, 42, 180, 0, 112]
abbrev dktX5_findFar_2 : List UInt8 := dkwX5_findFar_2 ++ dktX5_findFar_3
def dkwX5_findFar_1 : List UInt8 := [79, 132, 3, 1, 167, 255, 230, 4, 62, 29, 153, 0, 93, 3, 62, 3, 54, 4, 21, 4, 17, 6, 64]
abbrev dktX5_findFar_1 : List UInt8 := dkwX5_findFar_1 ++ dktX5_findFar_2
def dkwX5_findFar_0 : List UInt8 := [3, 62, 29, 16, 40, 162, 0, 26, 42, 180, 0, 112, 29, 29, 28, 160, 0, 7, 3, 167, 0, 5, 18, 255]
abbrev dktX5_findFar_0 : List UInt8 := dkwX5_findFar_0 ++ dktX5_findFar_1
theorem dksX5_findFar_0 : cX5_findFar.data.toList.drop 0 = dktX5_findFar_0 := by decide +kernel
theorem dksX5_findFar_1 : cX5_findFar.data.toList.drop 24 = dktX5_findFar_1 := dk_seg dksX5_findFar_0 24 rfl rfl
theorem dksX5_findFar_2 : cX5_findFar.data.toList.drop 47 = dktX5_findFar_2 := dk_seg dksX5_findFar_1 23 rfl rfl
theorem dksX5_findFar_3 : cX5_findFar.data.toList.drop 70 = dktX5_findFar_3 := dk_seg dksX5_findFar_2 23 rfl rfl
theorem dksX5_findFar_4 : cX5_findFar.data.toList.drop 94 = dktX5_findFar_4 := dk_seg dksX5_findFar_3 24 rfl rfl
theorem dksX5_findFar_5 : cX5_findFar.data.toList.drop 118 = dktX5_findFar_5 := dk_seg dksX5_findFar_4 24 rfl rfl
theorem dX5_findFar_0 : decode cX5_findFar 0 = .ok (.iconst 0, 1) := dk_3 (dk_at dksX5_findFar_0 0 rfl rfl)
theorem dX5_findFar_1 : decode cX5_findFar 1 = .ok (.istore_n 3, 1) := dk_62 (dk_at dksX5_findFar_0 1 rfl rfl)
theorem dX5_findFar_2 : decode cX5_findFar 2 = .ok (.iload_n 3, 1) := dk_29 (dk_at dksX5_findFar_0 2 rfl rfl)
theorem dX5_findFar_3 : decode cX5_findFar 3 = .ok (.bipush 40, 2) := dk_16 40 (dk_at dksX5_findFar_0 3 rfl rfl)
theorem dX5_findFar_5 : decode cX5_findFar 5 = .ok (.if_icmp .ge 26, 3) := dk_162 0 26 (dk_at dksX5_findFar_0 5 rfl rfl)
theorem dX5_findFar_8 : decode cX5_findFar 8 = .ok (.aload_n 0, 1) := dk_42 (dk_at dksX5_findFar_0 8 rfl rfl)
theorem dX5_findFar_9 : decode cX5_findFar 9 = .ok (.getfield 112, 3) := dk_180 0 112 (dk_at dksX5_findFar_0 9 rfl rfl)
theorem dX5_findFar_12 : decode cX5_findFar 12 = .ok (.iload_n 3, 1) := dk_29 (dk_at dksX5_findFar_0 12 rfl rfl)
theorem dX5_findFar_13 : decode cX5_findFar 13 = .ok (.iload_n 3, 1) := dk_29 (dk_at dksX5_findFar_0 13 rfl rfl)
theorem dX5_findFar_14 : decode cX5_findFar 14 = .ok (.iload_n 2, 1) := dk_28 (dk_at dksX5_findFar_0 14 rfl rfl)
theorem dX5_findFar_15 : decode cX5_findFar 15 = .ok (.if_icmp .ne 7, 3) := dk_160 0 7 (dk_at dksX5_findFar_0 15 rfl rfl)
theorem dX5_findFar_18 : decode cX5_findFar 18 = .ok (.iconst 0, 1) := dk_3 (dk_at dksX5_findFar_0 18 rfl rfl)
theorem dX5_findFar_19 : decode cX5_findFar 19 = .ok (.goto 5, 3) := dk_167 0 5 (dk_at dksX5_findFar_0 19 rfl rfl)
theorem dX5_findFar_22 : decode cX5_findFar 22 = .ok (.ldc 255, 2) := dk_18 255 (dk_at dksX5_findFar_0 22 rfl rfl)
theorem dX5_findFar_24 : decode cX5_findFar 24 = .ok (.iastore, 1) := dk_79 (dk_at dksX5_findFar_1 0 rfl rfl)
theorem dX5_findFar_25 : decode cX5_findFar 25 = .ok (.iinc 3 1, 3) := dk_132 3 1 (dk_at dksX5_findFar_1 1 rfl rfl)
theorem dX5_findFar_28 : decode cX5_findFar 28 = .ok (.goto (-26), 3) := dk_167 255 230 (dk_at dksX5_findFar_1 4 rfl rfl)
theorem dX5_findFar_31 : decode cX5_findFar 31 = .ok (.iconst 1, 1) := dk_4 (dk_at dksX5_findFar_1 7 rfl rfl)
theorem dX5_findFar_32 : decode cX5_findFar 32 = .ok (.istore_n 3, 1) := dk_62 (dk_at dksX5_findFar_1 8 rfl rfl)
theorem dX5_findFar_33 : decode cX5_findFar 33 = .ok (.iload_n 3, 1) := dk_29 (dk_at dksX5_findFar_1 9 rfl rfl)
theorem dX5_findFar_34 : decode cX5_findFar 34 = .ok (.ifCond .eq 93, 3) := dk_153 0 93 (dk_at dksX5_findFar_1 10 rfl rfl)
theorem dX5_findFar_37 : decode cX5_findFar 37 = .ok (.iconst 0, 1) := dk_3 (dk_at dksX5_findFar_1 13 rfl rfl)
theorem dX5_findFar_38 : decode cX5_findFar 38 = .ok (.istore_n 3, 1) := dk_62 (dk_at dksX5_findFar_1 14 rfl rfl)
theorem dX5_findFar_39 : decode cX5_findFar 39 = .ok (.iconst 0, 1) := dk_3 (dk_at dksX5_findFar_1 15 rfl rfl)
theorem dX5_findFar_40 : decode cX5_findFar 40 = .ok (.istore 4, 2) := dk_54 4 (dk_at dksX5_findFar_1 16 rfl rfl)
theorem dX5_findFar_42 : decode cX5_findFar 42 = .ok (.iload 4, 2) := dk_21 4 (dk_at dksX5_findFar_1 18 rfl rfl)
theorem dX5_findFar_44 : decode cX5_findFar 44 = .ok (.sipush 1600, 3) := dk_17 6 64 (dk_at dksX5_findFar_1 20 rfl rfl)
theorem dX5_findFar_47 : decode cX5_findFar 47 = .ok (.if_icmp .ge 77, 3) := dk_162 0 77 (dk_at dksX5_findFar_2 0 rfl rfl)
theorem dX5_findFar_50 : decode cX5_findFar 50 = .ok (.aload_n 0, 1) := dk_42 (dk_at dksX5_findFar_2 3 rfl rfl)
theorem dX5_findFar_51 : decode cX5_findFar 51 = .ok (.getfield 100, 3) := dk_180 0 100 (dk_at dksX5_findFar_2 4 rfl rfl)
theorem dX5_findFar_54 : decode cX5_findFar 54 = .ok (.sipush 1600, 3) := dk_17 6 64 (dk_at dksX5_findFar_2 7 rfl rfl)
theorem dX5_findFar_57 : decode cX5_findFar 57 = .ok (.iload_n 1, 1) := dk_27 (dk_at dksX5_findFar_2 10 rfl rfl)
theorem dX5_findFar_58 : decode cX5_findFar 58 = .ok (.imul, 1) := dk_104 (dk_at dksX5_findFar_2 11 rfl rfl)
theorem dX5_findFar_59 : decode cX5_findFar 59 = .ok (.iload 4, 2) := dk_21 4 (dk_at dksX5_findFar_2 12 rfl rfl)
theorem dX5_findFar_61 : decode cX5_findFar 61 = .ok (.iadd, 1) := dk_96 (dk_at dksX5_findFar_2 14 rfl rfl)
theorem dX5_findFar_62 : decode cX5_findFar 62 = .ok (.baload, 1) := dk_51 (dk_at dksX5_findFar_2 15 rfl rfl)
theorem dX5_findFar_63 : decode cX5_findFar 63 = .ok (.ifCond .eq 55, 3) := dk_153 0 55 (dk_at dksX5_findFar_2 16 rfl rfl)
theorem dX5_findFar_66 : decode cX5_findFar 66 = .ok (.aload_n 0, 1) := dk_42 (dk_at dksX5_findFar_2 19 rfl rfl)
theorem dX5_findFar_67 : decode cX5_findFar 67 = .ok (.getfield 112, 3) := dk_180 0 112 (dk_at dksX5_findFar_2 20 rfl rfl)
theorem dX5_findFar_70 : decode cX5_findFar 70 = .ok (.iload 4, 2) := dk_21 4 (dk_at dksX5_findFar_3 0 rfl rfl)
theorem dX5_findFar_72 : decode cX5_findFar 72 = .ok (.bipush 40, 2) := dk_16 40 (dk_at dksX5_findFar_3 2 rfl rfl)
theorem dX5_findFar_74 : decode cX5_findFar 74 = .ok (.irem, 1) := dk_112 (dk_at dksX5_findFar_3 4 rfl rfl)
theorem dX5_findFar_75 : decode cX5_findFar 75 = .ok (.iaload, 1) := dk_46 (dk_at dksX5_findFar_3 5 rfl rfl)
theorem dX5_findFar_76 : decode cX5_findFar 76 = .ok (.aload_n 0, 1) := dk_42 (dk_at dksX5_findFar_3 6 rfl rfl)
theorem dX5_findFar_77 : decode cX5_findFar 77 = .ok (.getfield 112, 3) := dk_180 0 112 (dk_at dksX5_findFar_3 7 rfl rfl)
theorem dX5_findFar_80 : decode cX5_findFar 80 = .ok (.iload 4, 2) := dk_21 4 (dk_at dksX5_findFar_3 10 rfl rfl)
theorem dX5_findFar_82 : decode cX5_findFar 82 = .ok (.bipush 40, 2) := dk_16 40 (dk_at dksX5_findFar_3 12 rfl rfl)
theorem dX5_findFar_84 : decode cX5_findFar 84 = .ok (.idiv, 1) := dk_108 (dk_at dksX5_findFar_3 14 rfl rfl)
theorem dX5_findFar_85 : decode cX5_findFar 85 = .ok (.iaload, 1) := dk_46 (dk_at dksX5_findFar_3 15 rfl rfl)
theorem dX5_findFar_86 : decode cX5_findFar 86 = .ok (.iconst 1, 1) := dk_4 (dk_at dksX5_findFar_3 16 rfl rfl)
theorem dX5_findFar_87 : decode cX5_findFar 87 = .ok (.iadd, 1) := dk_96 (dk_at dksX5_findFar_3 17 rfl rfl)
theorem dX5_findFar_88 : decode cX5_findFar 88 = .ok (.if_icmp .gt 6, 3) := dk_163 0 6 (dk_at dksX5_findFar_3 18 rfl rfl)
theorem dX5_findFar_91 : decode cX5_findFar 91 = .ok (.goto 27, 3) := dk_167 0 27 (dk_at dksX5_findFar_3 21 rfl rfl)
theorem dX5_findFar_94 : decode cX5_findFar 94 = .ok (.aload_n 0, 1) := dk_42 (dk_at dksX5_findFar_4 0 rfl rfl)
theorem dX5_findFar_95 : decode cX5_findFar 95 = .ok (.getfield 112, 3) := dk_180 0 112 (dk_at dksX5_findFar_4 1 rfl rfl)
theorem dX5_findFar_98 : decode cX5_findFar 98 = .ok (.iload 4, 2) := dk_21 4 (dk_at dksX5_findFar_4 4 rfl rfl)
theorem dX5_findFar_100 : decode cX5_findFar 100 = .ok (.bipush 40, 2) := dk_16 40 (dk_at dksX5_findFar_4 6 rfl rfl)
theorem dX5_findFar_102 : decode cX5_findFar 102 = .ok (.irem, 1) := dk_112 (dk_at dksX5_findFar_4 8 rfl rfl)
theorem dX5_findFar_103 : decode cX5_findFar 103 = .ok (.aload_n 0, 1) := dk_42 (dk_at dksX5_findFar_4 9 rfl rfl)
theorem dX5_findFar_104 : decode cX5_findFar 104 = .ok (.getfield 112, 3) := dk_180 0 112 (dk_at dksX5_findFar_4 10 rfl rfl)
theorem dX5_findFar_107 : decode cX5_findFar 107 = .ok (.iload 4, 2) := dk_21 4 (dk_at dksX5_findFar_4 13 rfl rfl)
theorem dX5_findFar_109 : decode cX5_findFar 109 = .ok (.bipush 40, 2) := dk_16 40 (dk_at dksX5_findFar_4 15 rfl rfl)
theorem dX5_findFar_111 : decode cX5_findFar 111 = .ok (.idiv, 1) := dk_108 (dk_at dksX5_findFar_4 17 rfl rfl)
theorem dX5_findFar_112 : decode cX5_findFar 112 = .ok (.iaload, 1) := dk_46 (dk_at dksX5_findFar_4 18 rfl rfl)
theorem dX5_findFar_113 : decode cX5_findFar 113 = .ok (.iconst 1, 1) := dk_4 (dk_at dksX5_findFar_4 19 rfl rfl)
theorem dX5_findFar_114 : decode cX5_findFar 114 = .ok (.iadd, 1) := dk_96 (dk_at dksX5_findFar_4 20 rfl rfl)
theorem dX5_findFar_115 : decode cX5_findFar 115 = .ok (.iastore, 1) := dk_79 (dk_at dksX5_findFar_4 21 rfl rfl)
theorem dX5_findFar_116 : decode cX5_findFar 116 = .ok (.iconst 1, 1) := dk_4 (dk_at dksX5_findFar_4 22 rfl rfl)
theorem dX5_findFar_117 : decode cX5_findFar 117 = .ok (.istore_n 3, 1) := dk_62 (dk_at dksX5_findFar_4 23 rfl rfl)
theorem dX5_findFar_118 : decode cX5_findFar 118 = .ok (.iinc 4 1, 3) := dk_132 4 1 (dk_at dksX5_findFar_5 0 rfl rfl)
theorem dX5_findFar_121 : decode cX5_findFar 121 = .ok (.goto (-79), 3) := dk_167 255 177 (dk_at dksX5_findFar_5 3 rfl rfl)
theorem dX5_findFar_124 : decode cX5_findFar 124 = .ok (.goto (-91), 3) := dk_167 255 165 (dk_at dksX5_findFar_5 6 rfl rfl)
theorem dX5_findFar_127 : decode cX5_findFar 127 = .ok (.return_, 1) := dk_177 (dk_at dksX5_findFar_5 9 rfl rfl)
def dkwX5_clashes_1 : List UInt8 := [181, 1, 109, 42, 21, 4, 181, 1, 96, 42, 21, 5, 181, 1, 112, 177]
abbrev dktX5_clashes_1 : List UInt8 := dkwX5_clashes_1 ++ []
def dkwX5_clashes_0 : List UInt8 := [21, 4, 42, 180, 1, 96, 161, 0, 4, 177, 42, 27, 181, 1, 103, 42, 28, 181, 1, 106, 42, 29]
abbrev dktX5_clashes_0 : List UInt8 := dkwX5_clashes_0 ++ dktX5_clashes_1
theorem dksX5_clashes_0 : cX5_clashes.data.toList.drop 0 = dktX5_clashes_0 := by decide +kernel
theorem dksX5_clashes_1 : cX5_clashes.data.toList.drop 22 = dktX5_clashes_1 := dk_seg dksX5_clashes_0 22 rfl rfl
theorem dX5_clashes_0 : decode cX5_clashes 0 = .ok (.iload 4, 2) := dk_21 4 (dk_at dksX5_clashes_0 0 rfl rfl)
theorem dX5_clashes_2 : decode cX5_clashes 2 = .ok (.aload_n 0, 1) := dk_42 (dk_at dksX5_clashes_0 2 rfl rfl)
theorem dX5_clashes_3 : decode cX5_clashes 3 = .ok (.getfield 352, 3) := dk_180 1 96 (dk_at dksX5_clashes_0 3 rfl rfl)
theorem dX5_clashes_6 : decode cX5_clashes 6 = .ok (.if_icmp .lt 4, 3) := dk_161 0 4 (dk_at dksX5_clashes_0 6 rfl rfl)
theorem dX5_clashes_9 : decode cX5_clashes 9 = .ok (.return_, 1) := dk_177 (dk_at dksX5_clashes_0 9 rfl rfl)
theorem dX5_clashes_10 : decode cX5_clashes 10 = .ok (.aload_n 0, 1) := dk_42 (dk_at dksX5_clashes_0 10 rfl rfl)
theorem dX5_clashes_11 : decode cX5_clashes 11 = .ok (.iload_n 1, 1) := dk_27 (dk_at dksX5_clashes_0 11 rfl rfl)
theorem dX5_clashes_12 : decode cX5_clashes 12 = .ok (.putfield 359, 3) := dk_181 1 103 (dk_at dksX5_clashes_0 12 rfl rfl)
theorem dX5_clashes_15 : decode cX5_clashes 15 = .ok (.aload_n 0, 1) := dk_42 (dk_at dksX5_clashes_0 15 rfl rfl)
theorem dX5_clashes_16 : decode cX5_clashes 16 = .ok (.iload_n 2, 1) := dk_28 (dk_at dksX5_clashes_0 16 rfl rfl)
theorem dX5_clashes_17 : decode cX5_clashes 17 = .ok (.putfield 362, 3) := dk_181 1 106 (dk_at dksX5_clashes_0 17 rfl rfl)
theorem dX5_clashes_20 : decode cX5_clashes 20 = .ok (.aload_n 0, 1) := dk_42 (dk_at dksX5_clashes_0 20 rfl rfl)
theorem dX5_clashes_21 : decode cX5_clashes 21 = .ok (.iload_n 3, 1) := dk_29 (dk_at dksX5_clashes_0 21 rfl rfl)
theorem dX5_clashes_22 : decode cX5_clashes 22 = .ok (.putfield 365, 3) := dk_181 1 109 (dk_at dksX5_clashes_1 0 rfl rfl)
theorem dX5_clashes_25 : decode cX5_clashes 25 = .ok (.aload_n 0, 1) := dk_42 (dk_at dksX5_clashes_1 3 rfl rfl)
theorem dX5_clashes_26 : decode cX5_clashes 26 = .ok (.iload 4, 2) := dk_21 4 (dk_at dksX5_clashes_1 4 rfl rfl)
theorem dX5_clashes_28 : decode cX5_clashes 28 = .ok (.putfield 352, 3) := dk_181 1 96 (dk_at dksX5_clashes_1 6 rfl rfl)
theorem dX5_clashes_31 : decode cX5_clashes 31 = .ok (.aload_n 0, 1) := dk_42 (dk_at dksX5_clashes_1 9 rfl rfl)
theorem dX5_clashes_32 : decode cX5_clashes 32 = .ok (.iload 5, 2) := dk_21 5 (dk_at dksX5_clashes_1 10 rfl rfl)
theorem dX5_clashes_34 : decode cX5_clashes 34 = .ok (.putfield 368, 3) := dk_181 1 112 (dk_at dksX5_clashes_1 12 rfl rfl)
theorem dX5_clashes_37 : decode cX5_clashes 37 = .ok (.return_, 1) := dk_177 (dk_at dksX5_clashes_1 15 rfl rfl)
def dkwX5_reason_5 : List UInt8 := [167, 0, 4, 2, 172]
abbrev dktX5_reason_5 : List UInt8 := dkwX5_reason_5 ++ []
def dkwX5_reason_4 : List UInt8 := [28, 3, 42, 180, 1, 118, 4, 100, 184, 0, 169, 153, 0, 16, 42, 180, 0, 118, 6, 28, 104, 29, 96, 46]
abbrev dktX5_reason_4 : List UInt8 := dkwX5_reason_4 ++ dktX5_reason_5
def dkwX5_reason_3 : List UInt8 := [159, 0, 11, 42, 180, 1, 112, 4, 160, 0, 16, 42, 4, 42, 180, 1, 103, 42, 180, 1, 106, 182, 1, 121]
abbrev dktX5_reason_3 : List UInt8 := dkwX5_reason_3 ++ dktX5_reason_4
def dkwX5_reason_2 : List UInt8 := [180, 1, 112, 154, 0, 16, 42, 3, 42, 180, 1, 103, 42, 180, 1, 106, 182, 1, 121, 42, 180, 1, 109, 4]
abbrev dktX5_reason_2 : List UInt8 := dkwX5_reason_2 ++ dktX5_reason_3
def dkwX5_reason_1 : List UInt8 := [182, 1, 115, 154, 0, 5, 2, 172, 42, 3, 181, 1, 118, 42, 180, 1, 109, 4, 159, 0, 10, 42]
abbrev dktX5_reason_1 : List UInt8 := dkwX5_reason_1 ++ dktX5_reason_2
def dkwX5_reason_0 : List UInt8 := [42, 3, 181, 0, 1, 42, 27, 182, 1, 42, 153, 0, 20, 29, 3, 5, 184, 0, 169, 153, 0, 11, 42, 27]
abbrev dktX5_reason_0 : List UInt8 := dkwX5_reason_0 ++ dktX5_reason_1
theorem dksX5_reason_0 : cX5_reason.data.toList.drop 0 = dktX5_reason_0 := by decide +kernel
theorem dksX5_reason_1 : cX5_reason.data.toList.drop 24 = dktX5_reason_1 := dk_seg dksX5_reason_0 24 rfl rfl
theorem dksX5_reason_2 : cX5_reason.data.toList.drop 46 = dktX5_reason_2 := dk_seg dksX5_reason_1 22 rfl rfl
theorem dksX5_reason_3 : cX5_reason.data.toList.drop 70 = dktX5_reason_3 := dk_seg dksX5_reason_2 24 rfl rfl
theorem dksX5_reason_4 : cX5_reason.data.toList.drop 94 = dktX5_reason_4 := dk_seg dksX5_reason_3 24 rfl rfl
theorem dksX5_reason_5 : cX5_reason.data.toList.drop 118 = dktX5_reason_5 := dk_seg dksX5_reason_4 24 rfl rfl
theorem dX5_reason_0 : decode cX5_reason 0 = .ok (.aload_n 0, 1) := dk_42 (dk_at dksX5_reason_0 0 rfl rfl)
theorem dX5_reason_1 : decode cX5_reason 1 = .ok (.iconst 0, 1) := dk_3 (dk_at dksX5_reason_0 1 rfl rfl)
theorem dX5_reason_2 : decode cX5_reason 2 = .ok (.putfield 1, 3) := dk_181 0 1 (dk_at dksX5_reason_0 2 rfl rfl)
theorem dX5_reason_5 : decode cX5_reason 5 = .ok (.aload_n 0, 1) := dk_42 (dk_at dksX5_reason_0 5 rfl rfl)
theorem dX5_reason_6 : decode cX5_reason 6 = .ok (.iload_n 1, 1) := dk_27 (dk_at dksX5_reason_0 6 rfl rfl)
theorem dX5_reason_7 : decode cX5_reason 7 = .ok (.invokevirtual 298, 3) := dk_182 1 42 (dk_at dksX5_reason_0 7 rfl rfl)
theorem dX5_reason_10 : decode cX5_reason 10 = .ok (.ifCond .eq 20, 3) := dk_153 0 20 (dk_at dksX5_reason_0 10 rfl rfl)
theorem dX5_reason_13 : decode cX5_reason 13 = .ok (.iload_n 3, 1) := dk_29 (dk_at dksX5_reason_0 13 rfl rfl)
theorem dX5_reason_14 : decode cX5_reason 14 = .ok (.iconst 0, 1) := dk_3 (dk_at dksX5_reason_0 14 rfl rfl)
theorem dX5_reason_15 : decode cX5_reason 15 = .ok (.iconst 2, 1) := dk_5 (dk_at dksX5_reason_0 15 rfl rfl)
theorem dX5_reason_16 : decode cX5_reason 16 = .ok (.invokestatic 169, 3) := dk_184 0 169 (dk_at dksX5_reason_0 16 rfl rfl)
theorem dX5_reason_19 : decode cX5_reason 19 = .ok (.ifCond .eq 11, 3) := dk_153 0 11 (dk_at dksX5_reason_0 19 rfl rfl)
theorem dX5_reason_22 : decode cX5_reason 22 = .ok (.aload_n 0, 1) := dk_42 (dk_at dksX5_reason_0 22 rfl rfl)
theorem dX5_reason_23 : decode cX5_reason 23 = .ok (.iload_n 1, 1) := dk_27 (dk_at dksX5_reason_0 23 rfl rfl)
theorem dX5_reason_24 : decode cX5_reason 24 = .ok (.invokevirtual 371, 3) := dk_182 1 115 (dk_at dksX5_reason_1 0 rfl rfl)
theorem dX5_reason_27 : decode cX5_reason 27 = .ok (.ifCond .ne 5, 3) := dk_154 0 5 (dk_at dksX5_reason_1 3 rfl rfl)
theorem dX5_reason_30 : decode cX5_reason 30 = .ok (.iconst (-1), 1) := dk_2 (dk_at dksX5_reason_1 6 rfl rfl)
theorem dX5_reason_31 : decode cX5_reason 31 = .ok (.ireturn, 1) := dk_172 (dk_at dksX5_reason_1 7 rfl rfl)
theorem dX5_reason_32 : decode cX5_reason 32 = .ok (.aload_n 0, 1) := dk_42 (dk_at dksX5_reason_1 8 rfl rfl)
theorem dX5_reason_33 : decode cX5_reason 33 = .ok (.iconst 0, 1) := dk_3 (dk_at dksX5_reason_1 9 rfl rfl)
theorem dX5_reason_34 : decode cX5_reason 34 = .ok (.putfield 374, 3) := dk_181 1 118 (dk_at dksX5_reason_1 10 rfl rfl)
theorem dX5_reason_37 : decode cX5_reason 37 = .ok (.aload_n 0, 1) := dk_42 (dk_at dksX5_reason_1 13 rfl rfl)
theorem dX5_reason_38 : decode cX5_reason 38 = .ok (.getfield 365, 3) := dk_180 1 109 (dk_at dksX5_reason_1 14 rfl rfl)
theorem dX5_reason_41 : decode cX5_reason 41 = .ok (.iconst 1, 1) := dk_4 (dk_at dksX5_reason_1 17 rfl rfl)
theorem dX5_reason_42 : decode cX5_reason 42 = .ok (.if_icmp .eq 10, 3) := dk_159 0 10 (dk_at dksX5_reason_1 18 rfl rfl)
theorem dX5_reason_45 : decode cX5_reason 45 = .ok (.aload_n 0, 1) := dk_42 (dk_at dksX5_reason_1 21 rfl rfl)
theorem dX5_reason_46 : decode cX5_reason 46 = .ok (.getfield 368, 3) := dk_180 1 112 (dk_at dksX5_reason_2 0 rfl rfl)
theorem dX5_reason_49 : decode cX5_reason 49 = .ok (.ifCond .ne 16, 3) := dk_154 0 16 (dk_at dksX5_reason_2 3 rfl rfl)
theorem dX5_reason_52 : decode cX5_reason 52 = .ok (.aload_n 0, 1) := dk_42 (dk_at dksX5_reason_2 6 rfl rfl)
theorem dX5_reason_53 : decode cX5_reason 53 = .ok (.iconst 0, 1) := dk_3 (dk_at dksX5_reason_2 7 rfl rfl)
theorem dX5_reason_54 : decode cX5_reason 54 = .ok (.aload_n 0, 1) := dk_42 (dk_at dksX5_reason_2 8 rfl rfl)
theorem dX5_reason_55 : decode cX5_reason 55 = .ok (.getfield 359, 3) := dk_180 1 103 (dk_at dksX5_reason_2 9 rfl rfl)
theorem dX5_reason_58 : decode cX5_reason 58 = .ok (.aload_n 0, 1) := dk_42 (dk_at dksX5_reason_2 12 rfl rfl)
theorem dX5_reason_59 : decode cX5_reason 59 = .ok (.getfield 362, 3) := dk_180 1 106 (dk_at dksX5_reason_2 13 rfl rfl)
theorem dX5_reason_62 : decode cX5_reason 62 = .ok (.invokevirtual 377, 3) := dk_182 1 121 (dk_at dksX5_reason_2 16 rfl rfl)
theorem dX5_reason_65 : decode cX5_reason 65 = .ok (.aload_n 0, 1) := dk_42 (dk_at dksX5_reason_2 19 rfl rfl)
theorem dX5_reason_66 : decode cX5_reason 66 = .ok (.getfield 365, 3) := dk_180 1 109 (dk_at dksX5_reason_2 20 rfl rfl)
theorem dX5_reason_69 : decode cX5_reason 69 = .ok (.iconst 1, 1) := dk_4 (dk_at dksX5_reason_2 23 rfl rfl)
theorem dX5_reason_70 : decode cX5_reason 70 = .ok (.if_icmp .eq 11, 3) := dk_159 0 11 (dk_at dksX5_reason_3 0 rfl rfl)
theorem dX5_reason_73 : decode cX5_reason 73 = .ok (.aload_n 0, 1) := dk_42 (dk_at dksX5_reason_3 3 rfl rfl)
theorem dX5_reason_74 : decode cX5_reason 74 = .ok (.getfield 368, 3) := dk_180 1 112 (dk_at dksX5_reason_3 4 rfl rfl)
theorem dX5_reason_77 : decode cX5_reason 77 = .ok (.iconst 1, 1) := dk_4 (dk_at dksX5_reason_3 7 rfl rfl)
theorem dX5_reason_78 : decode cX5_reason 78 = .ok (.if_icmp .ne 16, 3) := dk_160 0 16 (dk_at dksX5_reason_3 8 rfl rfl)
theorem dX5_reason_81 : decode cX5_reason 81 = .ok (.aload_n 0, 1) := dk_42 (dk_at dksX5_reason_3 11 rfl rfl)
theorem dX5_reason_82 : decode cX5_reason 82 = .ok (.iconst 1, 1) := dk_4 (dk_at dksX5_reason_3 12 rfl rfl)
theorem dX5_reason_83 : decode cX5_reason 83 = .ok (.aload_n 0, 1) := dk_42 (dk_at dksX5_reason_3 13 rfl rfl)
theorem dX5_reason_84 : decode cX5_reason 84 = .ok (.getfield 359, 3) := dk_180 1 103 (dk_at dksX5_reason_3 14 rfl rfl)
theorem dX5_reason_87 : decode cX5_reason 87 = .ok (.aload_n 0, 1) := dk_42 (dk_at dksX5_reason_3 17 rfl rfl)
theorem dX5_reason_88 : decode cX5_reason 88 = .ok (.getfield 362, 3) := dk_180 1 106 (dk_at dksX5_reason_3 18 rfl rfl)
theorem dX5_reason_91 : decode cX5_reason 91 = .ok (.invokevirtual 377, 3) := dk_182 1 121 (dk_at dksX5_reason_3 21 rfl rfl)
theorem dX5_reason_94 : decode cX5_reason 94 = .ok (.iload_n 2, 1) := dk_28 (dk_at dksX5_reason_4 0 rfl rfl)
theorem dX5_reason_95 : decode cX5_reason 95 = .ok (.iconst 0, 1) := dk_3 (dk_at dksX5_reason_4 1 rfl rfl)
theorem dX5_reason_96 : decode cX5_reason 96 = .ok (.aload_n 0, 1) := dk_42 (dk_at dksX5_reason_4 2 rfl rfl)
theorem dX5_reason_97 : decode cX5_reason 97 = .ok (.getfield 374, 3) := dk_180 1 118 (dk_at dksX5_reason_4 3 rfl rfl)
theorem dX5_reason_100 : decode cX5_reason 100 = .ok (.iconst 1, 1) := dk_4 (dk_at dksX5_reason_4 6 rfl rfl)
theorem dX5_reason_101 : decode cX5_reason 101 = .ok (.isub, 1) := dk_100 (dk_at dksX5_reason_4 7 rfl rfl)
theorem dX5_reason_102 : decode cX5_reason 102 = .ok (.invokestatic 169, 3) := dk_184 0 169 (dk_at dksX5_reason_4 8 rfl rfl)
theorem dX5_reason_105 : decode cX5_reason 105 = .ok (.ifCond .eq 16, 3) := dk_153 0 16 (dk_at dksX5_reason_4 11 rfl rfl)
theorem dX5_reason_108 : decode cX5_reason 108 = .ok (.aload_n 0, 1) := dk_42 (dk_at dksX5_reason_4 14 rfl rfl)
theorem dX5_reason_109 : decode cX5_reason 109 = .ok (.getfield 118, 3) := dk_180 0 118 (dk_at dksX5_reason_4 15 rfl rfl)
theorem dX5_reason_112 : decode cX5_reason 112 = .ok (.iconst 3, 1) := dk_6 (dk_at dksX5_reason_4 18 rfl rfl)
theorem dX5_reason_113 : decode cX5_reason 113 = .ok (.iload_n 2, 1) := dk_28 (dk_at dksX5_reason_4 19 rfl rfl)
theorem dX5_reason_114 : decode cX5_reason 114 = .ok (.imul, 1) := dk_104 (dk_at dksX5_reason_4 20 rfl rfl)
theorem dX5_reason_115 : decode cX5_reason 115 = .ok (.iload_n 3, 1) := dk_29 (dk_at dksX5_reason_4 21 rfl rfl)
theorem dX5_reason_116 : decode cX5_reason 116 = .ok (.iadd, 1) := dk_96 (dk_at dksX5_reason_4 22 rfl rfl)
theorem dX5_reason_117 : decode cX5_reason 117 = .ok (.iaload, 1) := dk_46 (dk_at dksX5_reason_4 23 rfl rfl)
theorem dX5_reason_118 : decode cX5_reason 118 = .ok (.goto 4, 3) := dk_167 0 4 (dk_at dksX5_reason_5 0 rfl rfl)
theorem dX5_reason_121 : decode cX5_reason 121 = .ok (.iconst (-1), 1) := dk_2 (dk_at dksX5_reason_5 3 rfl rfl)
theorem dX5_reason_122 : decode cX5_reason 122 = .ok (.ireturn, 1) := dk_172 (dk_at dksX5_reason_5 4 rfl rfl)
def dkwX5_walks_5 : List UInt8 := [21, 5, 54, 4, 167, 255, 144, 177]
abbrev dktX5_walks_5 : List UInt8 := dkwX5_walks_5 ++ []
def dkwX5_walks_4 : List UInt8 := [180, 0, 118, 6, 42, 180, 1, 118, 104, 5, 96, 21, 5, 79, 42, 89, 180, 1, 118, 4, 96, 181, 1, 118]
abbrev dktX5_walks_4 : List UInt8 := dkwX5_walks_4 ++ dktX5_walks_5
def dkwX5_walks_3 : List UInt8 := [42, 180, 1, 118, 104, 27, 79, 42, 180, 0, 118, 6, 42, 180, 1, 118, 104, 4, 96, 21, 4, 79, 42]
abbrev dktX5_walks_3 : List UInt8 := dkwX5_walks_3 ++ dktX5_walks_4
def dkwX5_walks_2 : List UInt8 := [46, 42, 180, 0, 112, 21, 4, 46, 4, 100, 159, 0, 9, 132, 5, 1, 167, 255, 212, 42, 180, 0, 118, 6]
abbrev dktX5_walks_2 : List UInt8 := dkwX5_walks_2 ++ dktX5_walks_3
def dkwX5_walks_1 : List UInt8 := [17, 6, 64, 27, 104, 16, 40, 21, 4, 104, 96, 21, 5, 96, 51, 153, 0, 22, 42, 180, 0, 112, 21, 5]
abbrev dktX5_walks_1 : List UInt8 := dkwX5_walks_1 ++ dktX5_walks_2
def dkwX5_walks_0 : List UInt8 := [42, 27, 29, 182, 1, 92, 28, 54, 4, 21, 4, 29, 159, 0, 112, 3, 54, 5, 42, 180, 0, 100]
abbrev dktX5_walks_0 : List UInt8 := dkwX5_walks_0 ++ dktX5_walks_1
theorem dksX5_walks_0 : cX5_walks.data.toList.drop 0 = dktX5_walks_0 := by decide +kernel
theorem dksX5_walks_1 : cX5_walks.data.toList.drop 22 = dktX5_walks_1 := dk_seg dksX5_walks_0 22 rfl rfl
theorem dksX5_walks_2 : cX5_walks.data.toList.drop 46 = dktX5_walks_2 := dk_seg dksX5_walks_1 24 rfl rfl
theorem dksX5_walks_3 : cX5_walks.data.toList.drop 70 = dktX5_walks_3 := dk_seg dksX5_walks_2 24 rfl rfl
theorem dksX5_walks_4 : cX5_walks.data.toList.drop 93 = dktX5_walks_4 := dk_seg dksX5_walks_3 23 rfl rfl
theorem dksX5_walks_5 : cX5_walks.data.toList.drop 117 = dktX5_walks_5 := dk_seg dksX5_walks_4 24 rfl rfl
theorem dX5_walks_0 : decode cX5_walks 0 = .ok (.aload_n 0, 1) := dk_42 (dk_at dksX5_walks_0 0 rfl rfl)
theorem dX5_walks_1 : decode cX5_walks 1 = .ok (.iload_n 1, 1) := dk_27 (dk_at dksX5_walks_0 1 rfl rfl)
theorem dX5_walks_2 : decode cX5_walks 2 = .ok (.iload_n 3, 1) := dk_29 (dk_at dksX5_walks_0 2 rfl rfl)
theorem dX5_walks_3 : decode cX5_walks 3 = .ok (.invokevirtual 348, 3) := dk_182 1 92 (dk_at dksX5_walks_0 3 rfl rfl)
theorem dX5_walks_6 : decode cX5_walks 6 = .ok (.iload_n 2, 1) := dk_28 (dk_at dksX5_walks_0 6 rfl rfl)
theorem dX5_walks_7 : decode cX5_walks 7 = .ok (.istore 4, 2) := dk_54 4 (dk_at dksX5_walks_0 7 rfl rfl)
theorem dX5_walks_9 : decode cX5_walks 9 = .ok (.iload 4, 2) := dk_21 4 (dk_at dksX5_walks_0 9 rfl rfl)
theorem dX5_walks_11 : decode cX5_walks 11 = .ok (.iload_n 3, 1) := dk_29 (dk_at dksX5_walks_0 11 rfl rfl)
theorem dX5_walks_12 : decode cX5_walks 12 = .ok (.if_icmp .eq 112, 3) := dk_159 0 112 (dk_at dksX5_walks_0 12 rfl rfl)
theorem dX5_walks_15 : decode cX5_walks 15 = .ok (.iconst 0, 1) := dk_3 (dk_at dksX5_walks_0 15 rfl rfl)
theorem dX5_walks_16 : decode cX5_walks 16 = .ok (.istore 5, 2) := dk_54 5 (dk_at dksX5_walks_0 16 rfl rfl)
theorem dX5_walks_18 : decode cX5_walks 18 = .ok (.aload_n 0, 1) := dk_42 (dk_at dksX5_walks_0 18 rfl rfl)
theorem dX5_walks_19 : decode cX5_walks 19 = .ok (.getfield 100, 3) := dk_180 0 100 (dk_at dksX5_walks_0 19 rfl rfl)
theorem dX5_walks_22 : decode cX5_walks 22 = .ok (.sipush 1600, 3) := dk_17 6 64 (dk_at dksX5_walks_1 0 rfl rfl)
theorem dX5_walks_25 : decode cX5_walks 25 = .ok (.iload_n 1, 1) := dk_27 (dk_at dksX5_walks_1 3 rfl rfl)
theorem dX5_walks_26 : decode cX5_walks 26 = .ok (.imul, 1) := dk_104 (dk_at dksX5_walks_1 4 rfl rfl)
theorem dX5_walks_27 : decode cX5_walks 27 = .ok (.bipush 40, 2) := dk_16 40 (dk_at dksX5_walks_1 5 rfl rfl)
theorem dX5_walks_29 : decode cX5_walks 29 = .ok (.iload 4, 2) := dk_21 4 (dk_at dksX5_walks_1 7 rfl rfl)
theorem dX5_walks_31 : decode cX5_walks 31 = .ok (.imul, 1) := dk_104 (dk_at dksX5_walks_1 9 rfl rfl)
theorem dX5_walks_32 : decode cX5_walks 32 = .ok (.iadd, 1) := dk_96 (dk_at dksX5_walks_1 10 rfl rfl)
theorem dX5_walks_33 : decode cX5_walks 33 = .ok (.iload 5, 2) := dk_21 5 (dk_at dksX5_walks_1 11 rfl rfl)
theorem dX5_walks_35 : decode cX5_walks 35 = .ok (.iadd, 1) := dk_96 (dk_at dksX5_walks_1 13 rfl rfl)
theorem dX5_walks_36 : decode cX5_walks 36 = .ok (.baload, 1) := dk_51 (dk_at dksX5_walks_1 14 rfl rfl)
theorem dX5_walks_37 : decode cX5_walks 37 = .ok (.ifCond .eq 22, 3) := dk_153 0 22 (dk_at dksX5_walks_1 15 rfl rfl)
theorem dX5_walks_40 : decode cX5_walks 40 = .ok (.aload_n 0, 1) := dk_42 (dk_at dksX5_walks_1 18 rfl rfl)
theorem dX5_walks_41 : decode cX5_walks 41 = .ok (.getfield 112, 3) := dk_180 0 112 (dk_at dksX5_walks_1 19 rfl rfl)
theorem dX5_walks_44 : decode cX5_walks 44 = .ok (.iload 5, 2) := dk_21 5 (dk_at dksX5_walks_1 22 rfl rfl)
theorem dX5_walks_46 : decode cX5_walks 46 = .ok (.iaload, 1) := dk_46 (dk_at dksX5_walks_2 0 rfl rfl)
theorem dX5_walks_47 : decode cX5_walks 47 = .ok (.aload_n 0, 1) := dk_42 (dk_at dksX5_walks_2 1 rfl rfl)
theorem dX5_walks_48 : decode cX5_walks 48 = .ok (.getfield 112, 3) := dk_180 0 112 (dk_at dksX5_walks_2 2 rfl rfl)
theorem dX5_walks_51 : decode cX5_walks 51 = .ok (.iload 4, 2) := dk_21 4 (dk_at dksX5_walks_2 5 rfl rfl)
theorem dX5_walks_53 : decode cX5_walks 53 = .ok (.iaload, 1) := dk_46 (dk_at dksX5_walks_2 7 rfl rfl)
theorem dX5_walks_54 : decode cX5_walks 54 = .ok (.iconst 1, 1) := dk_4 (dk_at dksX5_walks_2 8 rfl rfl)
theorem dX5_walks_55 : decode cX5_walks 55 = .ok (.isub, 1) := dk_100 (dk_at dksX5_walks_2 9 rfl rfl)
theorem dX5_walks_56 : decode cX5_walks 56 = .ok (.if_icmp .eq 9, 3) := dk_159 0 9 (dk_at dksX5_walks_2 10 rfl rfl)
theorem dX5_walks_59 : decode cX5_walks 59 = .ok (.iinc 5 1, 3) := dk_132 5 1 (dk_at dksX5_walks_2 13 rfl rfl)
theorem dX5_walks_62 : decode cX5_walks 62 = .ok (.goto (-44), 3) := dk_167 255 212 (dk_at dksX5_walks_2 16 rfl rfl)
theorem dX5_walks_65 : decode cX5_walks 65 = .ok (.aload_n 0, 1) := dk_42 (dk_at dksX5_walks_2 19 rfl rfl)
theorem dX5_walks_66 : decode cX5_walks 66 = .ok (.getfield 118, 3) := dk_180 0 118 (dk_at dksX5_walks_2 20 rfl rfl)
theorem dX5_walks_69 : decode cX5_walks 69 = .ok (.iconst 3, 1) := dk_6 (dk_at dksX5_walks_2 23 rfl rfl)
theorem dX5_walks_70 : decode cX5_walks 70 = .ok (.aload_n 0, 1) := dk_42 (dk_at dksX5_walks_3 0 rfl rfl)
theorem dX5_walks_71 : decode cX5_walks 71 = .ok (.getfield 374, 3) := dk_180 1 118 (dk_at dksX5_walks_3 1 rfl rfl)
theorem dX5_walks_74 : decode cX5_walks 74 = .ok (.imul, 1) := dk_104 (dk_at dksX5_walks_3 4 rfl rfl)
theorem dX5_walks_75 : decode cX5_walks 75 = .ok (.iload_n 1, 1) := dk_27 (dk_at dksX5_walks_3 5 rfl rfl)
theorem dX5_walks_76 : decode cX5_walks 76 = .ok (.iastore, 1) := dk_79 (dk_at dksX5_walks_3 6 rfl rfl)
theorem dX5_walks_77 : decode cX5_walks 77 = .ok (.aload_n 0, 1) := dk_42 (dk_at dksX5_walks_3 7 rfl rfl)
theorem dX5_walks_78 : decode cX5_walks 78 = .ok (.getfield 118, 3) := dk_180 0 118 (dk_at dksX5_walks_3 8 rfl rfl)
theorem dX5_walks_81 : decode cX5_walks 81 = .ok (.iconst 3, 1) := dk_6 (dk_at dksX5_walks_3 11 rfl rfl)
theorem dX5_walks_82 : decode cX5_walks 82 = .ok (.aload_n 0, 1) := dk_42 (dk_at dksX5_walks_3 12 rfl rfl)
theorem dX5_walks_83 : decode cX5_walks 83 = .ok (.getfield 374, 3) := dk_180 1 118 (dk_at dksX5_walks_3 13 rfl rfl)
theorem dX5_walks_86 : decode cX5_walks 86 = .ok (.imul, 1) := dk_104 (dk_at dksX5_walks_3 16 rfl rfl)
theorem dX5_walks_87 : decode cX5_walks 87 = .ok (.iconst 1, 1) := dk_4 (dk_at dksX5_walks_3 17 rfl rfl)
theorem dX5_walks_88 : decode cX5_walks 88 = .ok (.iadd, 1) := dk_96 (dk_at dksX5_walks_3 18 rfl rfl)
theorem dX5_walks_89 : decode cX5_walks 89 = .ok (.iload 4, 2) := dk_21 4 (dk_at dksX5_walks_3 19 rfl rfl)
theorem dX5_walks_91 : decode cX5_walks 91 = .ok (.iastore, 1) := dk_79 (dk_at dksX5_walks_3 21 rfl rfl)
theorem dX5_walks_92 : decode cX5_walks 92 = .ok (.aload_n 0, 1) := dk_42 (dk_at dksX5_walks_3 22 rfl rfl)
theorem dX5_walks_93 : decode cX5_walks 93 = .ok (.getfield 118, 3) := dk_180 0 118 (dk_at dksX5_walks_4 0 rfl rfl)
theorem dX5_walks_96 : decode cX5_walks 96 = .ok (.iconst 3, 1) := dk_6 (dk_at dksX5_walks_4 3 rfl rfl)
theorem dX5_walks_97 : decode cX5_walks 97 = .ok (.aload_n 0, 1) := dk_42 (dk_at dksX5_walks_4 4 rfl rfl)
theorem dX5_walks_98 : decode cX5_walks 98 = .ok (.getfield 374, 3) := dk_180 1 118 (dk_at dksX5_walks_4 5 rfl rfl)
theorem dX5_walks_101 : decode cX5_walks 101 = .ok (.imul, 1) := dk_104 (dk_at dksX5_walks_4 8 rfl rfl)
theorem dX5_walks_102 : decode cX5_walks 102 = .ok (.iconst 2, 1) := dk_5 (dk_at dksX5_walks_4 9 rfl rfl)
theorem dX5_walks_103 : decode cX5_walks 103 = .ok (.iadd, 1) := dk_96 (dk_at dksX5_walks_4 10 rfl rfl)
theorem dX5_walks_104 : decode cX5_walks 104 = .ok (.iload 5, 2) := dk_21 5 (dk_at dksX5_walks_4 11 rfl rfl)
theorem dX5_walks_106 : decode cX5_walks 106 = .ok (.iastore, 1) := dk_79 (dk_at dksX5_walks_4 13 rfl rfl)
theorem dX5_walks_107 : decode cX5_walks 107 = .ok (.aload_n 0, 1) := dk_42 (dk_at dksX5_walks_4 14 rfl rfl)
theorem dX5_walks_108 : decode cX5_walks 108 = .ok (.dup, 1) := dk_89 (dk_at dksX5_walks_4 15 rfl rfl)
theorem dX5_walks_109 : decode cX5_walks 109 = .ok (.getfield 374, 3) := dk_180 1 118 (dk_at dksX5_walks_4 16 rfl rfl)
theorem dX5_walks_112 : decode cX5_walks 112 = .ok (.iconst 1, 1) := dk_4 (dk_at dksX5_walks_4 19 rfl rfl)
theorem dX5_walks_113 : decode cX5_walks 113 = .ok (.iadd, 1) := dk_96 (dk_at dksX5_walks_4 20 rfl rfl)
theorem dX5_walks_114 : decode cX5_walks 114 = .ok (.putfield 374, 3) := dk_181 1 118 (dk_at dksX5_walks_4 21 rfl rfl)
theorem dX5_walks_117 : decode cX5_walks 117 = .ok (.iload 5, 2) := dk_21 5 (dk_at dksX5_walks_5 0 rfl rfl)
theorem dX5_walks_119 : decode cX5_walks 119 = .ok (.istore 4, 2) := dk_54 4 (dk_at dksX5_walks_5 2 rfl rfl)
theorem dX5_walks_121 : decode cX5_walks 121 = .ok (.goto (-112), 3) := dk_167 255 144 (dk_at dksX5_walks_5 4 rfl rfl)
theorem dX5_walks_124 : decode cX5_walks 124 = .ok (.return_, 1) := dk_177 (dk_at dksX5_walks_5 7 rfl rfl)
def dkwX5_name_3 : List UInt8 := [89, 180, 1, 127, 4, 96, 181, 1, 127, 42, 180, 1, 127, 4, 100, 172]
abbrev dktX5_name_3 : List UInt8 := dkwX5_name_3 ++ []
def dkwX5_name_2 : List UInt8 := [180, 0, 130, 42, 180, 1, 127, 42, 180, 0, 173, 79, 42, 180, 0, 133, 42, 180, 1, 127, 18, 255, 79, 42]
abbrev dktX5_name_2 : List UInt8 := dkwX5_name_2 ++ dktX5_name_3
def dkwX5_name_1 : List UInt8 := [153, 0, 12, 42, 180, 1, 127, 16, 6, 160, 0, 5, 2, 172, 42, 42, 180, 1, 127, 27, 182, 1, 130, 42]
abbrev dktX5_name_1 : List UInt8 := dkwX5_name_1 ++ dktX5_name_2
def dkwX5_name_0 : List UInt8 := [42, 3, 181, 0, 1, 27, 3, 42, 180, 0, 243, 4, 100, 184, 0, 169, 153, 0, 19, 42, 182, 1, 124]
abbrev dktX5_name_0 : List UInt8 := dkwX5_name_0 ++ dktX5_name_1
theorem dksX5_name_0 : cX5_name.data.toList.drop 0 = dktX5_name_0 := by decide +kernel
theorem dksX5_name_1 : cX5_name.data.toList.drop 23 = dktX5_name_1 := dk_seg dksX5_name_0 23 rfl rfl
theorem dksX5_name_2 : cX5_name.data.toList.drop 47 = dktX5_name_2 := dk_seg dksX5_name_1 24 rfl rfl
theorem dksX5_name_3 : cX5_name.data.toList.drop 71 = dktX5_name_3 := dk_seg dksX5_name_2 24 rfl rfl
theorem dX5_name_0 : decode cX5_name 0 = .ok (.aload_n 0, 1) := dk_42 (dk_at dksX5_name_0 0 rfl rfl)
theorem dX5_name_1 : decode cX5_name 1 = .ok (.iconst 0, 1) := dk_3 (dk_at dksX5_name_0 1 rfl rfl)
theorem dX5_name_2 : decode cX5_name 2 = .ok (.putfield 1, 3) := dk_181 0 1 (dk_at dksX5_name_0 2 rfl rfl)
theorem dX5_name_5 : decode cX5_name 5 = .ok (.iload_n 1, 1) := dk_27 (dk_at dksX5_name_0 5 rfl rfl)
theorem dX5_name_6 : decode cX5_name 6 = .ok (.iconst 0, 1) := dk_3 (dk_at dksX5_name_0 6 rfl rfl)
theorem dX5_name_7 : decode cX5_name 7 = .ok (.aload_n 0, 1) := dk_42 (dk_at dksX5_name_0 7 rfl rfl)
theorem dX5_name_8 : decode cX5_name 8 = .ok (.getfield 243, 3) := dk_180 0 243 (dk_at dksX5_name_0 8 rfl rfl)
theorem dX5_name_11 : decode cX5_name 11 = .ok (.iconst 1, 1) := dk_4 (dk_at dksX5_name_0 11 rfl rfl)
theorem dX5_name_12 : decode cX5_name 12 = .ok (.isub, 1) := dk_100 (dk_at dksX5_name_0 12 rfl rfl)
theorem dX5_name_13 : decode cX5_name 13 = .ok (.invokestatic 169, 3) := dk_184 0 169 (dk_at dksX5_name_0 13 rfl rfl)
theorem dX5_name_16 : decode cX5_name 16 = .ok (.ifCond .eq 19, 3) := dk_153 0 19 (dk_at dksX5_name_0 16 rfl rfl)
theorem dX5_name_19 : decode cX5_name 19 = .ok (.aload_n 0, 1) := dk_42 (dk_at dksX5_name_0 19 rfl rfl)
theorem dX5_name_20 : decode cX5_name 20 = .ok (.invokevirtual 380, 3) := dk_182 1 124 (dk_at dksX5_name_0 20 rfl rfl)
theorem dX5_name_23 : decode cX5_name 23 = .ok (.ifCond .eq 12, 3) := dk_153 0 12 (dk_at dksX5_name_1 0 rfl rfl)
theorem dX5_name_26 : decode cX5_name 26 = .ok (.aload_n 0, 1) := dk_42 (dk_at dksX5_name_1 3 rfl rfl)
theorem dX5_name_27 : decode cX5_name 27 = .ok (.getfield 383, 3) := dk_180 1 127 (dk_at dksX5_name_1 4 rfl rfl)
theorem dX5_name_30 : decode cX5_name 30 = .ok (.bipush 6, 2) := dk_16 6 (dk_at dksX5_name_1 7 rfl rfl)
theorem dX5_name_32 : decode cX5_name 32 = .ok (.if_icmp .ne 5, 3) := dk_160 0 5 (dk_at dksX5_name_1 9 rfl rfl)
theorem dX5_name_35 : decode cX5_name 35 = .ok (.iconst (-1), 1) := dk_2 (dk_at dksX5_name_1 12 rfl rfl)
theorem dX5_name_36 : decode cX5_name 36 = .ok (.ireturn, 1) := dk_172 (dk_at dksX5_name_1 13 rfl rfl)
theorem dX5_name_37 : decode cX5_name 37 = .ok (.aload_n 0, 1) := dk_42 (dk_at dksX5_name_1 14 rfl rfl)
theorem dX5_name_38 : decode cX5_name 38 = .ok (.aload_n 0, 1) := dk_42 (dk_at dksX5_name_1 15 rfl rfl)
theorem dX5_name_39 : decode cX5_name 39 = .ok (.getfield 383, 3) := dk_180 1 127 (dk_at dksX5_name_1 16 rfl rfl)
theorem dX5_name_42 : decode cX5_name 42 = .ok (.iload_n 1, 1) := dk_27 (dk_at dksX5_name_1 19 rfl rfl)
theorem dX5_name_43 : decode cX5_name 43 = .ok (.invokevirtual 386, 3) := dk_182 1 130 (dk_at dksX5_name_1 20 rfl rfl)
theorem dX5_name_46 : decode cX5_name 46 = .ok (.aload_n 0, 1) := dk_42 (dk_at dksX5_name_1 23 rfl rfl)
theorem dX5_name_47 : decode cX5_name 47 = .ok (.getfield 130, 3) := dk_180 0 130 (dk_at dksX5_name_2 0 rfl rfl)
theorem dX5_name_50 : decode cX5_name 50 = .ok (.aload_n 0, 1) := dk_42 (dk_at dksX5_name_2 3 rfl rfl)
theorem dX5_name_51 : decode cX5_name 51 = .ok (.getfield 383, 3) := dk_180 1 127 (dk_at dksX5_name_2 4 rfl rfl)
theorem dX5_name_54 : decode cX5_name 54 = .ok (.aload_n 0, 1) := dk_42 (dk_at dksX5_name_2 7 rfl rfl)
theorem dX5_name_55 : decode cX5_name 55 = .ok (.getfield 173, 3) := dk_180 0 173 (dk_at dksX5_name_2 8 rfl rfl)
theorem dX5_name_58 : decode cX5_name 58 = .ok (.iastore, 1) := dk_79 (dk_at dksX5_name_2 11 rfl rfl)
theorem dX5_name_59 : decode cX5_name 59 = .ok (.aload_n 0, 1) := dk_42 (dk_at dksX5_name_2 12 rfl rfl)
theorem dX5_name_60 : decode cX5_name 60 = .ok (.getfield 133, 3) := dk_180 0 133 (dk_at dksX5_name_2 13 rfl rfl)
theorem dX5_name_63 : decode cX5_name 63 = .ok (.aload_n 0, 1) := dk_42 (dk_at dksX5_name_2 16 rfl rfl)
theorem dX5_name_64 : decode cX5_name 64 = .ok (.getfield 383, 3) := dk_180 1 127 (dk_at dksX5_name_2 17 rfl rfl)
theorem dX5_name_67 : decode cX5_name 67 = .ok (.ldc 255, 2) := dk_18 255 (dk_at dksX5_name_2 20 rfl rfl)
theorem dX5_name_69 : decode cX5_name 69 = .ok (.iastore, 1) := dk_79 (dk_at dksX5_name_2 22 rfl rfl)
theorem dX5_name_70 : decode cX5_name 70 = .ok (.aload_n 0, 1) := dk_42 (dk_at dksX5_name_2 23 rfl rfl)
theorem dX5_name_71 : decode cX5_name 71 = .ok (.dup, 1) := dk_89 (dk_at dksX5_name_3 0 rfl rfl)
theorem dX5_name_72 : decode cX5_name 72 = .ok (.getfield 383, 3) := dk_180 1 127 (dk_at dksX5_name_3 1 rfl rfl)
theorem dX5_name_75 : decode cX5_name 75 = .ok (.iconst 1, 1) := dk_4 (dk_at dksX5_name_3 4 rfl rfl)
theorem dX5_name_76 : decode cX5_name 76 = .ok (.iadd, 1) := dk_96 (dk_at dksX5_name_3 5 rfl rfl)
theorem dX5_name_77 : decode cX5_name 77 = .ok (.putfield 383, 3) := dk_181 1 127 (dk_at dksX5_name_3 6 rfl rfl)
theorem dX5_name_80 : decode cX5_name 80 = .ok (.aload_n 0, 1) := dk_42 (dk_at dksX5_name_3 9 rfl rfl)
theorem dX5_name_81 : decode cX5_name 81 = .ok (.getfield 383, 3) := dk_180 1 127 (dk_at dksX5_name_3 10 rfl rfl)
theorem dX5_name_84 : decode cX5_name 84 = .ok (.iconst 1, 1) := dk_4 (dk_at dksX5_name_3 13 rfl rfl)
theorem dX5_name_85 : decode cX5_name 85 = .ok (.isub, 1) := dk_100 (dk_at dksX5_name_3 14 rfl rfl)
theorem dX5_name_86 : decode cX5_name 86 = .ok (.ireturn, 1) := dk_172 (dk_at dksX5_name_3 15 rfl rfl)
def dkwX5_isName_2 : List UInt8 := [132, 2, 1, 167, 255, 231, 27, 172]
abbrev dktX5_isName_2 : List UInt8 := dkwX5_isName_2 ++ []
def dkwX5_isName_1 : List UInt8 := [61, 28, 42, 180, 0, 180, 162, 0, 23, 27, 153, 0, 19, 42, 180, 0, 47, 28, 51, 184, 0, 195, 60]
abbrev dktX5_isName_1 : List UInt8 := dkwX5_isName_1 ++ dktX5_isName_2
def dkwX5_isName_0 : List UInt8 := [42, 180, 0, 180, 4, 161, 0, 16, 42, 180, 0, 180, 16, 8, 163, 0, 7, 4, 167, 0, 4, 3, 60, 3]
abbrev dktX5_isName_0 : List UInt8 := dkwX5_isName_0 ++ dktX5_isName_1
theorem dksX5_isName_0 : cX5_isName.data.toList.drop 0 = dktX5_isName_0 := by decide +kernel
theorem dksX5_isName_1 : cX5_isName.data.toList.drop 24 = dktX5_isName_1 := dk_seg dksX5_isName_0 24 rfl rfl
theorem dksX5_isName_2 : cX5_isName.data.toList.drop 47 = dktX5_isName_2 := dk_seg dksX5_isName_1 23 rfl rfl
theorem dX5_isName_0 : decode cX5_isName 0 = .ok (.aload_n 0, 1) := dk_42 (dk_at dksX5_isName_0 0 rfl rfl)
theorem dX5_isName_1 : decode cX5_isName 1 = .ok (.getfield 180, 3) := dk_180 0 180 (dk_at dksX5_isName_0 1 rfl rfl)
theorem dX5_isName_4 : decode cX5_isName 4 = .ok (.iconst 1, 1) := dk_4 (dk_at dksX5_isName_0 4 rfl rfl)
theorem dX5_isName_5 : decode cX5_isName 5 = .ok (.if_icmp .lt 16, 3) := dk_161 0 16 (dk_at dksX5_isName_0 5 rfl rfl)
theorem dX5_isName_8 : decode cX5_isName 8 = .ok (.aload_n 0, 1) := dk_42 (dk_at dksX5_isName_0 8 rfl rfl)
theorem dX5_isName_9 : decode cX5_isName 9 = .ok (.getfield 180, 3) := dk_180 0 180 (dk_at dksX5_isName_0 9 rfl rfl)
theorem dX5_isName_12 : decode cX5_isName 12 = .ok (.bipush 8, 2) := dk_16 8 (dk_at dksX5_isName_0 12 rfl rfl)
theorem dX5_isName_14 : decode cX5_isName 14 = .ok (.if_icmp .gt 7, 3) := dk_163 0 7 (dk_at dksX5_isName_0 14 rfl rfl)
theorem dX5_isName_17 : decode cX5_isName 17 = .ok (.iconst 1, 1) := dk_4 (dk_at dksX5_isName_0 17 rfl rfl)
theorem dX5_isName_18 : decode cX5_isName 18 = .ok (.goto 4, 3) := dk_167 0 4 (dk_at dksX5_isName_0 18 rfl rfl)
theorem dX5_isName_21 : decode cX5_isName 21 = .ok (.iconst 0, 1) := dk_3 (dk_at dksX5_isName_0 21 rfl rfl)
theorem dX5_isName_22 : decode cX5_isName 22 = .ok (.istore_n 1, 1) := dk_60 (dk_at dksX5_isName_0 22 rfl rfl)
theorem dX5_isName_23 : decode cX5_isName 23 = .ok (.iconst 0, 1) := dk_3 (dk_at dksX5_isName_0 23 rfl rfl)
theorem dX5_isName_24 : decode cX5_isName 24 = .ok (.istore_n 2, 1) := dk_61 (dk_at dksX5_isName_1 0 rfl rfl)
theorem dX5_isName_25 : decode cX5_isName 25 = .ok (.iload_n 2, 1) := dk_28 (dk_at dksX5_isName_1 1 rfl rfl)
theorem dX5_isName_26 : decode cX5_isName 26 = .ok (.aload_n 0, 1) := dk_42 (dk_at dksX5_isName_1 2 rfl rfl)
theorem dX5_isName_27 : decode cX5_isName 27 = .ok (.getfield 180, 3) := dk_180 0 180 (dk_at dksX5_isName_1 3 rfl rfl)
theorem dX5_isName_30 : decode cX5_isName 30 = .ok (.if_icmp .ge 23, 3) := dk_162 0 23 (dk_at dksX5_isName_1 6 rfl rfl)
theorem dX5_isName_33 : decode cX5_isName 33 = .ok (.iload_n 1, 1) := dk_27 (dk_at dksX5_isName_1 9 rfl rfl)
theorem dX5_isName_34 : decode cX5_isName 34 = .ok (.ifCond .eq 19, 3) := dk_153 0 19 (dk_at dksX5_isName_1 10 rfl rfl)
theorem dX5_isName_37 : decode cX5_isName 37 = .ok (.aload_n 0, 1) := dk_42 (dk_at dksX5_isName_1 13 rfl rfl)
theorem dX5_isName_38 : decode cX5_isName 38 = .ok (.getfield 47, 3) := dk_180 0 47 (dk_at dksX5_isName_1 14 rfl rfl)
theorem dX5_isName_41 : decode cX5_isName 41 = .ok (.iload_n 2, 1) := dk_28 (dk_at dksX5_isName_1 17 rfl rfl)
theorem dX5_isName_42 : decode cX5_isName 42 = .ok (.baload, 1) := dk_51 (dk_at dksX5_isName_1 18 rfl rfl)
theorem dX5_isName_43 : decode cX5_isName 43 = .ok (.invokestatic 195, 3) := dk_184 0 195 (dk_at dksX5_isName_1 19 rfl rfl)
theorem dX5_isName_46 : decode cX5_isName 46 = .ok (.istore_n 1, 1) := dk_60 (dk_at dksX5_isName_1 22 rfl rfl)
theorem dX5_isName_47 : decode cX5_isName 47 = .ok (.iinc 2 1, 3) := dk_132 2 1 (dk_at dksX5_isName_2 0 rfl rfl)
theorem dX5_isName_50 : decode cX5_isName 50 = .ok (.goto (-25), 3) := dk_167 255 231 (dk_at dksX5_isName_2 3 rfl rfl)
theorem dX5_isName_53 : decode cX5_isName 53 = .ok (.iload_n 1, 1) := dk_27 (dk_at dksX5_isName_2 6 rfl rfl)
theorem dX5_isName_54 : decode cX5_isName 54 = .ok (.ireturn, 1) := dk_172 (dk_at dksX5_isName_2 7 rfl rfl)
def dkwX5_takesName_2 : List UInt8 := [28, 79, 42, 3, 181, 0, 180, 177]
abbrev dktX5_takesName_2 : List UInt8 := dkwX5_takesName_2 ++ []
def dkwX5_takesName_1 : List UInt8 := [16, 8, 27, 104, 29, 96, 42, 180, 0, 47, 29, 51, 79, 132, 3, 1, 167, 255, 228, 42, 180, 0, 127, 27]
abbrev dktX5_takesName_1 : List UInt8 := dkwX5_takesName_1 ++ dktX5_takesName_2
def dkwX5_takesName_0 : List UInt8 := [42, 180, 0, 121, 27, 42, 180, 0, 180, 79, 3, 62, 29, 42, 180, 0, 180, 162, 0, 26, 42, 180, 0, 124]
abbrev dktX5_takesName_0 : List UInt8 := dkwX5_takesName_0 ++ dktX5_takesName_1
theorem dksX5_takesName_0 : cX5_takesName.data.toList.drop 0 = dktX5_takesName_0 := by decide +kernel
theorem dksX5_takesName_1 : cX5_takesName.data.toList.drop 24 = dktX5_takesName_1 := dk_seg dksX5_takesName_0 24 rfl rfl
theorem dksX5_takesName_2 : cX5_takesName.data.toList.drop 48 = dktX5_takesName_2 := dk_seg dksX5_takesName_1 24 rfl rfl
theorem dX5_takesName_0 : decode cX5_takesName 0 = .ok (.aload_n 0, 1) := dk_42 (dk_at dksX5_takesName_0 0 rfl rfl)
theorem dX5_takesName_1 : decode cX5_takesName 1 = .ok (.getfield 121, 3) := dk_180 0 121 (dk_at dksX5_takesName_0 1 rfl rfl)
theorem dX5_takesName_4 : decode cX5_takesName 4 = .ok (.iload_n 1, 1) := dk_27 (dk_at dksX5_takesName_0 4 rfl rfl)
theorem dX5_takesName_5 : decode cX5_takesName 5 = .ok (.aload_n 0, 1) := dk_42 (dk_at dksX5_takesName_0 5 rfl rfl)
theorem dX5_takesName_6 : decode cX5_takesName 6 = .ok (.getfield 180, 3) := dk_180 0 180 (dk_at dksX5_takesName_0 6 rfl rfl)
theorem dX5_takesName_9 : decode cX5_takesName 9 = .ok (.iastore, 1) := dk_79 (dk_at dksX5_takesName_0 9 rfl rfl)
theorem dX5_takesName_10 : decode cX5_takesName 10 = .ok (.iconst 0, 1) := dk_3 (dk_at dksX5_takesName_0 10 rfl rfl)
theorem dX5_takesName_11 : decode cX5_takesName 11 = .ok (.istore_n 3, 1) := dk_62 (dk_at dksX5_takesName_0 11 rfl rfl)
theorem dX5_takesName_12 : decode cX5_takesName 12 = .ok (.iload_n 3, 1) := dk_29 (dk_at dksX5_takesName_0 12 rfl rfl)
theorem dX5_takesName_13 : decode cX5_takesName 13 = .ok (.aload_n 0, 1) := dk_42 (dk_at dksX5_takesName_0 13 rfl rfl)
theorem dX5_takesName_14 : decode cX5_takesName 14 = .ok (.getfield 180, 3) := dk_180 0 180 (dk_at dksX5_takesName_0 14 rfl rfl)
theorem dX5_takesName_17 : decode cX5_takesName 17 = .ok (.if_icmp .ge 26, 3) := dk_162 0 26 (dk_at dksX5_takesName_0 17 rfl rfl)
theorem dX5_takesName_20 : decode cX5_takesName 20 = .ok (.aload_n 0, 1) := dk_42 (dk_at dksX5_takesName_0 20 rfl rfl)
theorem dX5_takesName_21 : decode cX5_takesName 21 = .ok (.getfield 124, 3) := dk_180 0 124 (dk_at dksX5_takesName_0 21 rfl rfl)
theorem dX5_takesName_24 : decode cX5_takesName 24 = .ok (.bipush 8, 2) := dk_16 8 (dk_at dksX5_takesName_1 0 rfl rfl)
theorem dX5_takesName_26 : decode cX5_takesName 26 = .ok (.iload_n 1, 1) := dk_27 (dk_at dksX5_takesName_1 2 rfl rfl)
theorem dX5_takesName_27 : decode cX5_takesName 27 = .ok (.imul, 1) := dk_104 (dk_at dksX5_takesName_1 3 rfl rfl)
theorem dX5_takesName_28 : decode cX5_takesName 28 = .ok (.iload_n 3, 1) := dk_29 (dk_at dksX5_takesName_1 4 rfl rfl)
theorem dX5_takesName_29 : decode cX5_takesName 29 = .ok (.iadd, 1) := dk_96 (dk_at dksX5_takesName_1 5 rfl rfl)
theorem dX5_takesName_30 : decode cX5_takesName 30 = .ok (.aload_n 0, 1) := dk_42 (dk_at dksX5_takesName_1 6 rfl rfl)
theorem dX5_takesName_31 : decode cX5_takesName 31 = .ok (.getfield 47, 3) := dk_180 0 47 (dk_at dksX5_takesName_1 7 rfl rfl)
theorem dX5_takesName_34 : decode cX5_takesName 34 = .ok (.iload_n 3, 1) := dk_29 (dk_at dksX5_takesName_1 10 rfl rfl)
theorem dX5_takesName_35 : decode cX5_takesName 35 = .ok (.baload, 1) := dk_51 (dk_at dksX5_takesName_1 11 rfl rfl)
theorem dX5_takesName_36 : decode cX5_takesName 36 = .ok (.iastore, 1) := dk_79 (dk_at dksX5_takesName_1 12 rfl rfl)
theorem dX5_takesName_37 : decode cX5_takesName 37 = .ok (.iinc 3 1, 3) := dk_132 3 1 (dk_at dksX5_takesName_1 13 rfl rfl)
theorem dX5_takesName_40 : decode cX5_takesName 40 = .ok (.goto (-28), 3) := dk_167 255 228 (dk_at dksX5_takesName_1 16 rfl rfl)
theorem dX5_takesName_43 : decode cX5_takesName 43 = .ok (.aload_n 0, 1) := dk_42 (dk_at dksX5_takesName_1 19 rfl rfl)
theorem dX5_takesName_44 : decode cX5_takesName 44 = .ok (.getfield 127, 3) := dk_180 0 127 (dk_at dksX5_takesName_1 20 rfl rfl)
theorem dX5_takesName_47 : decode cX5_takesName 47 = .ok (.iload_n 1, 1) := dk_27 (dk_at dksX5_takesName_1 23 rfl rfl)
theorem dX5_takesName_48 : decode cX5_takesName 48 = .ok (.iload_n 2, 1) := dk_28 (dk_at dksX5_takesName_2 0 rfl rfl)
theorem dX5_takesName_49 : decode cX5_takesName 49 = .ok (.iastore, 1) := dk_79 (dk_at dksX5_takesName_2 1 rfl rfl)
theorem dX5_takesName_50 : decode cX5_takesName 50 = .ok (.aload_n 0, 1) := dk_42 (dk_at dksX5_takesName_2 2 rfl rfl)
theorem dX5_takesName_51 : decode cX5_takesName 51 = .ok (.iconst 0, 1) := dk_3 (dk_at dksX5_takesName_2 3 rfl rfl)
theorem dX5_takesName_52 : decode cX5_takesName 52 = .ok (.putfield 180, 3) := dk_181 0 180 (dk_at dksX5_takesName_2 4 rfl rfl)
theorem dX5_takesName_55 : decode cX5_takesName 55 = .ok (.return_, 1) := dk_177 (dk_at dksX5_takesName_2 7 rfl rfl)
def dkwX5_away_4 : List UInt8 := [159, 0, 5, 3, 172, 25, 4, 28, 42, 180, 0, 173, 79, 4, 172]
abbrev dktX5_away_4 : List UInt8 := dkwX5_away_4 ++ []
def dkwX5_away_3 : List UInt8 := [160, 0, 10, 42, 180, 0, 91, 167, 0, 7, 42, 180, 0, 133, 58, 4, 25, 4, 28, 46, 18, 255]
abbrev dktX5_away_3 : List UInt8 := dkwX5_away_3 ++ dktX5_away_4
def dkwX5_away_2 : List UInt8 := [100, 184, 0, 169, 154, 0, 5, 3, 172, 27, 154, 0, 10, 42, 180, 0, 17, 167, 0, 19, 27, 4]
abbrev dktX5_away_2 : List UInt8 := dkwX5_away_2 ++ dktX5_away_3
def dkwX5_away_1 : List UInt8 := [180, 1, 48, 167, 0, 16, 27, 5, 160, 0, 10, 42, 180, 1, 127, 167, 0, 4, 3, 62, 28, 3, 29, 4]
abbrev dktX5_away_1 : List UInt8 := dkwX5_away_1 ++ dktX5_away_2
def dkwX5_away_0 : List UInt8 := [42, 3, 181, 0, 1, 27, 154, 0, 10, 42, 180, 0, 243, 167, 0, 28, 27, 4, 160, 0, 10, 42]
abbrev dktX5_away_0 : List UInt8 := dkwX5_away_0 ++ dktX5_away_1
theorem dksX5_away_0 : cX5_away.data.toList.drop 0 = dktX5_away_0 := by decide +kernel
theorem dksX5_away_1 : cX5_away.data.toList.drop 22 = dktX5_away_1 := dk_seg dksX5_away_0 22 rfl rfl
theorem dksX5_away_2 : cX5_away.data.toList.drop 46 = dktX5_away_2 := dk_seg dksX5_away_1 24 rfl rfl
theorem dksX5_away_3 : cX5_away.data.toList.drop 68 = dktX5_away_3 := dk_seg dksX5_away_2 22 rfl rfl
theorem dksX5_away_4 : cX5_away.data.toList.drop 90 = dktX5_away_4 := dk_seg dksX5_away_3 22 rfl rfl
theorem dX5_away_0 : decode cX5_away 0 = .ok (.aload_n 0, 1) := dk_42 (dk_at dksX5_away_0 0 rfl rfl)
theorem dX5_away_1 : decode cX5_away 1 = .ok (.iconst 0, 1) := dk_3 (dk_at dksX5_away_0 1 rfl rfl)
theorem dX5_away_2 : decode cX5_away 2 = .ok (.putfield 1, 3) := dk_181 0 1 (dk_at dksX5_away_0 2 rfl rfl)
theorem dX5_away_5 : decode cX5_away 5 = .ok (.iload_n 1, 1) := dk_27 (dk_at dksX5_away_0 5 rfl rfl)
theorem dX5_away_6 : decode cX5_away 6 = .ok (.ifCond .ne 10, 3) := dk_154 0 10 (dk_at dksX5_away_0 6 rfl rfl)
theorem dX5_away_9 : decode cX5_away 9 = .ok (.aload_n 0, 1) := dk_42 (dk_at dksX5_away_0 9 rfl rfl)
theorem dX5_away_10 : decode cX5_away 10 = .ok (.getfield 243, 3) := dk_180 0 243 (dk_at dksX5_away_0 10 rfl rfl)
theorem dX5_away_13 : decode cX5_away 13 = .ok (.goto 28, 3) := dk_167 0 28 (dk_at dksX5_away_0 13 rfl rfl)
theorem dX5_away_16 : decode cX5_away 16 = .ok (.iload_n 1, 1) := dk_27 (dk_at dksX5_away_0 16 rfl rfl)
theorem dX5_away_17 : decode cX5_away 17 = .ok (.iconst 1, 1) := dk_4 (dk_at dksX5_away_0 17 rfl rfl)
theorem dX5_away_18 : decode cX5_away 18 = .ok (.if_icmp .ne 10, 3) := dk_160 0 10 (dk_at dksX5_away_0 18 rfl rfl)
theorem dX5_away_21 : decode cX5_away 21 = .ok (.aload_n 0, 1) := dk_42 (dk_at dksX5_away_0 21 rfl rfl)
theorem dX5_away_22 : decode cX5_away 22 = .ok (.getfield 304, 3) := dk_180 1 48 (dk_at dksX5_away_1 0 rfl rfl)
theorem dX5_away_25 : decode cX5_away 25 = .ok (.goto 16, 3) := dk_167 0 16 (dk_at dksX5_away_1 3 rfl rfl)
theorem dX5_away_28 : decode cX5_away 28 = .ok (.iload_n 1, 1) := dk_27 (dk_at dksX5_away_1 6 rfl rfl)
theorem dX5_away_29 : decode cX5_away 29 = .ok (.iconst 2, 1) := dk_5 (dk_at dksX5_away_1 7 rfl rfl)
theorem dX5_away_30 : decode cX5_away 30 = .ok (.if_icmp .ne 10, 3) := dk_160 0 10 (dk_at dksX5_away_1 8 rfl rfl)
theorem dX5_away_33 : decode cX5_away 33 = .ok (.aload_n 0, 1) := dk_42 (dk_at dksX5_away_1 11 rfl rfl)
theorem dX5_away_34 : decode cX5_away 34 = .ok (.getfield 383, 3) := dk_180 1 127 (dk_at dksX5_away_1 12 rfl rfl)
theorem dX5_away_37 : decode cX5_away 37 = .ok (.goto 4, 3) := dk_167 0 4 (dk_at dksX5_away_1 15 rfl rfl)
theorem dX5_away_40 : decode cX5_away 40 = .ok (.iconst 0, 1) := dk_3 (dk_at dksX5_away_1 18 rfl rfl)
theorem dX5_away_41 : decode cX5_away 41 = .ok (.istore_n 3, 1) := dk_62 (dk_at dksX5_away_1 19 rfl rfl)
theorem dX5_away_42 : decode cX5_away 42 = .ok (.iload_n 2, 1) := dk_28 (dk_at dksX5_away_1 20 rfl rfl)
theorem dX5_away_43 : decode cX5_away 43 = .ok (.iconst 0, 1) := dk_3 (dk_at dksX5_away_1 21 rfl rfl)
theorem dX5_away_44 : decode cX5_away 44 = .ok (.iload_n 3, 1) := dk_29 (dk_at dksX5_away_1 22 rfl rfl)
theorem dX5_away_45 : decode cX5_away 45 = .ok (.iconst 1, 1) := dk_4 (dk_at dksX5_away_1 23 rfl rfl)
theorem dX5_away_46 : decode cX5_away 46 = .ok (.isub, 1) := dk_100 (dk_at dksX5_away_2 0 rfl rfl)
theorem dX5_away_47 : decode cX5_away 47 = .ok (.invokestatic 169, 3) := dk_184 0 169 (dk_at dksX5_away_2 1 rfl rfl)
theorem dX5_away_50 : decode cX5_away 50 = .ok (.ifCond .ne 5, 3) := dk_154 0 5 (dk_at dksX5_away_2 4 rfl rfl)
theorem dX5_away_53 : decode cX5_away 53 = .ok (.iconst 0, 1) := dk_3 (dk_at dksX5_away_2 7 rfl rfl)
theorem dX5_away_54 : decode cX5_away 54 = .ok (.ireturn, 1) := dk_172 (dk_at dksX5_away_2 8 rfl rfl)
theorem dX5_away_55 : decode cX5_away 55 = .ok (.iload_n 1, 1) := dk_27 (dk_at dksX5_away_2 9 rfl rfl)
theorem dX5_away_56 : decode cX5_away 56 = .ok (.ifCond .ne 10, 3) := dk_154 0 10 (dk_at dksX5_away_2 10 rfl rfl)
theorem dX5_away_59 : decode cX5_away 59 = .ok (.aload_n 0, 1) := dk_42 (dk_at dksX5_away_2 13 rfl rfl)
theorem dX5_away_60 : decode cX5_away 60 = .ok (.getfield 17, 3) := dk_180 0 17 (dk_at dksX5_away_2 14 rfl rfl)
theorem dX5_away_63 : decode cX5_away 63 = .ok (.goto 19, 3) := dk_167 0 19 (dk_at dksX5_away_2 17 rfl rfl)
theorem dX5_away_66 : decode cX5_away 66 = .ok (.iload_n 1, 1) := dk_27 (dk_at dksX5_away_2 20 rfl rfl)
theorem dX5_away_67 : decode cX5_away 67 = .ok (.iconst 1, 1) := dk_4 (dk_at dksX5_away_2 21 rfl rfl)
theorem dX5_away_68 : decode cX5_away 68 = .ok (.if_icmp .ne 10, 3) := dk_160 0 10 (dk_at dksX5_away_3 0 rfl rfl)
theorem dX5_away_71 : decode cX5_away 71 = .ok (.aload_n 0, 1) := dk_42 (dk_at dksX5_away_3 3 rfl rfl)
theorem dX5_away_72 : decode cX5_away 72 = .ok (.getfield 91, 3) := dk_180 0 91 (dk_at dksX5_away_3 4 rfl rfl)
theorem dX5_away_75 : decode cX5_away 75 = .ok (.goto 7, 3) := dk_167 0 7 (dk_at dksX5_away_3 7 rfl rfl)
theorem dX5_away_78 : decode cX5_away 78 = .ok (.aload_n 0, 1) := dk_42 (dk_at dksX5_away_3 10 rfl rfl)
theorem dX5_away_79 : decode cX5_away 79 = .ok (.getfield 133, 3) := dk_180 0 133 (dk_at dksX5_away_3 11 rfl rfl)
theorem dX5_away_82 : decode cX5_away 82 = .ok (.astore 4, 2) := dk_58 4 (dk_at dksX5_away_3 14 rfl rfl)
theorem dX5_away_84 : decode cX5_away 84 = .ok (.aload 4, 2) := dk_25 4 (dk_at dksX5_away_3 16 rfl rfl)
theorem dX5_away_86 : decode cX5_away 86 = .ok (.iload_n 2, 1) := dk_28 (dk_at dksX5_away_3 18 rfl rfl)
theorem dX5_away_87 : decode cX5_away 87 = .ok (.iaload, 1) := dk_46 (dk_at dksX5_away_3 19 rfl rfl)
theorem dX5_away_88 : decode cX5_away 88 = .ok (.ldc 255, 2) := dk_18 255 (dk_at dksX5_away_3 20 rfl rfl)
theorem dX5_away_90 : decode cX5_away 90 = .ok (.if_icmp .eq 5, 3) := dk_159 0 5 (dk_at dksX5_away_4 0 rfl rfl)
theorem dX5_away_93 : decode cX5_away 93 = .ok (.iconst 0, 1) := dk_3 (dk_at dksX5_away_4 3 rfl rfl)
theorem dX5_away_94 : decode cX5_away 94 = .ok (.ireturn, 1) := dk_172 (dk_at dksX5_away_4 4 rfl rfl)
theorem dX5_away_95 : decode cX5_away 95 = .ok (.aload 4, 2) := dk_25 4 (dk_at dksX5_away_4 5 rfl rfl)
theorem dX5_away_97 : decode cX5_away 97 = .ok (.iload_n 2, 1) := dk_28 (dk_at dksX5_away_4 7 rfl rfl)
theorem dX5_away_98 : decode cX5_away 98 = .ok (.aload_n 0, 1) := dk_42 (dk_at dksX5_away_4 8 rfl rfl)
theorem dX5_away_99 : decode cX5_away 99 = .ok (.getfield 173, 3) := dk_180 0 173 (dk_at dksX5_away_4 9 rfl rfl)
theorem dX5_away_102 : decode cX5_away 102 = .ok (.iastore, 1) := dk_79 (dk_at dksX5_away_4 12 rfl rfl)
theorem dX5_away_103 : decode cX5_away 103 = .ok (.iconst 1, 1) := dk_4 (dk_at dksX5_away_4 13 rfl rfl)
theorem dX5_away_104 : decode cX5_away 104 = .ok (.ireturn, 1) := dk_172 (dk_at dksX5_away_4 14 rfl rfl)
def dkwX5_spelled_1 : List UInt8 := [154, 0, 5, 2, 172, 42, 27, 28, 182, 1, 145, 42, 180, 0, 139, 27, 46, 172]
abbrev dktX5_spelled_1 : List UInt8 := dkwX5_spelled_1 ++ []
def dkwX5_spelled_0 : List UInt8 := [42, 3, 181, 0, 1, 27, 3, 42, 180, 1, 127, 4, 100, 184, 0, 169, 153, 0, 11, 42, 28, 182, 1, 42]
abbrev dktX5_spelled_0 : List UInt8 := dkwX5_spelled_0 ++ dktX5_spelled_1
theorem dksX5_spelled_0 : cX5_spelled.data.toList.drop 0 = dktX5_spelled_0 := by decide +kernel
theorem dksX5_spelled_1 : cX5_spelled.data.toList.drop 24 = dktX5_spelled_1 := dk_seg dksX5_spelled_0 24 rfl rfl
theorem dX5_spelled_0 : decode cX5_spelled 0 = .ok (.aload_n 0, 1) := dk_42 (dk_at dksX5_spelled_0 0 rfl rfl)
theorem dX5_spelled_1 : decode cX5_spelled 1 = .ok (.iconst 0, 1) := dk_3 (dk_at dksX5_spelled_0 1 rfl rfl)
theorem dX5_spelled_2 : decode cX5_spelled 2 = .ok (.putfield 1, 3) := dk_181 0 1 (dk_at dksX5_spelled_0 2 rfl rfl)
theorem dX5_spelled_5 : decode cX5_spelled 5 = .ok (.iload_n 1, 1) := dk_27 (dk_at dksX5_spelled_0 5 rfl rfl)
theorem dX5_spelled_6 : decode cX5_spelled 6 = .ok (.iconst 0, 1) := dk_3 (dk_at dksX5_spelled_0 6 rfl rfl)
theorem dX5_spelled_7 : decode cX5_spelled 7 = .ok (.aload_n 0, 1) := dk_42 (dk_at dksX5_spelled_0 7 rfl rfl)
theorem dX5_spelled_8 : decode cX5_spelled 8 = .ok (.getfield 383, 3) := dk_180 1 127 (dk_at dksX5_spelled_0 8 rfl rfl)
theorem dX5_spelled_11 : decode cX5_spelled 11 = .ok (.iconst 1, 1) := dk_4 (dk_at dksX5_spelled_0 11 rfl rfl)
theorem dX5_spelled_12 : decode cX5_spelled 12 = .ok (.isub, 1) := dk_100 (dk_at dksX5_spelled_0 12 rfl rfl)
theorem dX5_spelled_13 : decode cX5_spelled 13 = .ok (.invokestatic 169, 3) := dk_184 0 169 (dk_at dksX5_spelled_0 13 rfl rfl)
theorem dX5_spelled_16 : decode cX5_spelled 16 = .ok (.ifCond .eq 11, 3) := dk_153 0 11 (dk_at dksX5_spelled_0 16 rfl rfl)
theorem dX5_spelled_19 : decode cX5_spelled 19 = .ok (.aload_n 0, 1) := dk_42 (dk_at dksX5_spelled_0 19 rfl rfl)
theorem dX5_spelled_20 : decode cX5_spelled 20 = .ok (.iload_n 2, 1) := dk_28 (dk_at dksX5_spelled_0 20 rfl rfl)
theorem dX5_spelled_21 : decode cX5_spelled 21 = .ok (.invokevirtual 298, 3) := dk_182 1 42 (dk_at dksX5_spelled_0 21 rfl rfl)
theorem dX5_spelled_24 : decode cX5_spelled 24 = .ok (.ifCond .ne 5, 3) := dk_154 0 5 (dk_at dksX5_spelled_1 0 rfl rfl)
theorem dX5_spelled_27 : decode cX5_spelled 27 = .ok (.iconst (-1), 1) := dk_2 (dk_at dksX5_spelled_1 3 rfl rfl)
theorem dX5_spelled_28 : decode cX5_spelled 28 = .ok (.ireturn, 1) := dk_172 (dk_at dksX5_spelled_1 4 rfl rfl)
theorem dX5_spelled_29 : decode cX5_spelled 29 = .ok (.aload_n 0, 1) := dk_42 (dk_at dksX5_spelled_1 5 rfl rfl)
theorem dX5_spelled_30 : decode cX5_spelled 30 = .ok (.iload_n 1, 1) := dk_27 (dk_at dksX5_spelled_1 6 rfl rfl)
theorem dX5_spelled_31 : decode cX5_spelled 31 = .ok (.iload_n 2, 1) := dk_28 (dk_at dksX5_spelled_1 7 rfl rfl)
theorem dX5_spelled_32 : decode cX5_spelled 32 = .ok (.invokevirtual 401, 3) := dk_182 1 145 (dk_at dksX5_spelled_1 8 rfl rfl)
theorem dX5_spelled_35 : decode cX5_spelled 35 = .ok (.aload_n 0, 1) := dk_42 (dk_at dksX5_spelled_1 11 rfl rfl)
theorem dX5_spelled_36 : decode cX5_spelled 36 = .ok (.getfield 139, 3) := dk_180 0 139 (dk_at dksX5_spelled_1 12 rfl rfl)
theorem dX5_spelled_39 : decode cX5_spelled 39 = .ok (.iload_n 1, 1) := dk_27 (dk_at dksX5_spelled_1 15 rfl rfl)
theorem dX5_spelled_40 : decode cX5_spelled 40 = .ok (.iaload, 1) := dk_46 (dk_at dksX5_spelled_1 16 rfl rfl)
theorem dX5_spelled_41 : decode cX5_spelled 41 = .ok (.ireturn, 1) := dk_172 (dk_at dksX5_spelled_1 17 rfl rfl)
def dkwX5_spells_9 : List UInt8 := [167, 255, 102, 177]
abbrev dktX5_spells_9 : List UInt8 := dkwX5_spells_9 ++ []
def dkwX5_spells_8 : List UInt8 := [46, 182, 1, 142, 154, 0, 17, 42, 27, 42, 180, 0, 142, 21, 4, 46, 21, 7, 182, 1, 136, 132, 4, 1]
abbrev dktX5_spells_8 : List UInt8 := dkwX5_spells_8 ++ dktX5_spells_9
def dkwX5_spells_7 : List UInt8 := [182, 1, 139, 54, 7, 21, 7, 2, 159, 0, 37, 21, 6, 153, 0, 18, 42, 29, 42, 180, 0, 142, 21, 4]
abbrev dktX5_spells_7 : List UInt8 := dkwX5_spells_7 ++ dktX5_spells_8
def dkwX5_spells_6 : List UInt8 := [46, 184, 1, 22, 2, 160, 0, 7, 4, 167, 0, 4, 3, 54, 6, 42, 21, 4, 42, 180, 0, 121, 27, 46]
abbrev dktX5_spells_6 : List UInt8 := dkwX5_spells_6 ++ dktX5_spells_7
def dkwX5_spells_5 : List UInt8 := [167, 0, 93, 21, 4, 4, 96, 42, 180, 0, 121, 27, 46, 159, 0, 19, 42, 180, 0, 142, 21, 4, 4, 96]
abbrev dktX5_spells_5 : List UInt8 := dkwX5_spells_5 ++ dktX5_spells_6
def dkwX5_spells_4 : List UInt8 := [180, 0, 142, 21, 4, 4, 100, 46, 184, 1, 22, 2, 159, 0, 104, 42, 27, 3, 21, 5, 182, 1, 136]
abbrev dktX5_spells_4 : List UInt8 := dkwX5_spells_4 ++ dktX5_spells_5
def dkwX5_spells_3 : List UInt8 := [42, 180, 0, 142, 21, 4, 46, 184, 1, 22, 54, 5, 21, 5, 2, 159, 0, 35, 21, 4, 153, 0, 19, 42]
abbrev dktX5_spells_3 : List UInt8 := dkwX5_spells_3 ++ dktX5_spells_4
def dkwX5_spells_2 : List UInt8 := [182, 1, 133, 79, 132, 4, 1, 167, 255, 218, 3, 54, 4, 21, 4, 42, 180, 0, 121, 27, 46, 162, 0, 149]
abbrev dktX5_spells_2 : List UInt8 := dkwX5_spells_2 ++ dktX5_spells_3
def dkwX5_spells_1 : List UInt8 := [162, 0, 33, 42, 180, 0, 142, 21, 4, 42, 29, 42, 180, 0, 124, 16, 8, 27, 104, 21, 4, 96, 46]
abbrev dktX5_spells_1 : List UInt8 := dkwX5_spells_1 ++ dktX5_spells_2
def dkwX5_spells_0 : List UInt8 := [42, 28, 182, 1, 70, 62, 42, 180, 0, 139, 27, 3, 79, 3, 54, 4, 21, 4, 42, 180, 0, 121, 27, 46]
abbrev dktX5_spells_0 : List UInt8 := dkwX5_spells_0 ++ dktX5_spells_1
theorem dksX5_spells_0 : cX5_spells.data.toList.drop 0 = dktX5_spells_0 := by decide +kernel
theorem dksX5_spells_1 : cX5_spells.data.toList.drop 24 = dktX5_spells_1 := dk_seg dksX5_spells_0 24 rfl rfl
theorem dksX5_spells_2 : cX5_spells.data.toList.drop 47 = dktX5_spells_2 := dk_seg dksX5_spells_1 23 rfl rfl
theorem dksX5_spells_3 : cX5_spells.data.toList.drop 71 = dktX5_spells_3 := dk_seg dksX5_spells_2 24 rfl rfl
theorem dksX5_spells_4 : cX5_spells.data.toList.drop 95 = dktX5_spells_4 := dk_seg dksX5_spells_3 24 rfl rfl
theorem dksX5_spells_5 : cX5_spells.data.toList.drop 118 = dktX5_spells_5 := dk_seg dksX5_spells_4 23 rfl rfl
theorem dksX5_spells_6 : cX5_spells.data.toList.drop 142 = dktX5_spells_6 := dk_seg dksX5_spells_5 24 rfl rfl
theorem dksX5_spells_7 : cX5_spells.data.toList.drop 166 = dktX5_spells_7 := dk_seg dksX5_spells_6 24 rfl rfl
theorem dksX5_spells_8 : cX5_spells.data.toList.drop 190 = dktX5_spells_8 := dk_seg dksX5_spells_7 24 rfl rfl
theorem dksX5_spells_9 : cX5_spells.data.toList.drop 214 = dktX5_spells_9 := dk_seg dksX5_spells_8 24 rfl rfl
theorem dX5_spells_0 : decode cX5_spells 0 = .ok (.aload_n 0, 1) := dk_42 (dk_at dksX5_spells_0 0 rfl rfl)
theorem dX5_spells_1 : decode cX5_spells 1 = .ok (.iload_n 2, 1) := dk_28 (dk_at dksX5_spells_0 1 rfl rfl)
theorem dX5_spells_2 : decode cX5_spells 2 = .ok (.invokevirtual 326, 3) := dk_182 1 70 (dk_at dksX5_spells_0 2 rfl rfl)
theorem dX5_spells_5 : decode cX5_spells 5 = .ok (.istore_n 3, 1) := dk_62 (dk_at dksX5_spells_0 5 rfl rfl)
theorem dX5_spells_6 : decode cX5_spells 6 = .ok (.aload_n 0, 1) := dk_42 (dk_at dksX5_spells_0 6 rfl rfl)
theorem dX5_spells_7 : decode cX5_spells 7 = .ok (.getfield 139, 3) := dk_180 0 139 (dk_at dksX5_spells_0 7 rfl rfl)
theorem dX5_spells_10 : decode cX5_spells 10 = .ok (.iload_n 1, 1) := dk_27 (dk_at dksX5_spells_0 10 rfl rfl)
theorem dX5_spells_11 : decode cX5_spells 11 = .ok (.iconst 0, 1) := dk_3 (dk_at dksX5_spells_0 11 rfl rfl)
theorem dX5_spells_12 : decode cX5_spells 12 = .ok (.iastore, 1) := dk_79 (dk_at dksX5_spells_0 12 rfl rfl)
theorem dX5_spells_13 : decode cX5_spells 13 = .ok (.iconst 0, 1) := dk_3 (dk_at dksX5_spells_0 13 rfl rfl)
theorem dX5_spells_14 : decode cX5_spells 14 = .ok (.istore 4, 2) := dk_54 4 (dk_at dksX5_spells_0 14 rfl rfl)
theorem dX5_spells_16 : decode cX5_spells 16 = .ok (.iload 4, 2) := dk_21 4 (dk_at dksX5_spells_0 16 rfl rfl)
theorem dX5_spells_18 : decode cX5_spells 18 = .ok (.aload_n 0, 1) := dk_42 (dk_at dksX5_spells_0 18 rfl rfl)
theorem dX5_spells_19 : decode cX5_spells 19 = .ok (.getfield 121, 3) := dk_180 0 121 (dk_at dksX5_spells_0 19 rfl rfl)
theorem dX5_spells_22 : decode cX5_spells 22 = .ok (.iload_n 1, 1) := dk_27 (dk_at dksX5_spells_0 22 rfl rfl)
theorem dX5_spells_23 : decode cX5_spells 23 = .ok (.iaload, 1) := dk_46 (dk_at dksX5_spells_0 23 rfl rfl)
theorem dX5_spells_24 : decode cX5_spells 24 = .ok (.if_icmp .ge 33, 3) := dk_162 0 33 (dk_at dksX5_spells_1 0 rfl rfl)
theorem dX5_spells_27 : decode cX5_spells 27 = .ok (.aload_n 0, 1) := dk_42 (dk_at dksX5_spells_1 3 rfl rfl)
theorem dX5_spells_28 : decode cX5_spells 28 = .ok (.getfield 142, 3) := dk_180 0 142 (dk_at dksX5_spells_1 4 rfl rfl)
theorem dX5_spells_31 : decode cX5_spells 31 = .ok (.iload 4, 2) := dk_21 4 (dk_at dksX5_spells_1 7 rfl rfl)
theorem dX5_spells_33 : decode cX5_spells 33 = .ok (.aload_n 0, 1) := dk_42 (dk_at dksX5_spells_1 9 rfl rfl)
theorem dX5_spells_34 : decode cX5_spells 34 = .ok (.iload_n 3, 1) := dk_29 (dk_at dksX5_spells_1 10 rfl rfl)
theorem dX5_spells_35 : decode cX5_spells 35 = .ok (.aload_n 0, 1) := dk_42 (dk_at dksX5_spells_1 11 rfl rfl)
theorem dX5_spells_36 : decode cX5_spells 36 = .ok (.getfield 124, 3) := dk_180 0 124 (dk_at dksX5_spells_1 12 rfl rfl)
theorem dX5_spells_39 : decode cX5_spells 39 = .ok (.bipush 8, 2) := dk_16 8 (dk_at dksX5_spells_1 15 rfl rfl)
theorem dX5_spells_41 : decode cX5_spells 41 = .ok (.iload_n 1, 1) := dk_27 (dk_at dksX5_spells_1 17 rfl rfl)
theorem dX5_spells_42 : decode cX5_spells 42 = .ok (.imul, 1) := dk_104 (dk_at dksX5_spells_1 18 rfl rfl)
theorem dX5_spells_43 : decode cX5_spells 43 = .ok (.iload 4, 2) := dk_21 4 (dk_at dksX5_spells_1 19 rfl rfl)
theorem dX5_spells_45 : decode cX5_spells 45 = .ok (.iadd, 1) := dk_96 (dk_at dksX5_spells_1 21 rfl rfl)
theorem dX5_spells_46 : decode cX5_spells 46 = .ok (.iaload, 1) := dk_46 (dk_at dksX5_spells_1 22 rfl rfl)
theorem dX5_spells_47 : decode cX5_spells 47 = .ok (.invokevirtual 389, 3) := dk_182 1 133 (dk_at dksX5_spells_2 0 rfl rfl)
theorem dX5_spells_50 : decode cX5_spells 50 = .ok (.iastore, 1) := dk_79 (dk_at dksX5_spells_2 3 rfl rfl)
theorem dX5_spells_51 : decode cX5_spells 51 = .ok (.iinc 4 1, 3) := dk_132 4 1 (dk_at dksX5_spells_2 4 rfl rfl)
theorem dX5_spells_54 : decode cX5_spells 54 = .ok (.goto (-38), 3) := dk_167 255 218 (dk_at dksX5_spells_2 7 rfl rfl)
theorem dX5_spells_57 : decode cX5_spells 57 = .ok (.iconst 0, 1) := dk_3 (dk_at dksX5_spells_2 10 rfl rfl)
theorem dX5_spells_58 : decode cX5_spells 58 = .ok (.istore 4, 2) := dk_54 4 (dk_at dksX5_spells_2 11 rfl rfl)
theorem dX5_spells_60 : decode cX5_spells 60 = .ok (.iload 4, 2) := dk_21 4 (dk_at dksX5_spells_2 13 rfl rfl)
theorem dX5_spells_62 : decode cX5_spells 62 = .ok (.aload_n 0, 1) := dk_42 (dk_at dksX5_spells_2 15 rfl rfl)
theorem dX5_spells_63 : decode cX5_spells 63 = .ok (.getfield 121, 3) := dk_180 0 121 (dk_at dksX5_spells_2 16 rfl rfl)
theorem dX5_spells_66 : decode cX5_spells 66 = .ok (.iload_n 1, 1) := dk_27 (dk_at dksX5_spells_2 19 rfl rfl)
theorem dX5_spells_67 : decode cX5_spells 67 = .ok (.iaload, 1) := dk_46 (dk_at dksX5_spells_2 20 rfl rfl)
theorem dX5_spells_68 : decode cX5_spells 68 = .ok (.if_icmp .ge 149, 3) := dk_162 0 149 (dk_at dksX5_spells_2 21 rfl rfl)
theorem dX5_spells_71 : decode cX5_spells 71 = .ok (.aload_n 0, 1) := dk_42 (dk_at dksX5_spells_3 0 rfl rfl)
theorem dX5_spells_72 : decode cX5_spells 72 = .ok (.getfield 142, 3) := dk_180 0 142 (dk_at dksX5_spells_3 1 rfl rfl)
theorem dX5_spells_75 : decode cX5_spells 75 = .ok (.iload 4, 2) := dk_21 4 (dk_at dksX5_spells_3 4 rfl rfl)
theorem dX5_spells_77 : decode cX5_spells 77 = .ok (.iaload, 1) := dk_46 (dk_at dksX5_spells_3 6 rfl rfl)
theorem dX5_spells_78 : decode cX5_spells 78 = .ok (.invokestatic 278, 3) := dk_184 1 22 (dk_at dksX5_spells_3 7 rfl rfl)
theorem dX5_spells_81 : decode cX5_spells 81 = .ok (.istore 5, 2) := dk_54 5 (dk_at dksX5_spells_3 10 rfl rfl)
theorem dX5_spells_83 : decode cX5_spells 83 = .ok (.iload 5, 2) := dk_21 5 (dk_at dksX5_spells_3 12 rfl rfl)
theorem dX5_spells_85 : decode cX5_spells 85 = .ok (.iconst (-1), 1) := dk_2 (dk_at dksX5_spells_3 14 rfl rfl)
theorem dX5_spells_86 : decode cX5_spells 86 = .ok (.if_icmp .eq 35, 3) := dk_159 0 35 (dk_at dksX5_spells_3 15 rfl rfl)
theorem dX5_spells_89 : decode cX5_spells 89 = .ok (.iload 4, 2) := dk_21 4 (dk_at dksX5_spells_3 18 rfl rfl)
theorem dX5_spells_91 : decode cX5_spells 91 = .ok (.ifCond .eq 19, 3) := dk_153 0 19 (dk_at dksX5_spells_3 20 rfl rfl)
theorem dX5_spells_94 : decode cX5_spells 94 = .ok (.aload_n 0, 1) := dk_42 (dk_at dksX5_spells_3 23 rfl rfl)
theorem dX5_spells_95 : decode cX5_spells 95 = .ok (.getfield 142, 3) := dk_180 0 142 (dk_at dksX5_spells_4 0 rfl rfl)
theorem dX5_spells_98 : decode cX5_spells 98 = .ok (.iload 4, 2) := dk_21 4 (dk_at dksX5_spells_4 3 rfl rfl)
theorem dX5_spells_100 : decode cX5_spells 100 = .ok (.iconst 1, 1) := dk_4 (dk_at dksX5_spells_4 5 rfl rfl)
theorem dX5_spells_101 : decode cX5_spells 101 = .ok (.isub, 1) := dk_100 (dk_at dksX5_spells_4 6 rfl rfl)
theorem dX5_spells_102 : decode cX5_spells 102 = .ok (.iaload, 1) := dk_46 (dk_at dksX5_spells_4 7 rfl rfl)
theorem dX5_spells_103 : decode cX5_spells 103 = .ok (.invokestatic 278, 3) := dk_184 1 22 (dk_at dksX5_spells_4 8 rfl rfl)
theorem dX5_spells_106 : decode cX5_spells 106 = .ok (.iconst (-1), 1) := dk_2 (dk_at dksX5_spells_4 11 rfl rfl)
theorem dX5_spells_107 : decode cX5_spells 107 = .ok (.if_icmp .eq 104, 3) := dk_159 0 104 (dk_at dksX5_spells_4 12 rfl rfl)
theorem dX5_spells_110 : decode cX5_spells 110 = .ok (.aload_n 0, 1) := dk_42 (dk_at dksX5_spells_4 15 rfl rfl)
theorem dX5_spells_111 : decode cX5_spells 111 = .ok (.iload_n 1, 1) := dk_27 (dk_at dksX5_spells_4 16 rfl rfl)
theorem dX5_spells_112 : decode cX5_spells 112 = .ok (.iconst 0, 1) := dk_3 (dk_at dksX5_spells_4 17 rfl rfl)
theorem dX5_spells_113 : decode cX5_spells 113 = .ok (.iload 5, 2) := dk_21 5 (dk_at dksX5_spells_4 18 rfl rfl)
theorem dX5_spells_115 : decode cX5_spells 115 = .ok (.invokevirtual 392, 3) := dk_182 1 136 (dk_at dksX5_spells_4 20 rfl rfl)
theorem dX5_spells_118 : decode cX5_spells 118 = .ok (.goto 93, 3) := dk_167 0 93 (dk_at dksX5_spells_5 0 rfl rfl)
theorem dX5_spells_121 : decode cX5_spells 121 = .ok (.iload 4, 2) := dk_21 4 (dk_at dksX5_spells_5 3 rfl rfl)
theorem dX5_spells_123 : decode cX5_spells 123 = .ok (.iconst 1, 1) := dk_4 (dk_at dksX5_spells_5 5 rfl rfl)
theorem dX5_spells_124 : decode cX5_spells 124 = .ok (.iadd, 1) := dk_96 (dk_at dksX5_spells_5 6 rfl rfl)
theorem dX5_spells_125 : decode cX5_spells 125 = .ok (.aload_n 0, 1) := dk_42 (dk_at dksX5_spells_5 7 rfl rfl)
theorem dX5_spells_126 : decode cX5_spells 126 = .ok (.getfield 121, 3) := dk_180 0 121 (dk_at dksX5_spells_5 8 rfl rfl)
theorem dX5_spells_129 : decode cX5_spells 129 = .ok (.iload_n 1, 1) := dk_27 (dk_at dksX5_spells_5 11 rfl rfl)
theorem dX5_spells_130 : decode cX5_spells 130 = .ok (.iaload, 1) := dk_46 (dk_at dksX5_spells_5 12 rfl rfl)
theorem dX5_spells_131 : decode cX5_spells 131 = .ok (.if_icmp .eq 19, 3) := dk_159 0 19 (dk_at dksX5_spells_5 13 rfl rfl)
theorem dX5_spells_134 : decode cX5_spells 134 = .ok (.aload_n 0, 1) := dk_42 (dk_at dksX5_spells_5 16 rfl rfl)
theorem dX5_spells_135 : decode cX5_spells 135 = .ok (.getfield 142, 3) := dk_180 0 142 (dk_at dksX5_spells_5 17 rfl rfl)
theorem dX5_spells_138 : decode cX5_spells 138 = .ok (.iload 4, 2) := dk_21 4 (dk_at dksX5_spells_5 20 rfl rfl)
theorem dX5_spells_140 : decode cX5_spells 140 = .ok (.iconst 1, 1) := dk_4 (dk_at dksX5_spells_5 22 rfl rfl)
theorem dX5_spells_141 : decode cX5_spells 141 = .ok (.iadd, 1) := dk_96 (dk_at dksX5_spells_5 23 rfl rfl)
theorem dX5_spells_142 : decode cX5_spells 142 = .ok (.iaload, 1) := dk_46 (dk_at dksX5_spells_6 0 rfl rfl)
theorem dX5_spells_143 : decode cX5_spells 143 = .ok (.invokestatic 278, 3) := dk_184 1 22 (dk_at dksX5_spells_6 1 rfl rfl)
theorem dX5_spells_146 : decode cX5_spells 146 = .ok (.iconst (-1), 1) := dk_2 (dk_at dksX5_spells_6 4 rfl rfl)
theorem dX5_spells_147 : decode cX5_spells 147 = .ok (.if_icmp .ne 7, 3) := dk_160 0 7 (dk_at dksX5_spells_6 5 rfl rfl)
theorem dX5_spells_150 : decode cX5_spells 150 = .ok (.iconst 1, 1) := dk_4 (dk_at dksX5_spells_6 8 rfl rfl)
theorem dX5_spells_151 : decode cX5_spells 151 = .ok (.goto 4, 3) := dk_167 0 4 (dk_at dksX5_spells_6 9 rfl rfl)
theorem dX5_spells_154 : decode cX5_spells 154 = .ok (.iconst 0, 1) := dk_3 (dk_at dksX5_spells_6 12 rfl rfl)
theorem dX5_spells_155 : decode cX5_spells 155 = .ok (.istore 6, 2) := dk_54 6 (dk_at dksX5_spells_6 13 rfl rfl)
theorem dX5_spells_157 : decode cX5_spells 157 = .ok (.aload_n 0, 1) := dk_42 (dk_at dksX5_spells_6 15 rfl rfl)
theorem dX5_spells_158 : decode cX5_spells 158 = .ok (.iload 4, 2) := dk_21 4 (dk_at dksX5_spells_6 16 rfl rfl)
theorem dX5_spells_160 : decode cX5_spells 160 = .ok (.aload_n 0, 1) := dk_42 (dk_at dksX5_spells_6 18 rfl rfl)
theorem dX5_spells_161 : decode cX5_spells 161 = .ok (.getfield 121, 3) := dk_180 0 121 (dk_at dksX5_spells_6 19 rfl rfl)
theorem dX5_spells_164 : decode cX5_spells 164 = .ok (.iload_n 1, 1) := dk_27 (dk_at dksX5_spells_6 22 rfl rfl)
theorem dX5_spells_165 : decode cX5_spells 165 = .ok (.iaload, 1) := dk_46 (dk_at dksX5_spells_6 23 rfl rfl)
theorem dX5_spells_166 : decode cX5_spells 166 = .ok (.invokevirtual 395, 3) := dk_182 1 139 (dk_at dksX5_spells_7 0 rfl rfl)
theorem dX5_spells_169 : decode cX5_spells 169 = .ok (.istore 7, 2) := dk_54 7 (dk_at dksX5_spells_7 3 rfl rfl)
theorem dX5_spells_171 : decode cX5_spells 171 = .ok (.iload 7, 2) := dk_21 7 (dk_at dksX5_spells_7 5 rfl rfl)
theorem dX5_spells_173 : decode cX5_spells 173 = .ok (.iconst (-1), 1) := dk_2 (dk_at dksX5_spells_7 7 rfl rfl)
theorem dX5_spells_174 : decode cX5_spells 174 = .ok (.if_icmp .eq 37, 3) := dk_159 0 37 (dk_at dksX5_spells_7 8 rfl rfl)
theorem dX5_spells_177 : decode cX5_spells 177 = .ok (.iload 6, 2) := dk_21 6 (dk_at dksX5_spells_7 11 rfl rfl)
theorem dX5_spells_179 : decode cX5_spells 179 = .ok (.ifCond .eq 18, 3) := dk_153 0 18 (dk_at dksX5_spells_7 13 rfl rfl)
theorem dX5_spells_182 : decode cX5_spells 182 = .ok (.aload_n 0, 1) := dk_42 (dk_at dksX5_spells_7 16 rfl rfl)
theorem dX5_spells_183 : decode cX5_spells 183 = .ok (.iload_n 3, 1) := dk_29 (dk_at dksX5_spells_7 17 rfl rfl)
theorem dX5_spells_184 : decode cX5_spells 184 = .ok (.aload_n 0, 1) := dk_42 (dk_at dksX5_spells_7 18 rfl rfl)
theorem dX5_spells_185 : decode cX5_spells 185 = .ok (.getfield 142, 3) := dk_180 0 142 (dk_at dksX5_spells_7 19 rfl rfl)
theorem dX5_spells_188 : decode cX5_spells 188 = .ok (.iload 4, 2) := dk_21 4 (dk_at dksX5_spells_7 22 rfl rfl)
theorem dX5_spells_190 : decode cX5_spells 190 = .ok (.iaload, 1) := dk_46 (dk_at dksX5_spells_8 0 rfl rfl)
theorem dX5_spells_191 : decode cX5_spells 191 = .ok (.invokevirtual 398, 3) := dk_182 1 142 (dk_at dksX5_spells_8 1 rfl rfl)
theorem dX5_spells_194 : decode cX5_spells 194 = .ok (.ifCond .ne 17, 3) := dk_154 0 17 (dk_at dksX5_spells_8 4 rfl rfl)
theorem dX5_spells_197 : decode cX5_spells 197 = .ok (.aload_n 0, 1) := dk_42 (dk_at dksX5_spells_8 7 rfl rfl)
theorem dX5_spells_198 : decode cX5_spells 198 = .ok (.iload_n 1, 1) := dk_27 (dk_at dksX5_spells_8 8 rfl rfl)
theorem dX5_spells_199 : decode cX5_spells 199 = .ok (.aload_n 0, 1) := dk_42 (dk_at dksX5_spells_8 9 rfl rfl)
theorem dX5_spells_200 : decode cX5_spells 200 = .ok (.getfield 142, 3) := dk_180 0 142 (dk_at dksX5_spells_8 10 rfl rfl)
theorem dX5_spells_203 : decode cX5_spells 203 = .ok (.iload 4, 2) := dk_21 4 (dk_at dksX5_spells_8 13 rfl rfl)
theorem dX5_spells_205 : decode cX5_spells 205 = .ok (.iaload, 1) := dk_46 (dk_at dksX5_spells_8 15 rfl rfl)
theorem dX5_spells_206 : decode cX5_spells 206 = .ok (.iload 7, 2) := dk_21 7 (dk_at dksX5_spells_8 16 rfl rfl)
theorem dX5_spells_208 : decode cX5_spells 208 = .ok (.invokevirtual 392, 3) := dk_182 1 136 (dk_at dksX5_spells_8 18 rfl rfl)
theorem dX5_spells_211 : decode cX5_spells 211 = .ok (.iinc 4 1, 3) := dk_132 4 1 (dk_at dksX5_spells_8 21 rfl rfl)
theorem dX5_spells_214 : decode cX5_spells 214 = .ok (.goto (-154), 3) := dk_167 255 102 (dk_at dksX5_spells_9 0 rfl rfl)
theorem dX5_spells_217 : decode cX5_spells 217 = .ok (.return_, 1) := dk_177 (dk_at dksX5_spells_9 3 rfl rfl)
def dkwX5_writes_3 : List UInt8 := [167, 255, 192, 29, 172]
abbrev dktX5_writes_3 : List UInt8 := dkwX5_writes_3 ++ []
def dkwX5_writes_2 : List UInt8 := [21, 4, 96, 46, 28, 160, 0, 16, 42, 180, 0, 41, 16, 12, 27, 104, 21, 4, 96, 46, 62, 132, 4, 1]
abbrev dktX5_writes_2 : List UInt8 := dkwX5_writes_2 ++ dktX5_writes_3
def dkwX5_writes_1 : List UInt8 := [180, 0, 35, 16, 12, 27, 104, 21, 4, 96, 46, 5, 160, 0, 32, 42, 180, 0, 38, 16, 12, 27, 104]
abbrev dktX5_writes_1 : List UInt8 := dkwX5_writes_1 ++ dktX5_writes_2
def dkwX5_writes_0 : List UInt8 := [28, 62, 3, 54, 4, 27, 2, 159, 0, 65, 21, 4, 42, 180, 0, 32, 27, 46, 162, 0, 54, 42]
abbrev dktX5_writes_0 : List UInt8 := dkwX5_writes_0 ++ dktX5_writes_1
theorem dksX5_writes_0 : cX5_writes.data.toList.drop 0 = dktX5_writes_0 := by decide +kernel
theorem dksX5_writes_1 : cX5_writes.data.toList.drop 22 = dktX5_writes_1 := dk_seg dksX5_writes_0 22 rfl rfl
theorem dksX5_writes_2 : cX5_writes.data.toList.drop 45 = dktX5_writes_2 := dk_seg dksX5_writes_1 23 rfl rfl
theorem dksX5_writes_3 : cX5_writes.data.toList.drop 69 = dktX5_writes_3 := dk_seg dksX5_writes_2 24 rfl rfl
theorem dX5_writes_0 : decode cX5_writes 0 = .ok (.iload_n 2, 1) := dk_28 (dk_at dksX5_writes_0 0 rfl rfl)
theorem dX5_writes_1 : decode cX5_writes 1 = .ok (.istore_n 3, 1) := dk_62 (dk_at dksX5_writes_0 1 rfl rfl)
theorem dX5_writes_2 : decode cX5_writes 2 = .ok (.iconst 0, 1) := dk_3 (dk_at dksX5_writes_0 2 rfl rfl)
theorem dX5_writes_3 : decode cX5_writes 3 = .ok (.istore 4, 2) := dk_54 4 (dk_at dksX5_writes_0 3 rfl rfl)
theorem dX5_writes_5 : decode cX5_writes 5 = .ok (.iload_n 1, 1) := dk_27 (dk_at dksX5_writes_0 5 rfl rfl)
theorem dX5_writes_6 : decode cX5_writes 6 = .ok (.iconst (-1), 1) := dk_2 (dk_at dksX5_writes_0 6 rfl rfl)
theorem dX5_writes_7 : decode cX5_writes 7 = .ok (.if_icmp .eq 65, 3) := dk_159 0 65 (dk_at dksX5_writes_0 7 rfl rfl)
theorem dX5_writes_10 : decode cX5_writes 10 = .ok (.iload 4, 2) := dk_21 4 (dk_at dksX5_writes_0 10 rfl rfl)
theorem dX5_writes_12 : decode cX5_writes 12 = .ok (.aload_n 0, 1) := dk_42 (dk_at dksX5_writes_0 12 rfl rfl)
theorem dX5_writes_13 : decode cX5_writes 13 = .ok (.getfield 32, 3) := dk_180 0 32 (dk_at dksX5_writes_0 13 rfl rfl)
theorem dX5_writes_16 : decode cX5_writes 16 = .ok (.iload_n 1, 1) := dk_27 (dk_at dksX5_writes_0 16 rfl rfl)
theorem dX5_writes_17 : decode cX5_writes 17 = .ok (.iaload, 1) := dk_46 (dk_at dksX5_writes_0 17 rfl rfl)
theorem dX5_writes_18 : decode cX5_writes 18 = .ok (.if_icmp .ge 54, 3) := dk_162 0 54 (dk_at dksX5_writes_0 18 rfl rfl)
theorem dX5_writes_21 : decode cX5_writes 21 = .ok (.aload_n 0, 1) := dk_42 (dk_at dksX5_writes_0 21 rfl rfl)
theorem dX5_writes_22 : decode cX5_writes 22 = .ok (.getfield 35, 3) := dk_180 0 35 (dk_at dksX5_writes_1 0 rfl rfl)
theorem dX5_writes_25 : decode cX5_writes 25 = .ok (.bipush 12, 2) := dk_16 12 (dk_at dksX5_writes_1 3 rfl rfl)
theorem dX5_writes_27 : decode cX5_writes 27 = .ok (.iload_n 1, 1) := dk_27 (dk_at dksX5_writes_1 5 rfl rfl)
theorem dX5_writes_28 : decode cX5_writes 28 = .ok (.imul, 1) := dk_104 (dk_at dksX5_writes_1 6 rfl rfl)
theorem dX5_writes_29 : decode cX5_writes 29 = .ok (.iload 4, 2) := dk_21 4 (dk_at dksX5_writes_1 7 rfl rfl)
theorem dX5_writes_31 : decode cX5_writes 31 = .ok (.iadd, 1) := dk_96 (dk_at dksX5_writes_1 9 rfl rfl)
theorem dX5_writes_32 : decode cX5_writes 32 = .ok (.iaload, 1) := dk_46 (dk_at dksX5_writes_1 10 rfl rfl)
theorem dX5_writes_33 : decode cX5_writes 33 = .ok (.iconst 2, 1) := dk_5 (dk_at dksX5_writes_1 11 rfl rfl)
theorem dX5_writes_34 : decode cX5_writes 34 = .ok (.if_icmp .ne 32, 3) := dk_160 0 32 (dk_at dksX5_writes_1 12 rfl rfl)
theorem dX5_writes_37 : decode cX5_writes 37 = .ok (.aload_n 0, 1) := dk_42 (dk_at dksX5_writes_1 15 rfl rfl)
theorem dX5_writes_38 : decode cX5_writes 38 = .ok (.getfield 38, 3) := dk_180 0 38 (dk_at dksX5_writes_1 16 rfl rfl)
theorem dX5_writes_41 : decode cX5_writes 41 = .ok (.bipush 12, 2) := dk_16 12 (dk_at dksX5_writes_1 19 rfl rfl)
theorem dX5_writes_43 : decode cX5_writes 43 = .ok (.iload_n 1, 1) := dk_27 (dk_at dksX5_writes_1 21 rfl rfl)
theorem dX5_writes_44 : decode cX5_writes 44 = .ok (.imul, 1) := dk_104 (dk_at dksX5_writes_1 22 rfl rfl)
theorem dX5_writes_45 : decode cX5_writes 45 = .ok (.iload 4, 2) := dk_21 4 (dk_at dksX5_writes_2 0 rfl rfl)
theorem dX5_writes_47 : decode cX5_writes 47 = .ok (.iadd, 1) := dk_96 (dk_at dksX5_writes_2 2 rfl rfl)
theorem dX5_writes_48 : decode cX5_writes 48 = .ok (.iaload, 1) := dk_46 (dk_at dksX5_writes_2 3 rfl rfl)
theorem dX5_writes_49 : decode cX5_writes 49 = .ok (.iload_n 2, 1) := dk_28 (dk_at dksX5_writes_2 4 rfl rfl)
theorem dX5_writes_50 : decode cX5_writes 50 = .ok (.if_icmp .ne 16, 3) := dk_160 0 16 (dk_at dksX5_writes_2 5 rfl rfl)
theorem dX5_writes_53 : decode cX5_writes 53 = .ok (.aload_n 0, 1) := dk_42 (dk_at dksX5_writes_2 8 rfl rfl)
theorem dX5_writes_54 : decode cX5_writes 54 = .ok (.getfield 41, 3) := dk_180 0 41 (dk_at dksX5_writes_2 9 rfl rfl)
theorem dX5_writes_57 : decode cX5_writes 57 = .ok (.bipush 12, 2) := dk_16 12 (dk_at dksX5_writes_2 12 rfl rfl)
theorem dX5_writes_59 : decode cX5_writes 59 = .ok (.iload_n 1, 1) := dk_27 (dk_at dksX5_writes_2 14 rfl rfl)
theorem dX5_writes_60 : decode cX5_writes 60 = .ok (.imul, 1) := dk_104 (dk_at dksX5_writes_2 15 rfl rfl)
theorem dX5_writes_61 : decode cX5_writes 61 = .ok (.iload 4, 2) := dk_21 4 (dk_at dksX5_writes_2 16 rfl rfl)
theorem dX5_writes_63 : decode cX5_writes 63 = .ok (.iadd, 1) := dk_96 (dk_at dksX5_writes_2 18 rfl rfl)
theorem dX5_writes_64 : decode cX5_writes 64 = .ok (.iaload, 1) := dk_46 (dk_at dksX5_writes_2 19 rfl rfl)
theorem dX5_writes_65 : decode cX5_writes 65 = .ok (.istore_n 3, 1) := dk_62 (dk_at dksX5_writes_2 20 rfl rfl)
theorem dX5_writes_66 : decode cX5_writes 66 = .ok (.iinc 4 1, 3) := dk_132 4 1 (dk_at dksX5_writes_2 21 rfl rfl)
theorem dX5_writes_69 : decode cX5_writes 69 = .ok (.goto (-64), 3) := dk_167 255 192 (dk_at dksX5_writes_3 0 rfl rfl)
theorem dX5_writes_72 : decode cX5_writes 72 = .ok (.iload_n 3, 1) := dk_29 (dk_at dksX5_writes_3 3 rfl rfl)
theorem dX5_writes_73 : decode cX5_writes 73 = .ok (.ireturn, 1) := dk_172 (dk_at dksX5_writes_3 4 rfl rfl)
def dkwX5_addCell_1 : List UInt8 := [28, 16, 97, 100, 4, 96, 104, 29, 96, 79, 42, 180, 0, 139, 27, 92, 46, 4, 96, 79, 177]
abbrev dktX5_addCell_1 : List UInt8 := dkwX5_addCell_1 ++ []
def dkwX5_addCell_0 : List UInt8 := [42, 180, 0, 136, 16, 8, 27, 104, 42, 180, 0, 139, 27, 46, 96, 8, 28, 154, 0, 7, 3, 167, 0, 9]
abbrev dktX5_addCell_0 : List UInt8 := dkwX5_addCell_0 ++ dktX5_addCell_1
theorem dksX5_addCell_0 : cX5_addCell.data.toList.drop 0 = dktX5_addCell_0 := by decide +kernel
theorem dksX5_addCell_1 : cX5_addCell.data.toList.drop 24 = dktX5_addCell_1 := dk_seg dksX5_addCell_0 24 rfl rfl
theorem dX5_addCell_0 : decode cX5_addCell 0 = .ok (.aload_n 0, 1) := dk_42 (dk_at dksX5_addCell_0 0 rfl rfl)
theorem dX5_addCell_1 : decode cX5_addCell 1 = .ok (.getfield 136, 3) := dk_180 0 136 (dk_at dksX5_addCell_0 1 rfl rfl)
theorem dX5_addCell_4 : decode cX5_addCell 4 = .ok (.bipush 8, 2) := dk_16 8 (dk_at dksX5_addCell_0 4 rfl rfl)
theorem dX5_addCell_6 : decode cX5_addCell 6 = .ok (.iload_n 1, 1) := dk_27 (dk_at dksX5_addCell_0 6 rfl rfl)
theorem dX5_addCell_7 : decode cX5_addCell 7 = .ok (.imul, 1) := dk_104 (dk_at dksX5_addCell_0 7 rfl rfl)
theorem dX5_addCell_8 : decode cX5_addCell 8 = .ok (.aload_n 0, 1) := dk_42 (dk_at dksX5_addCell_0 8 rfl rfl)
theorem dX5_addCell_9 : decode cX5_addCell 9 = .ok (.getfield 139, 3) := dk_180 0 139 (dk_at dksX5_addCell_0 9 rfl rfl)
theorem dX5_addCell_12 : decode cX5_addCell 12 = .ok (.iload_n 1, 1) := dk_27 (dk_at dksX5_addCell_0 12 rfl rfl)
theorem dX5_addCell_13 : decode cX5_addCell 13 = .ok (.iaload, 1) := dk_46 (dk_at dksX5_addCell_0 13 rfl rfl)
theorem dX5_addCell_14 : decode cX5_addCell 14 = .ok (.iadd, 1) := dk_96 (dk_at dksX5_addCell_0 14 rfl rfl)
theorem dX5_addCell_15 : decode cX5_addCell 15 = .ok (.iconst 5, 1) := dk_8 (dk_at dksX5_addCell_0 15 rfl rfl)
theorem dX5_addCell_16 : decode cX5_addCell 16 = .ok (.iload_n 2, 1) := dk_28 (dk_at dksX5_addCell_0 16 rfl rfl)
theorem dX5_addCell_17 : decode cX5_addCell 17 = .ok (.ifCond .ne 7, 3) := dk_154 0 7 (dk_at dksX5_addCell_0 17 rfl rfl)
theorem dX5_addCell_20 : decode cX5_addCell 20 = .ok (.iconst 0, 1) := dk_3 (dk_at dksX5_addCell_0 20 rfl rfl)
theorem dX5_addCell_21 : decode cX5_addCell 21 = .ok (.goto 9, 3) := dk_167 0 9 (dk_at dksX5_addCell_0 21 rfl rfl)
theorem dX5_addCell_24 : decode cX5_addCell 24 = .ok (.iload_n 2, 1) := dk_28 (dk_at dksX5_addCell_1 0 rfl rfl)
theorem dX5_addCell_25 : decode cX5_addCell 25 = .ok (.bipush 97, 2) := dk_16 97 (dk_at dksX5_addCell_1 1 rfl rfl)
theorem dX5_addCell_27 : decode cX5_addCell 27 = .ok (.isub, 1) := dk_100 (dk_at dksX5_addCell_1 3 rfl rfl)
theorem dX5_addCell_28 : decode cX5_addCell 28 = .ok (.iconst 1, 1) := dk_4 (dk_at dksX5_addCell_1 4 rfl rfl)
theorem dX5_addCell_29 : decode cX5_addCell 29 = .ok (.iadd, 1) := dk_96 (dk_at dksX5_addCell_1 5 rfl rfl)
theorem dX5_addCell_30 : decode cX5_addCell 30 = .ok (.imul, 1) := dk_104 (dk_at dksX5_addCell_1 6 rfl rfl)
theorem dX5_addCell_31 : decode cX5_addCell 31 = .ok (.iload_n 3, 1) := dk_29 (dk_at dksX5_addCell_1 7 rfl rfl)
theorem dX5_addCell_32 : decode cX5_addCell 32 = .ok (.iadd, 1) := dk_96 (dk_at dksX5_addCell_1 8 rfl rfl)
theorem dX5_addCell_33 : decode cX5_addCell 33 = .ok (.iastore, 1) := dk_79 (dk_at dksX5_addCell_1 9 rfl rfl)
theorem dX5_addCell_34 : decode cX5_addCell 34 = .ok (.aload_n 0, 1) := dk_42 (dk_at dksX5_addCell_1 10 rfl rfl)
theorem dX5_addCell_35 : decode cX5_addCell 35 = .ok (.getfield 139, 3) := dk_180 0 139 (dk_at dksX5_addCell_1 11 rfl rfl)
theorem dX5_addCell_38 : decode cX5_addCell 38 = .ok (.iload_n 1, 1) := dk_27 (dk_at dksX5_addCell_1 14 rfl rfl)
theorem dX5_addCell_39 : decode cX5_addCell 39 = .ok (.dup2, 1) := dk_92 (dk_at dksX5_addCell_1 15 rfl rfl)
theorem dX5_addCell_40 : decode cX5_addCell 40 = .ok (.iaload, 1) := dk_46 (dk_at dksX5_addCell_1 16 rfl rfl)
theorem dX5_addCell_41 : decode cX5_addCell 41 = .ok (.iconst 1, 1) := dk_4 (dk_at dksX5_addCell_1 17 rfl rfl)
theorem dX5_addCell_42 : decode cX5_addCell 42 = .ok (.iadd, 1) := dk_96 (dk_at dksX5_addCell_1 18 rfl rfl)
theorem dX5_addCell_43 : decode cX5_addCell 43 = .ok (.iastore, 1) := dk_79 (dk_at dksX5_addCell_1 19 rfl rfl)
theorem dX5_addCell_44 : decode cX5_addCell 44 = .ok (.return_, 1) := dk_177 (dk_at dksX5_addCell_1 20 rfl rfl)
def dkwX5_vowelFor_3 : List UInt8 := [132, 3, 255, 167, 255, 226, 2, 172]
abbrev dktX5_vowelFor_3 : List UInt8 := dkwX5_vowelFor_3 ++ []
def dkwX5_vowelFor_2 : List UInt8 := [180, 0, 142, 29, 46, 184, 1, 22, 2, 159, 0, 13, 42, 180, 0, 142, 29, 46, 184, 1, 22, 172]
abbrev dktX5_vowelFor_2 : List UInt8 := dkwX5_vowelFor_2 ++ dktX5_vowelFor_3
def dkwX5_vowelFor_1 : List UInt8 := [180, 0, 142, 29, 46, 184, 1, 22, 172, 132, 3, 1, 167, 255, 225, 27, 4, 100, 62, 29, 155, 0, 32, 42]
abbrev dktX5_vowelFor_1 : List UInt8 := dkwX5_vowelFor_1 ++ dktX5_vowelFor_2
def dkwX5_vowelFor_0 : List UInt8 := [27, 4, 96, 62, 29, 28, 162, 0, 32, 42, 180, 0, 142, 29, 46, 184, 1, 22, 2, 159, 0, 13, 42]
abbrev dktX5_vowelFor_0 : List UInt8 := dkwX5_vowelFor_0 ++ dktX5_vowelFor_1
theorem dksX5_vowelFor_0 : cX5_vowelFor.data.toList.drop 0 = dktX5_vowelFor_0 := by decide +kernel
theorem dksX5_vowelFor_1 : cX5_vowelFor.data.toList.drop 23 = dktX5_vowelFor_1 := dk_seg dksX5_vowelFor_0 23 rfl rfl
theorem dksX5_vowelFor_2 : cX5_vowelFor.data.toList.drop 47 = dktX5_vowelFor_2 := dk_seg dksX5_vowelFor_1 24 rfl rfl
theorem dksX5_vowelFor_3 : cX5_vowelFor.data.toList.drop 69 = dktX5_vowelFor_3 := dk_seg dksX5_vowelFor_2 22 rfl rfl
theorem dX5_vowelFor_0 : decode cX5_vowelFor 0 = .ok (.iload_n 1, 1) := dk_27 (dk_at dksX5_vowelFor_0 0 rfl rfl)
theorem dX5_vowelFor_1 : decode cX5_vowelFor 1 = .ok (.iconst 1, 1) := dk_4 (dk_at dksX5_vowelFor_0 1 rfl rfl)
theorem dX5_vowelFor_2 : decode cX5_vowelFor 2 = .ok (.iadd, 1) := dk_96 (dk_at dksX5_vowelFor_0 2 rfl rfl)
theorem dX5_vowelFor_3 : decode cX5_vowelFor 3 = .ok (.istore_n 3, 1) := dk_62 (dk_at dksX5_vowelFor_0 3 rfl rfl)
theorem dX5_vowelFor_4 : decode cX5_vowelFor 4 = .ok (.iload_n 3, 1) := dk_29 (dk_at dksX5_vowelFor_0 4 rfl rfl)
theorem dX5_vowelFor_5 : decode cX5_vowelFor 5 = .ok (.iload_n 2, 1) := dk_28 (dk_at dksX5_vowelFor_0 5 rfl rfl)
theorem dX5_vowelFor_6 : decode cX5_vowelFor 6 = .ok (.if_icmp .ge 32, 3) := dk_162 0 32 (dk_at dksX5_vowelFor_0 6 rfl rfl)
theorem dX5_vowelFor_9 : decode cX5_vowelFor 9 = .ok (.aload_n 0, 1) := dk_42 (dk_at dksX5_vowelFor_0 9 rfl rfl)
theorem dX5_vowelFor_10 : decode cX5_vowelFor 10 = .ok (.getfield 142, 3) := dk_180 0 142 (dk_at dksX5_vowelFor_0 10 rfl rfl)
theorem dX5_vowelFor_13 : decode cX5_vowelFor 13 = .ok (.iload_n 3, 1) := dk_29 (dk_at dksX5_vowelFor_0 13 rfl rfl)
theorem dX5_vowelFor_14 : decode cX5_vowelFor 14 = .ok (.iaload, 1) := dk_46 (dk_at dksX5_vowelFor_0 14 rfl rfl)
theorem dX5_vowelFor_15 : decode cX5_vowelFor 15 = .ok (.invokestatic 278, 3) := dk_184 1 22 (dk_at dksX5_vowelFor_0 15 rfl rfl)
theorem dX5_vowelFor_18 : decode cX5_vowelFor 18 = .ok (.iconst (-1), 1) := dk_2 (dk_at dksX5_vowelFor_0 18 rfl rfl)
theorem dX5_vowelFor_19 : decode cX5_vowelFor 19 = .ok (.if_icmp .eq 13, 3) := dk_159 0 13 (dk_at dksX5_vowelFor_0 19 rfl rfl)
theorem dX5_vowelFor_22 : decode cX5_vowelFor 22 = .ok (.aload_n 0, 1) := dk_42 (dk_at dksX5_vowelFor_0 22 rfl rfl)
theorem dX5_vowelFor_23 : decode cX5_vowelFor 23 = .ok (.getfield 142, 3) := dk_180 0 142 (dk_at dksX5_vowelFor_1 0 rfl rfl)
theorem dX5_vowelFor_26 : decode cX5_vowelFor 26 = .ok (.iload_n 3, 1) := dk_29 (dk_at dksX5_vowelFor_1 3 rfl rfl)
theorem dX5_vowelFor_27 : decode cX5_vowelFor 27 = .ok (.iaload, 1) := dk_46 (dk_at dksX5_vowelFor_1 4 rfl rfl)
theorem dX5_vowelFor_28 : decode cX5_vowelFor 28 = .ok (.invokestatic 278, 3) := dk_184 1 22 (dk_at dksX5_vowelFor_1 5 rfl rfl)
theorem dX5_vowelFor_31 : decode cX5_vowelFor 31 = .ok (.ireturn, 1) := dk_172 (dk_at dksX5_vowelFor_1 8 rfl rfl)
theorem dX5_vowelFor_32 : decode cX5_vowelFor 32 = .ok (.iinc 3 1, 3) := dk_132 3 1 (dk_at dksX5_vowelFor_1 9 rfl rfl)
theorem dX5_vowelFor_35 : decode cX5_vowelFor 35 = .ok (.goto (-31), 3) := dk_167 255 225 (dk_at dksX5_vowelFor_1 12 rfl rfl)
theorem dX5_vowelFor_38 : decode cX5_vowelFor 38 = .ok (.iload_n 1, 1) := dk_27 (dk_at dksX5_vowelFor_1 15 rfl rfl)
theorem dX5_vowelFor_39 : decode cX5_vowelFor 39 = .ok (.iconst 1, 1) := dk_4 (dk_at dksX5_vowelFor_1 16 rfl rfl)
theorem dX5_vowelFor_40 : decode cX5_vowelFor 40 = .ok (.isub, 1) := dk_100 (dk_at dksX5_vowelFor_1 17 rfl rfl)
theorem dX5_vowelFor_41 : decode cX5_vowelFor 41 = .ok (.istore_n 3, 1) := dk_62 (dk_at dksX5_vowelFor_1 18 rfl rfl)
theorem dX5_vowelFor_42 : decode cX5_vowelFor 42 = .ok (.iload_n 3, 1) := dk_29 (dk_at dksX5_vowelFor_1 19 rfl rfl)
theorem dX5_vowelFor_43 : decode cX5_vowelFor 43 = .ok (.ifCond .lt 32, 3) := dk_155 0 32 (dk_at dksX5_vowelFor_1 20 rfl rfl)
theorem dX5_vowelFor_46 : decode cX5_vowelFor 46 = .ok (.aload_n 0, 1) := dk_42 (dk_at dksX5_vowelFor_1 23 rfl rfl)
theorem dX5_vowelFor_47 : decode cX5_vowelFor 47 = .ok (.getfield 142, 3) := dk_180 0 142 (dk_at dksX5_vowelFor_2 0 rfl rfl)
theorem dX5_vowelFor_50 : decode cX5_vowelFor 50 = .ok (.iload_n 3, 1) := dk_29 (dk_at dksX5_vowelFor_2 3 rfl rfl)
theorem dX5_vowelFor_51 : decode cX5_vowelFor 51 = .ok (.iaload, 1) := dk_46 (dk_at dksX5_vowelFor_2 4 rfl rfl)
theorem dX5_vowelFor_52 : decode cX5_vowelFor 52 = .ok (.invokestatic 278, 3) := dk_184 1 22 (dk_at dksX5_vowelFor_2 5 rfl rfl)
theorem dX5_vowelFor_55 : decode cX5_vowelFor 55 = .ok (.iconst (-1), 1) := dk_2 (dk_at dksX5_vowelFor_2 8 rfl rfl)
theorem dX5_vowelFor_56 : decode cX5_vowelFor 56 = .ok (.if_icmp .eq 13, 3) := dk_159 0 13 (dk_at dksX5_vowelFor_2 9 rfl rfl)
theorem dX5_vowelFor_59 : decode cX5_vowelFor 59 = .ok (.aload_n 0, 1) := dk_42 (dk_at dksX5_vowelFor_2 12 rfl rfl)
theorem dX5_vowelFor_60 : decode cX5_vowelFor 60 = .ok (.getfield 142, 3) := dk_180 0 142 (dk_at dksX5_vowelFor_2 13 rfl rfl)
theorem dX5_vowelFor_63 : decode cX5_vowelFor 63 = .ok (.iload_n 3, 1) := dk_29 (dk_at dksX5_vowelFor_2 16 rfl rfl)
theorem dX5_vowelFor_64 : decode cX5_vowelFor 64 = .ok (.iaload, 1) := dk_46 (dk_at dksX5_vowelFor_2 17 rfl rfl)
theorem dX5_vowelFor_65 : decode cX5_vowelFor 65 = .ok (.invokestatic 278, 3) := dk_184 1 22 (dk_at dksX5_vowelFor_2 18 rfl rfl)
theorem dX5_vowelFor_68 : decode cX5_vowelFor 68 = .ok (.ireturn, 1) := dk_172 (dk_at dksX5_vowelFor_2 21 rfl rfl)
theorem dX5_vowelFor_69 : decode cX5_vowelFor 69 = .ok (.iinc 3 (-1), 3) := dk_132 3 255 (dk_at dksX5_vowelFor_3 0 rfl rfl)
theorem dX5_vowelFor_72 : decode cX5_vowelFor 72 = .ok (.goto (-30), 3) := dk_167 255 226 (dk_at dksX5_vowelFor_3 3 rfl rfl)
theorem dX5_vowelFor_75 : decode cX5_vowelFor 75 = .ok (.iconst (-1), 1) := dk_2 (dk_at dksX5_vowelFor_3 6 rfl rfl)
theorem dX5_vowelFor_76 : decode cX5_vowelFor 76 = .ok (.ireturn, 1) := dk_172 (dk_at dksX5_vowelFor_3 7 rfl rfl)
def dkwX5_drops_3 : List UInt8 := [29, 172]
abbrev dktX5_drops_3 : List UInt8 := dkwX5_drops_3 ++ []
def dkwX5_drops_2 : List UInt8 := [16, 12, 27, 104, 21, 4, 96, 46, 28, 160, 0, 7, 4, 167, 0, 4, 3, 62, 132, 4, 1, 167, 255, 195]
abbrev dktX5_drops_2 : List UInt8 := dkwX5_drops_2 ++ dktX5_drops_3
def dkwX5_drops_1 : List UInt8 := [154, 0, 35, 42, 180, 0, 35, 16, 12, 27, 104, 21, 4, 96, 46, 6, 160, 0, 23, 42, 180, 0, 38]
abbrev dktX5_drops_1 : List UInt8 := dkwX5_drops_1 ++ dktX5_drops_2
def dkwX5_drops_0 : List UInt8 := [3, 62, 3, 54, 4, 27, 2, 159, 0, 62, 21, 4, 42, 180, 0, 32, 27, 46, 162, 0, 51, 29]
abbrev dktX5_drops_0 : List UInt8 := dkwX5_drops_0 ++ dktX5_drops_1
theorem dksX5_drops_0 : cX5_drops.data.toList.drop 0 = dktX5_drops_0 := by decide +kernel
theorem dksX5_drops_1 : cX5_drops.data.toList.drop 22 = dktX5_drops_1 := dk_seg dksX5_drops_0 22 rfl rfl
theorem dksX5_drops_2 : cX5_drops.data.toList.drop 45 = dktX5_drops_2 := dk_seg dksX5_drops_1 23 rfl rfl
theorem dksX5_drops_3 : cX5_drops.data.toList.drop 69 = dktX5_drops_3 := dk_seg dksX5_drops_2 24 rfl rfl
theorem dX5_drops_0 : decode cX5_drops 0 = .ok (.iconst 0, 1) := dk_3 (dk_at dksX5_drops_0 0 rfl rfl)
theorem dX5_drops_1 : decode cX5_drops 1 = .ok (.istore_n 3, 1) := dk_62 (dk_at dksX5_drops_0 1 rfl rfl)
theorem dX5_drops_2 : decode cX5_drops 2 = .ok (.iconst 0, 1) := dk_3 (dk_at dksX5_drops_0 2 rfl rfl)
theorem dX5_drops_3 : decode cX5_drops 3 = .ok (.istore 4, 2) := dk_54 4 (dk_at dksX5_drops_0 3 rfl rfl)
theorem dX5_drops_5 : decode cX5_drops 5 = .ok (.iload_n 1, 1) := dk_27 (dk_at dksX5_drops_0 5 rfl rfl)
theorem dX5_drops_6 : decode cX5_drops 6 = .ok (.iconst (-1), 1) := dk_2 (dk_at dksX5_drops_0 6 rfl rfl)
theorem dX5_drops_7 : decode cX5_drops 7 = .ok (.if_icmp .eq 62, 3) := dk_159 0 62 (dk_at dksX5_drops_0 7 rfl rfl)
theorem dX5_drops_10 : decode cX5_drops 10 = .ok (.iload 4, 2) := dk_21 4 (dk_at dksX5_drops_0 10 rfl rfl)
theorem dX5_drops_12 : decode cX5_drops 12 = .ok (.aload_n 0, 1) := dk_42 (dk_at dksX5_drops_0 12 rfl rfl)
theorem dX5_drops_13 : decode cX5_drops 13 = .ok (.getfield 32, 3) := dk_180 0 32 (dk_at dksX5_drops_0 13 rfl rfl)
theorem dX5_drops_16 : decode cX5_drops 16 = .ok (.iload_n 1, 1) := dk_27 (dk_at dksX5_drops_0 16 rfl rfl)
theorem dX5_drops_17 : decode cX5_drops 17 = .ok (.iaload, 1) := dk_46 (dk_at dksX5_drops_0 17 rfl rfl)
theorem dX5_drops_18 : decode cX5_drops 18 = .ok (.if_icmp .ge 51, 3) := dk_162 0 51 (dk_at dksX5_drops_0 18 rfl rfl)
theorem dX5_drops_21 : decode cX5_drops 21 = .ok (.iload_n 3, 1) := dk_29 (dk_at dksX5_drops_0 21 rfl rfl)
theorem dX5_drops_22 : decode cX5_drops 22 = .ok (.ifCond .ne 35, 3) := dk_154 0 35 (dk_at dksX5_drops_1 0 rfl rfl)
theorem dX5_drops_25 : decode cX5_drops 25 = .ok (.aload_n 0, 1) := dk_42 (dk_at dksX5_drops_1 3 rfl rfl)
theorem dX5_drops_26 : decode cX5_drops 26 = .ok (.getfield 35, 3) := dk_180 0 35 (dk_at dksX5_drops_1 4 rfl rfl)
theorem dX5_drops_29 : decode cX5_drops 29 = .ok (.bipush 12, 2) := dk_16 12 (dk_at dksX5_drops_1 7 rfl rfl)
theorem dX5_drops_31 : decode cX5_drops 31 = .ok (.iload_n 1, 1) := dk_27 (dk_at dksX5_drops_1 9 rfl rfl)
theorem dX5_drops_32 : decode cX5_drops 32 = .ok (.imul, 1) := dk_104 (dk_at dksX5_drops_1 10 rfl rfl)
theorem dX5_drops_33 : decode cX5_drops 33 = .ok (.iload 4, 2) := dk_21 4 (dk_at dksX5_drops_1 11 rfl rfl)
theorem dX5_drops_35 : decode cX5_drops 35 = .ok (.iadd, 1) := dk_96 (dk_at dksX5_drops_1 13 rfl rfl)
theorem dX5_drops_36 : decode cX5_drops 36 = .ok (.iaload, 1) := dk_46 (dk_at dksX5_drops_1 14 rfl rfl)
theorem dX5_drops_37 : decode cX5_drops 37 = .ok (.iconst 3, 1) := dk_6 (dk_at dksX5_drops_1 15 rfl rfl)
theorem dX5_drops_38 : decode cX5_drops 38 = .ok (.if_icmp .ne 23, 3) := dk_160 0 23 (dk_at dksX5_drops_1 16 rfl rfl)
theorem dX5_drops_41 : decode cX5_drops 41 = .ok (.aload_n 0, 1) := dk_42 (dk_at dksX5_drops_1 19 rfl rfl)
theorem dX5_drops_42 : decode cX5_drops 42 = .ok (.getfield 38, 3) := dk_180 0 38 (dk_at dksX5_drops_1 20 rfl rfl)
theorem dX5_drops_45 : decode cX5_drops 45 = .ok (.bipush 12, 2) := dk_16 12 (dk_at dksX5_drops_2 0 rfl rfl)
theorem dX5_drops_47 : decode cX5_drops 47 = .ok (.iload_n 1, 1) := dk_27 (dk_at dksX5_drops_2 2 rfl rfl)
theorem dX5_drops_48 : decode cX5_drops 48 = .ok (.imul, 1) := dk_104 (dk_at dksX5_drops_2 3 rfl rfl)
theorem dX5_drops_49 : decode cX5_drops 49 = .ok (.iload 4, 2) := dk_21 4 (dk_at dksX5_drops_2 4 rfl rfl)
theorem dX5_drops_51 : decode cX5_drops 51 = .ok (.iadd, 1) := dk_96 (dk_at dksX5_drops_2 6 rfl rfl)
theorem dX5_drops_52 : decode cX5_drops 52 = .ok (.iaload, 1) := dk_46 (dk_at dksX5_drops_2 7 rfl rfl)
theorem dX5_drops_53 : decode cX5_drops 53 = .ok (.iload_n 2, 1) := dk_28 (dk_at dksX5_drops_2 8 rfl rfl)
theorem dX5_drops_54 : decode cX5_drops 54 = .ok (.if_icmp .ne 7, 3) := dk_160 0 7 (dk_at dksX5_drops_2 9 rfl rfl)
theorem dX5_drops_57 : decode cX5_drops 57 = .ok (.iconst 1, 1) := dk_4 (dk_at dksX5_drops_2 12 rfl rfl)
theorem dX5_drops_58 : decode cX5_drops 58 = .ok (.goto 4, 3) := dk_167 0 4 (dk_at dksX5_drops_2 13 rfl rfl)
theorem dX5_drops_61 : decode cX5_drops 61 = .ok (.iconst 0, 1) := dk_3 (dk_at dksX5_drops_2 16 rfl rfl)
theorem dX5_drops_62 : decode cX5_drops 62 = .ok (.istore_n 3, 1) := dk_62 (dk_at dksX5_drops_2 17 rfl rfl)
theorem dX5_drops_63 : decode cX5_drops 63 = .ok (.iinc 4 1, 3) := dk_132 4 1 (dk_at dksX5_drops_2 18 rfl rfl)
theorem dX5_drops_66 : decode cX5_drops 66 = .ok (.goto (-61), 3) := dk_167 255 195 (dk_at dksX5_drops_2 21 rfl rfl)
theorem dX5_drops_69 : decode cX5_drops 69 = .ok (.iload_n 3, 1) := dk_29 (dk_at dksX5_drops_3 0 rfl rfl)
theorem dX5_drops_70 : decode cX5_drops 70 = .ok (.ireturn, 1) := dk_172 (dk_at dksX5_drops_3 1 rfl rfl)
def dkwX5_cell_2 : List UInt8 := [153, 0, 17, 42, 180, 0, 136, 16, 8, 27, 104, 28, 96, 46, 167, 0, 4, 2, 172]
abbrev dktX5_cell_2 : List UInt8 := dkwX5_cell_2 ++ []
def dkwX5_cell_1 : List UInt8 := [154, 0, 5, 2, 172, 42, 27, 29, 182, 1, 145, 28, 3, 42, 180, 0, 139, 27, 46, 4, 100, 184, 0, 169]
abbrev dktX5_cell_1 : List UInt8 := dkwX5_cell_1 ++ dktX5_cell_2
def dkwX5_cell_0 : List UInt8 := [42, 3, 181, 0, 1, 27, 3, 42, 180, 1, 127, 4, 100, 184, 0, 169, 153, 0, 11, 42, 29, 182, 1, 42]
abbrev dktX5_cell_0 : List UInt8 := dkwX5_cell_0 ++ dktX5_cell_1
theorem dksX5_cell_0 : cX5_cell.data.toList.drop 0 = dktX5_cell_0 := by decide +kernel
theorem dksX5_cell_1 : cX5_cell.data.toList.drop 24 = dktX5_cell_1 := dk_seg dksX5_cell_0 24 rfl rfl
theorem dksX5_cell_2 : cX5_cell.data.toList.drop 48 = dktX5_cell_2 := dk_seg dksX5_cell_1 24 rfl rfl
theorem dX5_cell_0 : decode cX5_cell 0 = .ok (.aload_n 0, 1) := dk_42 (dk_at dksX5_cell_0 0 rfl rfl)
theorem dX5_cell_1 : decode cX5_cell 1 = .ok (.iconst 0, 1) := dk_3 (dk_at dksX5_cell_0 1 rfl rfl)
theorem dX5_cell_2 : decode cX5_cell 2 = .ok (.putfield 1, 3) := dk_181 0 1 (dk_at dksX5_cell_0 2 rfl rfl)
theorem dX5_cell_5 : decode cX5_cell 5 = .ok (.iload_n 1, 1) := dk_27 (dk_at dksX5_cell_0 5 rfl rfl)
theorem dX5_cell_6 : decode cX5_cell 6 = .ok (.iconst 0, 1) := dk_3 (dk_at dksX5_cell_0 6 rfl rfl)
theorem dX5_cell_7 : decode cX5_cell 7 = .ok (.aload_n 0, 1) := dk_42 (dk_at dksX5_cell_0 7 rfl rfl)
theorem dX5_cell_8 : decode cX5_cell 8 = .ok (.getfield 383, 3) := dk_180 1 127 (dk_at dksX5_cell_0 8 rfl rfl)
theorem dX5_cell_11 : decode cX5_cell 11 = .ok (.iconst 1, 1) := dk_4 (dk_at dksX5_cell_0 11 rfl rfl)
theorem dX5_cell_12 : decode cX5_cell 12 = .ok (.isub, 1) := dk_100 (dk_at dksX5_cell_0 12 rfl rfl)
theorem dX5_cell_13 : decode cX5_cell 13 = .ok (.invokestatic 169, 3) := dk_184 0 169 (dk_at dksX5_cell_0 13 rfl rfl)
theorem dX5_cell_16 : decode cX5_cell 16 = .ok (.ifCond .eq 11, 3) := dk_153 0 11 (dk_at dksX5_cell_0 16 rfl rfl)
theorem dX5_cell_19 : decode cX5_cell 19 = .ok (.aload_n 0, 1) := dk_42 (dk_at dksX5_cell_0 19 rfl rfl)
theorem dX5_cell_20 : decode cX5_cell 20 = .ok (.iload_n 3, 1) := dk_29 (dk_at dksX5_cell_0 20 rfl rfl)
theorem dX5_cell_21 : decode cX5_cell 21 = .ok (.invokevirtual 298, 3) := dk_182 1 42 (dk_at dksX5_cell_0 21 rfl rfl)
theorem dX5_cell_24 : decode cX5_cell 24 = .ok (.ifCond .ne 5, 3) := dk_154 0 5 (dk_at dksX5_cell_1 0 rfl rfl)
theorem dX5_cell_27 : decode cX5_cell 27 = .ok (.iconst (-1), 1) := dk_2 (dk_at dksX5_cell_1 3 rfl rfl)
theorem dX5_cell_28 : decode cX5_cell 28 = .ok (.ireturn, 1) := dk_172 (dk_at dksX5_cell_1 4 rfl rfl)
theorem dX5_cell_29 : decode cX5_cell 29 = .ok (.aload_n 0, 1) := dk_42 (dk_at dksX5_cell_1 5 rfl rfl)
theorem dX5_cell_30 : decode cX5_cell 30 = .ok (.iload_n 1, 1) := dk_27 (dk_at dksX5_cell_1 6 rfl rfl)
theorem dX5_cell_31 : decode cX5_cell 31 = .ok (.iload_n 3, 1) := dk_29 (dk_at dksX5_cell_1 7 rfl rfl)
theorem dX5_cell_32 : decode cX5_cell 32 = .ok (.invokevirtual 401, 3) := dk_182 1 145 (dk_at dksX5_cell_1 8 rfl rfl)
theorem dX5_cell_35 : decode cX5_cell 35 = .ok (.iload_n 2, 1) := dk_28 (dk_at dksX5_cell_1 11 rfl rfl)
theorem dX5_cell_36 : decode cX5_cell 36 = .ok (.iconst 0, 1) := dk_3 (dk_at dksX5_cell_1 12 rfl rfl)
theorem dX5_cell_37 : decode cX5_cell 37 = .ok (.aload_n 0, 1) := dk_42 (dk_at dksX5_cell_1 13 rfl rfl)
theorem dX5_cell_38 : decode cX5_cell 38 = .ok (.getfield 139, 3) := dk_180 0 139 (dk_at dksX5_cell_1 14 rfl rfl)
theorem dX5_cell_41 : decode cX5_cell 41 = .ok (.iload_n 1, 1) := dk_27 (dk_at dksX5_cell_1 17 rfl rfl)
theorem dX5_cell_42 : decode cX5_cell 42 = .ok (.iaload, 1) := dk_46 (dk_at dksX5_cell_1 18 rfl rfl)
theorem dX5_cell_43 : decode cX5_cell 43 = .ok (.iconst 1, 1) := dk_4 (dk_at dksX5_cell_1 19 rfl rfl)
theorem dX5_cell_44 : decode cX5_cell 44 = .ok (.isub, 1) := dk_100 (dk_at dksX5_cell_1 20 rfl rfl)
theorem dX5_cell_45 : decode cX5_cell 45 = .ok (.invokestatic 169, 3) := dk_184 0 169 (dk_at dksX5_cell_1 21 rfl rfl)
theorem dX5_cell_48 : decode cX5_cell 48 = .ok (.ifCond .eq 17, 3) := dk_153 0 17 (dk_at dksX5_cell_2 0 rfl rfl)
theorem dX5_cell_51 : decode cX5_cell 51 = .ok (.aload_n 0, 1) := dk_42 (dk_at dksX5_cell_2 3 rfl rfl)
theorem dX5_cell_52 : decode cX5_cell 52 = .ok (.getfield 136, 3) := dk_180 0 136 (dk_at dksX5_cell_2 4 rfl rfl)
theorem dX5_cell_55 : decode cX5_cell 55 = .ok (.bipush 8, 2) := dk_16 8 (dk_at dksX5_cell_2 7 rfl rfl)
theorem dX5_cell_57 : decode cX5_cell 57 = .ok (.iload_n 1, 1) := dk_27 (dk_at dksX5_cell_2 9 rfl rfl)
theorem dX5_cell_58 : decode cX5_cell 58 = .ok (.imul, 1) := dk_104 (dk_at dksX5_cell_2 10 rfl rfl)
theorem dX5_cell_59 : decode cX5_cell 59 = .ok (.iload_n 2, 1) := dk_28 (dk_at dksX5_cell_2 11 rfl rfl)
theorem dX5_cell_60 : decode cX5_cell 60 = .ok (.iadd, 1) := dk_96 (dk_at dksX5_cell_2 12 rfl rfl)
theorem dX5_cell_61 : decode cX5_cell 61 = .ok (.iaload, 1) := dk_46 (dk_at dksX5_cell_2 13 rfl rfl)
theorem dX5_cell_62 : decode cX5_cell 62 = .ok (.goto 4, 3) := dk_167 0 4 (dk_at dksX5_cell_2 14 rfl rfl)
theorem dX5_cell_65 : decode cX5_cell 65 = .ok (.iconst (-1), 1) := dk_2 (dk_at dksX5_cell_2 17 rfl rfl)
theorem dX5_cell_66 : decode cX5_cell 66 = .ok (.ireturn, 1) := dk_172 (dk_at dksX5_cell_2 18 rfl rfl)
def dkwX5_ways_1 : List UInt8 := [172]
abbrev dktX5_ways_1 : List UInt8 := dkwX5_ways_1 ++ []
def dkwX5_ways_0 : List UInt8 := [42, 3, 181, 0, 1, 42, 27, 182, 1, 42, 154, 0, 5, 2, 172, 42, 27, 182, 1, 182, 42, 180, 1, 155]
abbrev dktX5_ways_0 : List UInt8 := dkwX5_ways_0 ++ dktX5_ways_1
theorem dksX5_ways_0 : cX5_ways.data.toList.drop 0 = dktX5_ways_0 := by decide +kernel
theorem dksX5_ways_1 : cX5_ways.data.toList.drop 24 = dktX5_ways_1 := dk_seg dksX5_ways_0 24 rfl rfl
theorem dX5_ways_0 : decode cX5_ways 0 = .ok (.aload_n 0, 1) := dk_42 (dk_at dksX5_ways_0 0 rfl rfl)
theorem dX5_ways_1 : decode cX5_ways 1 = .ok (.iconst 0, 1) := dk_3 (dk_at dksX5_ways_0 1 rfl rfl)
theorem dX5_ways_2 : decode cX5_ways 2 = .ok (.putfield 1, 3) := dk_181 0 1 (dk_at dksX5_ways_0 2 rfl rfl)
theorem dX5_ways_5 : decode cX5_ways 5 = .ok (.aload_n 0, 1) := dk_42 (dk_at dksX5_ways_0 5 rfl rfl)
theorem dX5_ways_6 : decode cX5_ways 6 = .ok (.iload_n 1, 1) := dk_27 (dk_at dksX5_ways_0 6 rfl rfl)
theorem dX5_ways_7 : decode cX5_ways 7 = .ok (.invokevirtual 298, 3) := dk_182 1 42 (dk_at dksX5_ways_0 7 rfl rfl)
theorem dX5_ways_10 : decode cX5_ways 10 = .ok (.ifCond .ne 5, 3) := dk_154 0 5 (dk_at dksX5_ways_0 10 rfl rfl)
theorem dX5_ways_13 : decode cX5_ways 13 = .ok (.iconst (-1), 1) := dk_2 (dk_at dksX5_ways_0 13 rfl rfl)
theorem dX5_ways_14 : decode cX5_ways 14 = .ok (.ireturn, 1) := dk_172 (dk_at dksX5_ways_0 14 rfl rfl)
theorem dX5_ways_15 : decode cX5_ways 15 = .ok (.aload_n 0, 1) := dk_42 (dk_at dksX5_ways_0 15 rfl rfl)
theorem dX5_ways_16 : decode cX5_ways 16 = .ok (.iload_n 1, 1) := dk_27 (dk_at dksX5_ways_0 16 rfl rfl)
theorem dX5_ways_17 : decode cX5_ways 17 = .ok (.invokevirtual 438, 3) := dk_182 1 182 (dk_at dksX5_ways_0 17 rfl rfl)
theorem dX5_ways_20 : decode cX5_ways 20 = .ok (.aload_n 0, 1) := dk_42 (dk_at dksX5_ways_0 20 rfl rfl)
theorem dX5_ways_21 : decode cX5_ways 21 = .ok (.getfield 411, 3) := dk_180 1 155 (dk_at dksX5_ways_0 21 rfl rfl)
theorem dX5_ways_24 : decode cX5_ways 24 = .ok (.ireturn, 1) := dk_172 (dk_at dksX5_ways_1 0 rfl rfl)
def dkwX5_findAll_1 : List UInt8 := [132, 2, 1, 167, 255, 239, 42, 3, 27, 182, 1, 179, 177]
abbrev dktX5_findAll_1 : List UInt8 := dkwX5_findAll_1 ++ []
def dkwX5_findAll_0 : List UInt8 := [42, 27, 3, 182, 1, 176, 3, 61, 28, 17, 21, 64, 162, 0, 16, 42, 180, 0, 160, 28, 3, 79]
abbrev dktX5_findAll_0 : List UInt8 := dkwX5_findAll_0 ++ dktX5_findAll_1
theorem dksX5_findAll_0 : cX5_findAll.data.toList.drop 0 = dktX5_findAll_0 := by decide +kernel
theorem dksX5_findAll_1 : cX5_findAll.data.toList.drop 22 = dktX5_findAll_1 := dk_seg dksX5_findAll_0 22 rfl rfl
theorem dX5_findAll_0 : decode cX5_findAll 0 = .ok (.aload_n 0, 1) := dk_42 (dk_at dksX5_findAll_0 0 rfl rfl)
theorem dX5_findAll_1 : decode cX5_findAll 1 = .ok (.iload_n 1, 1) := dk_27 (dk_at dksX5_findAll_0 1 rfl rfl)
theorem dX5_findAll_2 : decode cX5_findAll 2 = .ok (.iconst 0, 1) := dk_3 (dk_at dksX5_findAll_0 2 rfl rfl)
theorem dX5_findAll_3 : decode cX5_findAll 3 = .ok (.invokevirtual 432, 3) := dk_182 1 176 (dk_at dksX5_findAll_0 3 rfl rfl)
theorem dX5_findAll_6 : decode cX5_findAll 6 = .ok (.iconst 0, 1) := dk_3 (dk_at dksX5_findAll_0 6 rfl rfl)
theorem dX5_findAll_7 : decode cX5_findAll 7 = .ok (.istore_n 2, 1) := dk_61 (dk_at dksX5_findAll_0 7 rfl rfl)
theorem dX5_findAll_8 : decode cX5_findAll 8 = .ok (.iload_n 2, 1) := dk_28 (dk_at dksX5_findAll_0 8 rfl rfl)
theorem dX5_findAll_9 : decode cX5_findAll 9 = .ok (.sipush 5440, 3) := dk_17 21 64 (dk_at dksX5_findAll_0 9 rfl rfl)
theorem dX5_findAll_12 : decode cX5_findAll 12 = .ok (.if_icmp .ge 16, 3) := dk_162 0 16 (dk_at dksX5_findAll_0 12 rfl rfl)
theorem dX5_findAll_15 : decode cX5_findAll 15 = .ok (.aload_n 0, 1) := dk_42 (dk_at dksX5_findAll_0 15 rfl rfl)
theorem dX5_findAll_16 : decode cX5_findAll 16 = .ok (.getfield 160, 3) := dk_180 0 160 (dk_at dksX5_findAll_0 16 rfl rfl)
theorem dX5_findAll_19 : decode cX5_findAll 19 = .ok (.iload_n 2, 1) := dk_28 (dk_at dksX5_findAll_0 19 rfl rfl)
theorem dX5_findAll_20 : decode cX5_findAll 20 = .ok (.iconst 0, 1) := dk_3 (dk_at dksX5_findAll_0 20 rfl rfl)
theorem dX5_findAll_21 : decode cX5_findAll 21 = .ok (.iastore, 1) := dk_79 (dk_at dksX5_findAll_0 21 rfl rfl)
theorem dX5_findAll_22 : decode cX5_findAll 22 = .ok (.iinc 2 1, 3) := dk_132 2 1 (dk_at dksX5_findAll_1 0 rfl rfl)
theorem dX5_findAll_25 : decode cX5_findAll 25 = .ok (.goto (-17), 3) := dk_167 255 239 (dk_at dksX5_findAll_1 3 rfl rfl)
theorem dX5_findAll_28 : decode cX5_findAll 28 = .ok (.aload_n 0, 1) := dk_42 (dk_at dksX5_findAll_1 6 rfl rfl)
theorem dX5_findAll_29 : decode cX5_findAll 29 = .ok (.iconst 0, 1) := dk_3 (dk_at dksX5_findAll_1 7 rfl rfl)
theorem dX5_findAll_30 : decode cX5_findAll 30 = .ok (.iload_n 1, 1) := dk_27 (dk_at dksX5_findAll_1 8 rfl rfl)
theorem dX5_findAll_31 : decode cX5_findAll 31 = .ok (.invokevirtual 435, 3) := dk_182 1 179 (dk_at dksX5_findAll_1 9 rfl rfl)
theorem dX5_findAll_34 : decode cX5_findAll 34 = .ok (.return_, 1) := dk_177 (dk_at dksX5_findAll_1 12 rfl rfl)
def dkwX5_takes_3 : List UInt8 := [167, 255, 198, 177]
abbrev dktX5_takes_3 : List UInt8 := dkwX5_takes_3 ++ []
def dkwX5_takes_2 : List UInt8 := [42, 180, 0, 145, 42, 180, 1, 158, 29, 79, 42, 89, 180, 1, 158, 4, 96, 181, 1, 158, 132, 3, 1]
abbrev dktX5_takes_2 : List UInt8 := dkwX5_takes_2 ++ dktX5_takes_3
def dkwX5_takes_1 : List UInt8 := [182, 1, 173, 153, 0, 41, 28, 29, 122, 4, 126, 4, 160, 0, 6, 167, 0, 29, 42, 29, 27, 182, 1, 145]
abbrev dktX5_takes_1 : List UInt8 := dkwX5_takes_1 ++ dktX5_takes_2
def dkwX5_takes_0 : List UInt8 := [42, 27, 182, 1, 89, 42, 3, 181, 1, 158, 3, 62, 29, 42, 180, 1, 127, 162, 0, 56, 42, 29, 27]
abbrev dktX5_takes_0 : List UInt8 := dkwX5_takes_0 ++ dktX5_takes_1
theorem dksX5_takes_0 : cX5_takes.data.toList.drop 0 = dktX5_takes_0 := by decide +kernel
theorem dksX5_takes_1 : cX5_takes.data.toList.drop 23 = dktX5_takes_1 := dk_seg dksX5_takes_0 23 rfl rfl
theorem dksX5_takes_2 : cX5_takes.data.toList.drop 47 = dktX5_takes_2 := dk_seg dksX5_takes_1 24 rfl rfl
theorem dksX5_takes_3 : cX5_takes.data.toList.drop 70 = dktX5_takes_3 := dk_seg dksX5_takes_2 23 rfl rfl
theorem dX5_takes_0 : decode cX5_takes 0 = .ok (.aload_n 0, 1) := dk_42 (dk_at dksX5_takes_0 0 rfl rfl)
theorem dX5_takes_1 : decode cX5_takes 1 = .ok (.iload_n 1, 1) := dk_27 (dk_at dksX5_takes_0 1 rfl rfl)
theorem dX5_takes_2 : decode cX5_takes 2 = .ok (.invokevirtual 345, 3) := dk_182 1 89 (dk_at dksX5_takes_0 2 rfl rfl)
theorem dX5_takes_5 : decode cX5_takes 5 = .ok (.aload_n 0, 1) := dk_42 (dk_at dksX5_takes_0 5 rfl rfl)
theorem dX5_takes_6 : decode cX5_takes 6 = .ok (.iconst 0, 1) := dk_3 (dk_at dksX5_takes_0 6 rfl rfl)
theorem dX5_takes_7 : decode cX5_takes 7 = .ok (.putfield 414, 3) := dk_181 1 158 (dk_at dksX5_takes_0 7 rfl rfl)
theorem dX5_takes_10 : decode cX5_takes 10 = .ok (.iconst 0, 1) := dk_3 (dk_at dksX5_takes_0 10 rfl rfl)
theorem dX5_takes_11 : decode cX5_takes 11 = .ok (.istore_n 3, 1) := dk_62 (dk_at dksX5_takes_0 11 rfl rfl)
theorem dX5_takes_12 : decode cX5_takes 12 = .ok (.iload_n 3, 1) := dk_29 (dk_at dksX5_takes_0 12 rfl rfl)
theorem dX5_takes_13 : decode cX5_takes 13 = .ok (.aload_n 0, 1) := dk_42 (dk_at dksX5_takes_0 13 rfl rfl)
theorem dX5_takes_14 : decode cX5_takes 14 = .ok (.getfield 383, 3) := dk_180 1 127 (dk_at dksX5_takes_0 14 rfl rfl)
theorem dX5_takes_17 : decode cX5_takes 17 = .ok (.if_icmp .ge 56, 3) := dk_162 0 56 (dk_at dksX5_takes_0 17 rfl rfl)
theorem dX5_takes_20 : decode cX5_takes 20 = .ok (.aload_n 0, 1) := dk_42 (dk_at dksX5_takes_0 20 rfl rfl)
theorem dX5_takes_21 : decode cX5_takes 21 = .ok (.iload_n 3, 1) := dk_29 (dk_at dksX5_takes_0 21 rfl rfl)
theorem dX5_takes_22 : decode cX5_takes 22 = .ok (.iload_n 1, 1) := dk_27 (dk_at dksX5_takes_0 22 rfl rfl)
theorem dX5_takes_23 : decode cX5_takes 23 = .ok (.invokevirtual 429, 3) := dk_182 1 173 (dk_at dksX5_takes_1 0 rfl rfl)
theorem dX5_takes_26 : decode cX5_takes 26 = .ok (.ifCond .eq 41, 3) := dk_153 0 41 (dk_at dksX5_takes_1 3 rfl rfl)
theorem dX5_takes_29 : decode cX5_takes 29 = .ok (.iload_n 2, 1) := dk_28 (dk_at dksX5_takes_1 6 rfl rfl)
theorem dX5_takes_30 : decode cX5_takes 30 = .ok (.iload_n 3, 1) := dk_29 (dk_at dksX5_takes_1 7 rfl rfl)
theorem dX5_takes_31 : decode cX5_takes 31 = .ok (.ishr, 1) := dk_122 (dk_at dksX5_takes_1 8 rfl rfl)
theorem dX5_takes_32 : decode cX5_takes 32 = .ok (.iconst 1, 1) := dk_4 (dk_at dksX5_takes_1 9 rfl rfl)
theorem dX5_takes_33 : decode cX5_takes 33 = .ok (.iand, 1) := dk_126 (dk_at dksX5_takes_1 10 rfl rfl)
theorem dX5_takes_34 : decode cX5_takes 34 = .ok (.iconst 1, 1) := dk_4 (dk_at dksX5_takes_1 11 rfl rfl)
theorem dX5_takes_35 : decode cX5_takes 35 = .ok (.if_icmp .ne 6, 3) := dk_160 0 6 (dk_at dksX5_takes_1 12 rfl rfl)
theorem dX5_takes_38 : decode cX5_takes 38 = .ok (.goto 29, 3) := dk_167 0 29 (dk_at dksX5_takes_1 15 rfl rfl)
theorem dX5_takes_41 : decode cX5_takes 41 = .ok (.aload_n 0, 1) := dk_42 (dk_at dksX5_takes_1 18 rfl rfl)
theorem dX5_takes_42 : decode cX5_takes 42 = .ok (.iload_n 3, 1) := dk_29 (dk_at dksX5_takes_1 19 rfl rfl)
theorem dX5_takes_43 : decode cX5_takes 43 = .ok (.iload_n 1, 1) := dk_27 (dk_at dksX5_takes_1 20 rfl rfl)
theorem dX5_takes_44 : decode cX5_takes 44 = .ok (.invokevirtual 401, 3) := dk_182 1 145 (dk_at dksX5_takes_1 21 rfl rfl)
theorem dX5_takes_47 : decode cX5_takes 47 = .ok (.aload_n 0, 1) := dk_42 (dk_at dksX5_takes_2 0 rfl rfl)
theorem dX5_takes_48 : decode cX5_takes 48 = .ok (.getfield 145, 3) := dk_180 0 145 (dk_at dksX5_takes_2 1 rfl rfl)
theorem dX5_takes_51 : decode cX5_takes 51 = .ok (.aload_n 0, 1) := dk_42 (dk_at dksX5_takes_2 4 rfl rfl)
theorem dX5_takes_52 : decode cX5_takes 52 = .ok (.getfield 414, 3) := dk_180 1 158 (dk_at dksX5_takes_2 5 rfl rfl)
theorem dX5_takes_55 : decode cX5_takes 55 = .ok (.iload_n 3, 1) := dk_29 (dk_at dksX5_takes_2 8 rfl rfl)
theorem dX5_takes_56 : decode cX5_takes 56 = .ok (.iastore, 1) := dk_79 (dk_at dksX5_takes_2 9 rfl rfl)
theorem dX5_takes_57 : decode cX5_takes 57 = .ok (.aload_n 0, 1) := dk_42 (dk_at dksX5_takes_2 10 rfl rfl)
theorem dX5_takes_58 : decode cX5_takes 58 = .ok (.dup, 1) := dk_89 (dk_at dksX5_takes_2 11 rfl rfl)
theorem dX5_takes_59 : decode cX5_takes 59 = .ok (.getfield 414, 3) := dk_180 1 158 (dk_at dksX5_takes_2 12 rfl rfl)
theorem dX5_takes_62 : decode cX5_takes 62 = .ok (.iconst 1, 1) := dk_4 (dk_at dksX5_takes_2 15 rfl rfl)
theorem dX5_takes_63 : decode cX5_takes 63 = .ok (.iadd, 1) := dk_96 (dk_at dksX5_takes_2 16 rfl rfl)
theorem dX5_takes_64 : decode cX5_takes 64 = .ok (.putfield 414, 3) := dk_181 1 158 (dk_at dksX5_takes_2 17 rfl rfl)
theorem dX5_takes_67 : decode cX5_takes 67 = .ok (.iinc 3 1, 3) := dk_132 3 1 (dk_at dksX5_takes_2 20 rfl rfl)
theorem dX5_takes_70 : decode cX5_takes 70 = .ok (.goto (-58), 3) := dk_167 255 198 (dk_at dksX5_takes_3 0 rfl rfl)
theorem dX5_takes_73 : decode cX5_takes 73 = .ok (.return_, 1) := dk_177 (dk_at dksX5_takes_3 3 rfl rfl)
def dkwX5_nameCounts_1 : List UInt8 := [27, 46, 28, 182, 1, 58, 153, 0, 7, 4, 167, 0, 4, 3, 172]
abbrev dktX5_nameCounts_1 : List UInt8 := dkwX5_nameCounts_1 ++ []
def dkwX5_nameCounts_0 : List UInt8 := [42, 180, 0, 130, 27, 46, 42, 180, 0, 133, 27, 46, 28, 184, 0, 177, 153, 0, 21, 42, 42, 180, 0, 127]
abbrev dktX5_nameCounts_0 : List UInt8 := dkwX5_nameCounts_0 ++ dktX5_nameCounts_1
theorem dksX5_nameCounts_0 : cX5_nameCounts.data.toList.drop 0 = dktX5_nameCounts_0 := by decide +kernel
theorem dksX5_nameCounts_1 : cX5_nameCounts.data.toList.drop 24 = dktX5_nameCounts_1 := dk_seg dksX5_nameCounts_0 24 rfl rfl
theorem dX5_nameCounts_0 : decode cX5_nameCounts 0 = .ok (.aload_n 0, 1) := dk_42 (dk_at dksX5_nameCounts_0 0 rfl rfl)
theorem dX5_nameCounts_1 : decode cX5_nameCounts 1 = .ok (.getfield 130, 3) := dk_180 0 130 (dk_at dksX5_nameCounts_0 1 rfl rfl)
theorem dX5_nameCounts_4 : decode cX5_nameCounts 4 = .ok (.iload_n 1, 1) := dk_27 (dk_at dksX5_nameCounts_0 4 rfl rfl)
theorem dX5_nameCounts_5 : decode cX5_nameCounts 5 = .ok (.iaload, 1) := dk_46 (dk_at dksX5_nameCounts_0 5 rfl rfl)
theorem dX5_nameCounts_6 : decode cX5_nameCounts 6 = .ok (.aload_n 0, 1) := dk_42 (dk_at dksX5_nameCounts_0 6 rfl rfl)
theorem dX5_nameCounts_7 : decode cX5_nameCounts 7 = .ok (.getfield 133, 3) := dk_180 0 133 (dk_at dksX5_nameCounts_0 7 rfl rfl)
theorem dX5_nameCounts_10 : decode cX5_nameCounts 10 = .ok (.iload_n 1, 1) := dk_27 (dk_at dksX5_nameCounts_0 10 rfl rfl)
theorem dX5_nameCounts_11 : decode cX5_nameCounts 11 = .ok (.iaload, 1) := dk_46 (dk_at dksX5_nameCounts_0 11 rfl rfl)
theorem dX5_nameCounts_12 : decode cX5_nameCounts 12 = .ok (.iload_n 2, 1) := dk_28 (dk_at dksX5_nameCounts_0 12 rfl rfl)
theorem dX5_nameCounts_13 : decode cX5_nameCounts 13 = .ok (.invokestatic 177, 3) := dk_184 0 177 (dk_at dksX5_nameCounts_0 13 rfl rfl)
theorem dX5_nameCounts_16 : decode cX5_nameCounts 16 = .ok (.ifCond .eq 21, 3) := dk_153 0 21 (dk_at dksX5_nameCounts_0 16 rfl rfl)
theorem dX5_nameCounts_19 : decode cX5_nameCounts 19 = .ok (.aload_n 0, 1) := dk_42 (dk_at dksX5_nameCounts_0 19 rfl rfl)
theorem dX5_nameCounts_20 : decode cX5_nameCounts 20 = .ok (.aload_n 0, 1) := dk_42 (dk_at dksX5_nameCounts_0 20 rfl rfl)
theorem dX5_nameCounts_21 : decode cX5_nameCounts 21 = .ok (.getfield 127, 3) := dk_180 0 127 (dk_at dksX5_nameCounts_0 21 rfl rfl)
theorem dX5_nameCounts_24 : decode cX5_nameCounts 24 = .ok (.iload_n 1, 1) := dk_27 (dk_at dksX5_nameCounts_1 0 rfl rfl)
theorem dX5_nameCounts_25 : decode cX5_nameCounts 25 = .ok (.iaload, 1) := dk_46 (dk_at dksX5_nameCounts_1 1 rfl rfl)
theorem dX5_nameCounts_26 : decode cX5_nameCounts 26 = .ok (.iload_n 2, 1) := dk_28 (dk_at dksX5_nameCounts_1 2 rfl rfl)
theorem dX5_nameCounts_27 : decode cX5_nameCounts 27 = .ok (.invokevirtual 314, 3) := dk_182 1 58 (dk_at dksX5_nameCounts_1 3 rfl rfl)
theorem dX5_nameCounts_30 : decode cX5_nameCounts 30 = .ok (.ifCond .eq 7, 3) := dk_153 0 7 (dk_at dksX5_nameCounts_1 6 rfl rfl)
theorem dX5_nameCounts_33 : decode cX5_nameCounts 33 = .ok (.iconst 1, 1) := dk_4 (dk_at dksX5_nameCounts_1 9 rfl rfl)
theorem dX5_nameCounts_34 : decode cX5_nameCounts 34 = .ok (.goto 4, 3) := dk_167 0 4 (dk_at dksX5_nameCounts_1 10 rfl rfl)
theorem dX5_nameCounts_37 : decode cX5_nameCounts 37 = .ok (.iconst 0, 1) := dk_3 (dk_at dksX5_nameCounts_1 13 rfl rfl)
theorem dX5_nameCounts_38 : decode cX5_nameCounts 38 = .ok (.ireturn, 1) := dk_172 (dk_at dksX5_nameCounts_1 14 rfl rfl)
def dkwX5_goesThrough_6 : List UInt8 := [167, 255, 167, 177]
abbrev dktX5_goesThrough_6 : List UInt8 := dkwX5_goesThrough_6 ++ []
def dkwX5_goesThrough_5 : List UInt8 := [160, 0, 14, 42, 27, 28, 182, 1, 167, 54, 4, 167, 255, 180, 132, 3, 1, 42, 180, 0, 148, 29, 2, 79]
abbrev dktX5_goesThrough_5 : List UInt8 := dkwX5_goesThrough_5 ++ dktX5_goesThrough_6
def dkwX5_goesThrough_4 : List UInt8 := [160, 0, 9, 132, 3, 255, 167, 255, 209, 42, 29, 182, 1, 170, 153, 255, 201, 29, 4, 96, 42, 180, 1, 158]
abbrev dktX5_goesThrough_4 : List UInt8 := dkwX5_goesThrough_4 ++ dktX5_goesThrough_5
def dkwX5_goesThrough_3 : List UInt8 := [96, 79, 42, 180, 0, 148, 29, 46, 42, 180, 0, 20, 42, 180, 0, 127, 42, 180, 0, 145, 29, 46, 46, 46]
abbrev dktX5_goesThrough_3 : List UInt8 := dkwX5_goesThrough_3 ++ dktX5_goesThrough_4
def dkwX5_goesThrough_2 : List UInt8 := [28, 182, 1, 167, 54, 4, 177, 29, 155, 0, 91, 21, 4, 153, 0, 86, 42, 180, 0, 148, 29, 92, 46, 4]
abbrev dktX5_goesThrough_2 : List UInt8 := dkwX5_goesThrough_2 ++ dktX5_goesThrough_3
def dkwX5_goesThrough_1 : List UInt8 := [167, 255, 240, 3, 62, 42, 180, 0, 148, 3, 2, 79, 4, 54, 4, 42, 180, 1, 158, 154, 0, 12, 42, 27]
abbrev dktX5_goesThrough_1 : List UInt8 := dkwX5_goesThrough_1 ++ dktX5_goesThrough_2
def dkwX5_goesThrough_0 : List UInt8 := [42, 3, 181, 1, 155, 3, 62, 29, 16, 40, 162, 0, 16, 42, 180, 0, 151, 29, 2, 79, 132, 3, 1]
abbrev dktX5_goesThrough_0 : List UInt8 := dkwX5_goesThrough_0 ++ dktX5_goesThrough_1
theorem dksX5_goesThrough_0 : cX5_goesThrough.data.toList.drop 0 = dktX5_goesThrough_0 := by decide +kernel
theorem dksX5_goesThrough_1 : cX5_goesThrough.data.toList.drop 23 = dktX5_goesThrough_1 := dk_seg dksX5_goesThrough_0 23 rfl rfl
theorem dksX5_goesThrough_2 : cX5_goesThrough.data.toList.drop 47 = dktX5_goesThrough_2 := dk_seg dksX5_goesThrough_1 24 rfl rfl
theorem dksX5_goesThrough_3 : cX5_goesThrough.data.toList.drop 71 = dktX5_goesThrough_3 := dk_seg dksX5_goesThrough_2 24 rfl rfl
theorem dksX5_goesThrough_4 : cX5_goesThrough.data.toList.drop 95 = dktX5_goesThrough_4 := dk_seg dksX5_goesThrough_3 24 rfl rfl
theorem dksX5_goesThrough_5 : cX5_goesThrough.data.toList.drop 119 = dktX5_goesThrough_5 := dk_seg dksX5_goesThrough_4 24 rfl rfl
theorem dksX5_goesThrough_6 : cX5_goesThrough.data.toList.drop 143 = dktX5_goesThrough_6 := dk_seg dksX5_goesThrough_5 24 rfl rfl
theorem dX5_goesThrough_0 : decode cX5_goesThrough 0 = .ok (.aload_n 0, 1) := dk_42 (dk_at dksX5_goesThrough_0 0 rfl rfl)
theorem dX5_goesThrough_1 : decode cX5_goesThrough 1 = .ok (.iconst 0, 1) := dk_3 (dk_at dksX5_goesThrough_0 1 rfl rfl)
theorem dX5_goesThrough_2 : decode cX5_goesThrough 2 = .ok (.putfield 411, 3) := dk_181 1 155 (dk_at dksX5_goesThrough_0 2 rfl rfl)
theorem dX5_goesThrough_5 : decode cX5_goesThrough 5 = .ok (.iconst 0, 1) := dk_3 (dk_at dksX5_goesThrough_0 5 rfl rfl)
theorem dX5_goesThrough_6 : decode cX5_goesThrough 6 = .ok (.istore_n 3, 1) := dk_62 (dk_at dksX5_goesThrough_0 6 rfl rfl)
theorem dX5_goesThrough_7 : decode cX5_goesThrough 7 = .ok (.iload_n 3, 1) := dk_29 (dk_at dksX5_goesThrough_0 7 rfl rfl)
theorem dX5_goesThrough_8 : decode cX5_goesThrough 8 = .ok (.bipush 40, 2) := dk_16 40 (dk_at dksX5_goesThrough_0 8 rfl rfl)
theorem dX5_goesThrough_10 : decode cX5_goesThrough 10 = .ok (.if_icmp .ge 16, 3) := dk_162 0 16 (dk_at dksX5_goesThrough_0 10 rfl rfl)
theorem dX5_goesThrough_13 : decode cX5_goesThrough 13 = .ok (.aload_n 0, 1) := dk_42 (dk_at dksX5_goesThrough_0 13 rfl rfl)
theorem dX5_goesThrough_14 : decode cX5_goesThrough 14 = .ok (.getfield 151, 3) := dk_180 0 151 (dk_at dksX5_goesThrough_0 14 rfl rfl)
theorem dX5_goesThrough_17 : decode cX5_goesThrough 17 = .ok (.iload_n 3, 1) := dk_29 (dk_at dksX5_goesThrough_0 17 rfl rfl)
theorem dX5_goesThrough_18 : decode cX5_goesThrough 18 = .ok (.iconst (-1), 1) := dk_2 (dk_at dksX5_goesThrough_0 18 rfl rfl)
theorem dX5_goesThrough_19 : decode cX5_goesThrough 19 = .ok (.iastore, 1) := dk_79 (dk_at dksX5_goesThrough_0 19 rfl rfl)
theorem dX5_goesThrough_20 : decode cX5_goesThrough 20 = .ok (.iinc 3 1, 3) := dk_132 3 1 (dk_at dksX5_goesThrough_0 20 rfl rfl)
theorem dX5_goesThrough_23 : decode cX5_goesThrough 23 = .ok (.goto (-16), 3) := dk_167 255 240 (dk_at dksX5_goesThrough_1 0 rfl rfl)
theorem dX5_goesThrough_26 : decode cX5_goesThrough 26 = .ok (.iconst 0, 1) := dk_3 (dk_at dksX5_goesThrough_1 3 rfl rfl)
theorem dX5_goesThrough_27 : decode cX5_goesThrough 27 = .ok (.istore_n 3, 1) := dk_62 (dk_at dksX5_goesThrough_1 4 rfl rfl)
theorem dX5_goesThrough_28 : decode cX5_goesThrough 28 = .ok (.aload_n 0, 1) := dk_42 (dk_at dksX5_goesThrough_1 5 rfl rfl)
theorem dX5_goesThrough_29 : decode cX5_goesThrough 29 = .ok (.getfield 148, 3) := dk_180 0 148 (dk_at dksX5_goesThrough_1 6 rfl rfl)
theorem dX5_goesThrough_32 : decode cX5_goesThrough 32 = .ok (.iconst 0, 1) := dk_3 (dk_at dksX5_goesThrough_1 9 rfl rfl)
theorem dX5_goesThrough_33 : decode cX5_goesThrough 33 = .ok (.iconst (-1), 1) := dk_2 (dk_at dksX5_goesThrough_1 10 rfl rfl)
theorem dX5_goesThrough_34 : decode cX5_goesThrough 34 = .ok (.iastore, 1) := dk_79 (dk_at dksX5_goesThrough_1 11 rfl rfl)
theorem dX5_goesThrough_35 : decode cX5_goesThrough 35 = .ok (.iconst 1, 1) := dk_4 (dk_at dksX5_goesThrough_1 12 rfl rfl)
theorem dX5_goesThrough_36 : decode cX5_goesThrough 36 = .ok (.istore 4, 2) := dk_54 4 (dk_at dksX5_goesThrough_1 13 rfl rfl)
theorem dX5_goesThrough_38 : decode cX5_goesThrough 38 = .ok (.aload_n 0, 1) := dk_42 (dk_at dksX5_goesThrough_1 15 rfl rfl)
theorem dX5_goesThrough_39 : decode cX5_goesThrough 39 = .ok (.getfield 414, 3) := dk_180 1 158 (dk_at dksX5_goesThrough_1 16 rfl rfl)
theorem dX5_goesThrough_42 : decode cX5_goesThrough 42 = .ok (.ifCond .ne 12, 3) := dk_154 0 12 (dk_at dksX5_goesThrough_1 19 rfl rfl)
theorem dX5_goesThrough_45 : decode cX5_goesThrough 45 = .ok (.aload_n 0, 1) := dk_42 (dk_at dksX5_goesThrough_1 22 rfl rfl)
theorem dX5_goesThrough_46 : decode cX5_goesThrough 46 = .ok (.iload_n 1, 1) := dk_27 (dk_at dksX5_goesThrough_1 23 rfl rfl)
theorem dX5_goesThrough_47 : decode cX5_goesThrough 47 = .ok (.iload_n 2, 1) := dk_28 (dk_at dksX5_goesThrough_2 0 rfl rfl)
theorem dX5_goesThrough_48 : decode cX5_goesThrough 48 = .ok (.invokevirtual 423, 3) := dk_182 1 167 (dk_at dksX5_goesThrough_2 1 rfl rfl)
theorem dX5_goesThrough_51 : decode cX5_goesThrough 51 = .ok (.istore 4, 2) := dk_54 4 (dk_at dksX5_goesThrough_2 4 rfl rfl)
theorem dX5_goesThrough_53 : decode cX5_goesThrough 53 = .ok (.return_, 1) := dk_177 (dk_at dksX5_goesThrough_2 6 rfl rfl)
theorem dX5_goesThrough_54 : decode cX5_goesThrough 54 = .ok (.iload_n 3, 1) := dk_29 (dk_at dksX5_goesThrough_2 7 rfl rfl)
theorem dX5_goesThrough_55 : decode cX5_goesThrough 55 = .ok (.ifCond .lt 91, 3) := dk_155 0 91 (dk_at dksX5_goesThrough_2 8 rfl rfl)
theorem dX5_goesThrough_58 : decode cX5_goesThrough 58 = .ok (.iload 4, 2) := dk_21 4 (dk_at dksX5_goesThrough_2 11 rfl rfl)
theorem dX5_goesThrough_60 : decode cX5_goesThrough 60 = .ok (.ifCond .eq 86, 3) := dk_153 0 86 (dk_at dksX5_goesThrough_2 13 rfl rfl)
theorem dX5_goesThrough_63 : decode cX5_goesThrough 63 = .ok (.aload_n 0, 1) := dk_42 (dk_at dksX5_goesThrough_2 16 rfl rfl)
theorem dX5_goesThrough_64 : decode cX5_goesThrough 64 = .ok (.getfield 148, 3) := dk_180 0 148 (dk_at dksX5_goesThrough_2 17 rfl rfl)
theorem dX5_goesThrough_67 : decode cX5_goesThrough 67 = .ok (.iload_n 3, 1) := dk_29 (dk_at dksX5_goesThrough_2 20 rfl rfl)
theorem dX5_goesThrough_68 : decode cX5_goesThrough 68 = .ok (.dup2, 1) := dk_92 (dk_at dksX5_goesThrough_2 21 rfl rfl)
theorem dX5_goesThrough_69 : decode cX5_goesThrough 69 = .ok (.iaload, 1) := dk_46 (dk_at dksX5_goesThrough_2 22 rfl rfl)
theorem dX5_goesThrough_70 : decode cX5_goesThrough 70 = .ok (.iconst 1, 1) := dk_4 (dk_at dksX5_goesThrough_2 23 rfl rfl)
theorem dX5_goesThrough_71 : decode cX5_goesThrough 71 = .ok (.iadd, 1) := dk_96 (dk_at dksX5_goesThrough_3 0 rfl rfl)
theorem dX5_goesThrough_72 : decode cX5_goesThrough 72 = .ok (.iastore, 1) := dk_79 (dk_at dksX5_goesThrough_3 1 rfl rfl)
theorem dX5_goesThrough_73 : decode cX5_goesThrough 73 = .ok (.aload_n 0, 1) := dk_42 (dk_at dksX5_goesThrough_3 2 rfl rfl)
theorem dX5_goesThrough_74 : decode cX5_goesThrough 74 = .ok (.getfield 148, 3) := dk_180 0 148 (dk_at dksX5_goesThrough_3 3 rfl rfl)
theorem dX5_goesThrough_77 : decode cX5_goesThrough 77 = .ok (.iload_n 3, 1) := dk_29 (dk_at dksX5_goesThrough_3 6 rfl rfl)
theorem dX5_goesThrough_78 : decode cX5_goesThrough 78 = .ok (.iaload, 1) := dk_46 (dk_at dksX5_goesThrough_3 7 rfl rfl)
theorem dX5_goesThrough_79 : decode cX5_goesThrough 79 = .ok (.aload_n 0, 1) := dk_42 (dk_at dksX5_goesThrough_3 8 rfl rfl)
theorem dX5_goesThrough_80 : decode cX5_goesThrough 80 = .ok (.getfield 20, 3) := dk_180 0 20 (dk_at dksX5_goesThrough_3 9 rfl rfl)
theorem dX5_goesThrough_83 : decode cX5_goesThrough 83 = .ok (.aload_n 0, 1) := dk_42 (dk_at dksX5_goesThrough_3 12 rfl rfl)
theorem dX5_goesThrough_84 : decode cX5_goesThrough 84 = .ok (.getfield 127, 3) := dk_180 0 127 (dk_at dksX5_goesThrough_3 13 rfl rfl)
theorem dX5_goesThrough_87 : decode cX5_goesThrough 87 = .ok (.aload_n 0, 1) := dk_42 (dk_at dksX5_goesThrough_3 16 rfl rfl)
theorem dX5_goesThrough_88 : decode cX5_goesThrough 88 = .ok (.getfield 145, 3) := dk_180 0 145 (dk_at dksX5_goesThrough_3 17 rfl rfl)
theorem dX5_goesThrough_91 : decode cX5_goesThrough 91 = .ok (.iload_n 3, 1) := dk_29 (dk_at dksX5_goesThrough_3 20 rfl rfl)
theorem dX5_goesThrough_92 : decode cX5_goesThrough 92 = .ok (.iaload, 1) := dk_46 (dk_at dksX5_goesThrough_3 21 rfl rfl)
theorem dX5_goesThrough_93 : decode cX5_goesThrough 93 = .ok (.iaload, 1) := dk_46 (dk_at dksX5_goesThrough_3 22 rfl rfl)
theorem dX5_goesThrough_94 : decode cX5_goesThrough 94 = .ok (.iaload, 1) := dk_46 (dk_at dksX5_goesThrough_3 23 rfl rfl)
theorem dX5_goesThrough_95 : decode cX5_goesThrough 95 = .ok (.if_icmp .ne 9, 3) := dk_160 0 9 (dk_at dksX5_goesThrough_4 0 rfl rfl)
theorem dX5_goesThrough_98 : decode cX5_goesThrough 98 = .ok (.iinc 3 (-1), 3) := dk_132 3 255 (dk_at dksX5_goesThrough_4 3 rfl rfl)
theorem dX5_goesThrough_101 : decode cX5_goesThrough 101 = .ok (.goto (-47), 3) := dk_167 255 209 (dk_at dksX5_goesThrough_4 6 rfl rfl)
theorem dX5_goesThrough_104 : decode cX5_goesThrough 104 = .ok (.aload_n 0, 1) := dk_42 (dk_at dksX5_goesThrough_4 9 rfl rfl)
theorem dX5_goesThrough_105 : decode cX5_goesThrough 105 = .ok (.iload_n 3, 1) := dk_29 (dk_at dksX5_goesThrough_4 10 rfl rfl)
theorem dX5_goesThrough_106 : decode cX5_goesThrough 106 = .ok (.invokevirtual 426, 3) := dk_182 1 170 (dk_at dksX5_goesThrough_4 11 rfl rfl)
theorem dX5_goesThrough_109 : decode cX5_goesThrough 109 = .ok (.ifCond .eq (-55), 3) := dk_153 255 201 (dk_at dksX5_goesThrough_4 14 rfl rfl)
theorem dX5_goesThrough_112 : decode cX5_goesThrough 112 = .ok (.iload_n 3, 1) := dk_29 (dk_at dksX5_goesThrough_4 17 rfl rfl)
theorem dX5_goesThrough_113 : decode cX5_goesThrough 113 = .ok (.iconst 1, 1) := dk_4 (dk_at dksX5_goesThrough_4 18 rfl rfl)
theorem dX5_goesThrough_114 : decode cX5_goesThrough 114 = .ok (.iadd, 1) := dk_96 (dk_at dksX5_goesThrough_4 19 rfl rfl)
theorem dX5_goesThrough_115 : decode cX5_goesThrough 115 = .ok (.aload_n 0, 1) := dk_42 (dk_at dksX5_goesThrough_4 20 rfl rfl)
theorem dX5_goesThrough_116 : decode cX5_goesThrough 116 = .ok (.getfield 414, 3) := dk_180 1 158 (dk_at dksX5_goesThrough_4 21 rfl rfl)
theorem dX5_goesThrough_119 : decode cX5_goesThrough 119 = .ok (.if_icmp .ne 14, 3) := dk_160 0 14 (dk_at dksX5_goesThrough_5 0 rfl rfl)
theorem dX5_goesThrough_122 : decode cX5_goesThrough 122 = .ok (.aload_n 0, 1) := dk_42 (dk_at dksX5_goesThrough_5 3 rfl rfl)
theorem dX5_goesThrough_123 : decode cX5_goesThrough 123 = .ok (.iload_n 1, 1) := dk_27 (dk_at dksX5_goesThrough_5 4 rfl rfl)
theorem dX5_goesThrough_124 : decode cX5_goesThrough 124 = .ok (.iload_n 2, 1) := dk_28 (dk_at dksX5_goesThrough_5 5 rfl rfl)
theorem dX5_goesThrough_125 : decode cX5_goesThrough 125 = .ok (.invokevirtual 423, 3) := dk_182 1 167 (dk_at dksX5_goesThrough_5 6 rfl rfl)
theorem dX5_goesThrough_128 : decode cX5_goesThrough 128 = .ok (.istore 4, 2) := dk_54 4 (dk_at dksX5_goesThrough_5 9 rfl rfl)
theorem dX5_goesThrough_130 : decode cX5_goesThrough 130 = .ok (.goto (-76), 3) := dk_167 255 180 (dk_at dksX5_goesThrough_5 11 rfl rfl)
theorem dX5_goesThrough_133 : decode cX5_goesThrough 133 = .ok (.iinc 3 1, 3) := dk_132 3 1 (dk_at dksX5_goesThrough_5 14 rfl rfl)
theorem dX5_goesThrough_136 : decode cX5_goesThrough 136 = .ok (.aload_n 0, 1) := dk_42 (dk_at dksX5_goesThrough_5 17 rfl rfl)
theorem dX5_goesThrough_137 : decode cX5_goesThrough 137 = .ok (.getfield 148, 3) := dk_180 0 148 (dk_at dksX5_goesThrough_5 18 rfl rfl)
theorem dX5_goesThrough_140 : decode cX5_goesThrough 140 = .ok (.iload_n 3, 1) := dk_29 (dk_at dksX5_goesThrough_5 21 rfl rfl)
theorem dX5_goesThrough_141 : decode cX5_goesThrough 141 = .ok (.iconst (-1), 1) := dk_2 (dk_at dksX5_goesThrough_5 22 rfl rfl)
theorem dX5_goesThrough_142 : decode cX5_goesThrough 142 = .ok (.iastore, 1) := dk_79 (dk_at dksX5_goesThrough_5 23 rfl rfl)
theorem dX5_goesThrough_143 : decode cX5_goesThrough 143 = .ok (.goto (-89), 3) := dk_167 255 167 (dk_at dksX5_goesThrough_6 0 rfl rfl)
theorem dX5_goesThrough_146 : decode cX5_goesThrough 146 = .ok (.return_, 1) := dk_177 (dk_at dksX5_goesThrough_6 3 rfl rfl)
def dkwX5_meets_8 : List UInt8 := [3, 172]
abbrev dktX5_meets_8 : List UInt8 := dkwX5_meets_8 ++ []
def dkwX5_meets_7 : List UInt8 := [167, 255, 230, 3, 172, 27, 6, 160, 0, 8, 42, 28, 182, 1, 164, 27, 4, 159, 0, 7, 4, 167, 0, 4]
abbrev dktX5_meets_7 : List UInt8 := dkwX5_meets_7 ++ dktX5_meets_8
def dkwX5_meets_6 : List UInt8 := [180, 1, 158, 162, 0, 23, 42, 180, 0, 154, 21, 4, 42, 180, 0, 148, 21, 4, 46, 79, 132, 4, 1]
abbrev dktX5_meets_6 : List UInt8 := dkwX5_meets_6 ++ dktX5_meets_7
def dkwX5_meets_5 : List UInt8 := [42, 180, 0, 151, 29, 21, 4, 96, 46, 79, 132, 4, 1, 167, 255, 230, 3, 54, 4, 21, 4, 42]
abbrev dktX5_meets_5 : List UInt8 := dkwX5_meets_5 ++ dktX5_meets_6
def dkwX5_meets_4 : List UInt8 := [100, 42, 180, 1, 161, 160, 0, 69, 3, 54, 4, 21, 4, 16, 40, 162, 0, 25, 42, 180, 0, 157, 21, 4]
abbrev dktX5_meets_4 : List UInt8 := dkwX5_meets_4 ++ dktX5_meets_5
def dkwX5_meets_3 : List UInt8 := [92, 46, 4, 96, 79, 132, 4, 1, 167, 255, 202, 167, 0, 97, 27, 5, 160, 0, 82, 42, 180, 1, 155, 4]
abbrev dktX5_meets_3 : List UInt8 := dkwX5_meets_3 ++ dktX5_meets_4
def dkwX5_meets_2 : List UInt8 := [21, 4, 96, 46, 2, 160, 0, 9, 17, 0, 135, 167, 0, 12, 42, 180, 0, 151, 29, 21, 4, 96, 46, 96]
abbrev dktX5_meets_2 : List UInt8 := dkwX5_meets_2 ++ dktX5_meets_3
def dkwX5_meets_1 : List UInt8 := [54, 4, 21, 4, 16, 40, 162, 0, 53, 42, 180, 0, 160, 17, 0, 136, 21, 4, 104, 42, 180, 0, 151, 29]
abbrev dktX5_meets_1 : List UInt8 := dkwX5_meets_1 ++ dktX5_meets_2
def dkwX5_meets_0 : List UInt8 := [42, 89, 180, 1, 155, 4, 96, 181, 1, 155, 16, 40, 42, 180, 1, 158, 104, 62, 27, 154, 0, 66, 3]
abbrev dktX5_meets_0 : List UInt8 := dkwX5_meets_0 ++ dktX5_meets_1
theorem dksX5_meets_0 : cX5_meets.data.toList.drop 0 = dktX5_meets_0 := by decide +kernel
theorem dksX5_meets_1 : cX5_meets.data.toList.drop 23 = dktX5_meets_1 := dk_seg dksX5_meets_0 23 rfl rfl
theorem dksX5_meets_2 : cX5_meets.data.toList.drop 47 = dktX5_meets_2 := dk_seg dksX5_meets_1 24 rfl rfl
theorem dksX5_meets_3 : cX5_meets.data.toList.drop 71 = dktX5_meets_3 := dk_seg dksX5_meets_2 24 rfl rfl
theorem dksX5_meets_4 : cX5_meets.data.toList.drop 95 = dktX5_meets_4 := dk_seg dksX5_meets_3 24 rfl rfl
theorem dksX5_meets_5 : cX5_meets.data.toList.drop 119 = dktX5_meets_5 := dk_seg dksX5_meets_4 24 rfl rfl
theorem dksX5_meets_6 : cX5_meets.data.toList.drop 141 = dktX5_meets_6 := dk_seg dksX5_meets_5 22 rfl rfl
theorem dksX5_meets_7 : cX5_meets.data.toList.drop 164 = dktX5_meets_7 := dk_seg dksX5_meets_6 23 rfl rfl
theorem dksX5_meets_8 : cX5_meets.data.toList.drop 188 = dktX5_meets_8 := dk_seg dksX5_meets_7 24 rfl rfl
theorem dX5_meets_0 : decode cX5_meets 0 = .ok (.aload_n 0, 1) := dk_42 (dk_at dksX5_meets_0 0 rfl rfl)
theorem dX5_meets_1 : decode cX5_meets 1 = .ok (.dup, 1) := dk_89 (dk_at dksX5_meets_0 1 rfl rfl)
theorem dX5_meets_2 : decode cX5_meets 2 = .ok (.getfield 411, 3) := dk_180 1 155 (dk_at dksX5_meets_0 2 rfl rfl)
theorem dX5_meets_5 : decode cX5_meets 5 = .ok (.iconst 1, 1) := dk_4 (dk_at dksX5_meets_0 5 rfl rfl)
theorem dX5_meets_6 : decode cX5_meets 6 = .ok (.iadd, 1) := dk_96 (dk_at dksX5_meets_0 6 rfl rfl)
theorem dX5_meets_7 : decode cX5_meets 7 = .ok (.putfield 411, 3) := dk_181 1 155 (dk_at dksX5_meets_0 7 rfl rfl)
theorem dX5_meets_10 : decode cX5_meets 10 = .ok (.bipush 40, 2) := dk_16 40 (dk_at dksX5_meets_0 10 rfl rfl)
theorem dX5_meets_12 : decode cX5_meets 12 = .ok (.aload_n 0, 1) := dk_42 (dk_at dksX5_meets_0 12 rfl rfl)
theorem dX5_meets_13 : decode cX5_meets 13 = .ok (.getfield 414, 3) := dk_180 1 158 (dk_at dksX5_meets_0 13 rfl rfl)
theorem dX5_meets_16 : decode cX5_meets 16 = .ok (.imul, 1) := dk_104 (dk_at dksX5_meets_0 16 rfl rfl)
theorem dX5_meets_17 : decode cX5_meets 17 = .ok (.istore_n 3, 1) := dk_62 (dk_at dksX5_meets_0 17 rfl rfl)
theorem dX5_meets_18 : decode cX5_meets 18 = .ok (.iload_n 1, 1) := dk_27 (dk_at dksX5_meets_0 18 rfl rfl)
theorem dX5_meets_19 : decode cX5_meets 19 = .ok (.ifCond .ne 66, 3) := dk_154 0 66 (dk_at dksX5_meets_0 19 rfl rfl)
theorem dX5_meets_22 : decode cX5_meets 22 = .ok (.iconst 0, 1) := dk_3 (dk_at dksX5_meets_0 22 rfl rfl)
theorem dX5_meets_23 : decode cX5_meets 23 = .ok (.istore 4, 2) := dk_54 4 (dk_at dksX5_meets_1 0 rfl rfl)
theorem dX5_meets_25 : decode cX5_meets 25 = .ok (.iload 4, 2) := dk_21 4 (dk_at dksX5_meets_1 2 rfl rfl)
theorem dX5_meets_27 : decode cX5_meets 27 = .ok (.bipush 40, 2) := dk_16 40 (dk_at dksX5_meets_1 4 rfl rfl)
theorem dX5_meets_29 : decode cX5_meets 29 = .ok (.if_icmp .ge 53, 3) := dk_162 0 53 (dk_at dksX5_meets_1 6 rfl rfl)
theorem dX5_meets_32 : decode cX5_meets 32 = .ok (.aload_n 0, 1) := dk_42 (dk_at dksX5_meets_1 9 rfl rfl)
theorem dX5_meets_33 : decode cX5_meets 33 = .ok (.getfield 160, 3) := dk_180 0 160 (dk_at dksX5_meets_1 10 rfl rfl)
theorem dX5_meets_36 : decode cX5_meets 36 = .ok (.sipush 136, 3) := dk_17 0 136 (dk_at dksX5_meets_1 13 rfl rfl)
theorem dX5_meets_39 : decode cX5_meets 39 = .ok (.iload 4, 2) := dk_21 4 (dk_at dksX5_meets_1 16 rfl rfl)
theorem dX5_meets_41 : decode cX5_meets 41 = .ok (.imul, 1) := dk_104 (dk_at dksX5_meets_1 18 rfl rfl)
theorem dX5_meets_42 : decode cX5_meets 42 = .ok (.aload_n 0, 1) := dk_42 (dk_at dksX5_meets_1 19 rfl rfl)
theorem dX5_meets_43 : decode cX5_meets 43 = .ok (.getfield 151, 3) := dk_180 0 151 (dk_at dksX5_meets_1 20 rfl rfl)
theorem dX5_meets_46 : decode cX5_meets 46 = .ok (.iload_n 3, 1) := dk_29 (dk_at dksX5_meets_1 23 rfl rfl)
theorem dX5_meets_47 : decode cX5_meets 47 = .ok (.iload 4, 2) := dk_21 4 (dk_at dksX5_meets_2 0 rfl rfl)
theorem dX5_meets_49 : decode cX5_meets 49 = .ok (.iadd, 1) := dk_96 (dk_at dksX5_meets_2 2 rfl rfl)
theorem dX5_meets_50 : decode cX5_meets 50 = .ok (.iaload, 1) := dk_46 (dk_at dksX5_meets_2 3 rfl rfl)
theorem dX5_meets_51 : decode cX5_meets 51 = .ok (.iconst (-1), 1) := dk_2 (dk_at dksX5_meets_2 4 rfl rfl)
theorem dX5_meets_52 : decode cX5_meets 52 = .ok (.if_icmp .ne 9, 3) := dk_160 0 9 (dk_at dksX5_meets_2 5 rfl rfl)
theorem dX5_meets_55 : decode cX5_meets 55 = .ok (.sipush 135, 3) := dk_17 0 135 (dk_at dksX5_meets_2 8 rfl rfl)
theorem dX5_meets_58 : decode cX5_meets 58 = .ok (.goto 12, 3) := dk_167 0 12 (dk_at dksX5_meets_2 11 rfl rfl)
theorem dX5_meets_61 : decode cX5_meets 61 = .ok (.aload_n 0, 1) := dk_42 (dk_at dksX5_meets_2 14 rfl rfl)
theorem dX5_meets_62 : decode cX5_meets 62 = .ok (.getfield 151, 3) := dk_180 0 151 (dk_at dksX5_meets_2 15 rfl rfl)
theorem dX5_meets_65 : decode cX5_meets 65 = .ok (.iload_n 3, 1) := dk_29 (dk_at dksX5_meets_2 18 rfl rfl)
theorem dX5_meets_66 : decode cX5_meets 66 = .ok (.iload 4, 2) := dk_21 4 (dk_at dksX5_meets_2 19 rfl rfl)
theorem dX5_meets_68 : decode cX5_meets 68 = .ok (.iadd, 1) := dk_96 (dk_at dksX5_meets_2 21 rfl rfl)
theorem dX5_meets_69 : decode cX5_meets 69 = .ok (.iaload, 1) := dk_46 (dk_at dksX5_meets_2 22 rfl rfl)
theorem dX5_meets_70 : decode cX5_meets 70 = .ok (.iadd, 1) := dk_96 (dk_at dksX5_meets_2 23 rfl rfl)
theorem dX5_meets_71 : decode cX5_meets 71 = .ok (.dup2, 1) := dk_92 (dk_at dksX5_meets_3 0 rfl rfl)
theorem dX5_meets_72 : decode cX5_meets 72 = .ok (.iaload, 1) := dk_46 (dk_at dksX5_meets_3 1 rfl rfl)
theorem dX5_meets_73 : decode cX5_meets 73 = .ok (.iconst 1, 1) := dk_4 (dk_at dksX5_meets_3 2 rfl rfl)
theorem dX5_meets_74 : decode cX5_meets 74 = .ok (.iadd, 1) := dk_96 (dk_at dksX5_meets_3 3 rfl rfl)
theorem dX5_meets_75 : decode cX5_meets 75 = .ok (.iastore, 1) := dk_79 (dk_at dksX5_meets_3 4 rfl rfl)
theorem dX5_meets_76 : decode cX5_meets 76 = .ok (.iinc 4 1, 3) := dk_132 4 1 (dk_at dksX5_meets_3 5 rfl rfl)
theorem dX5_meets_79 : decode cX5_meets 79 = .ok (.goto (-54), 3) := dk_167 255 202 (dk_at dksX5_meets_3 8 rfl rfl)
theorem dX5_meets_82 : decode cX5_meets 82 = .ok (.goto 97, 3) := dk_167 0 97 (dk_at dksX5_meets_3 11 rfl rfl)
theorem dX5_meets_85 : decode cX5_meets 85 = .ok (.iload_n 1, 1) := dk_27 (dk_at dksX5_meets_3 14 rfl rfl)
theorem dX5_meets_86 : decode cX5_meets 86 = .ok (.iconst 2, 1) := dk_5 (dk_at dksX5_meets_3 15 rfl rfl)
theorem dX5_meets_87 : decode cX5_meets 87 = .ok (.if_icmp .ne 82, 3) := dk_160 0 82 (dk_at dksX5_meets_3 16 rfl rfl)
theorem dX5_meets_90 : decode cX5_meets 90 = .ok (.aload_n 0, 1) := dk_42 (dk_at dksX5_meets_3 19 rfl rfl)
theorem dX5_meets_91 : decode cX5_meets 91 = .ok (.getfield 411, 3) := dk_180 1 155 (dk_at dksX5_meets_3 20 rfl rfl)
theorem dX5_meets_94 : decode cX5_meets 94 = .ok (.iconst 1, 1) := dk_4 (dk_at dksX5_meets_3 23 rfl rfl)
theorem dX5_meets_95 : decode cX5_meets 95 = .ok (.isub, 1) := dk_100 (dk_at dksX5_meets_4 0 rfl rfl)
theorem dX5_meets_96 : decode cX5_meets 96 = .ok (.aload_n 0, 1) := dk_42 (dk_at dksX5_meets_4 1 rfl rfl)
theorem dX5_meets_97 : decode cX5_meets 97 = .ok (.getfield 417, 3) := dk_180 1 161 (dk_at dksX5_meets_4 2 rfl rfl)
theorem dX5_meets_100 : decode cX5_meets 100 = .ok (.if_icmp .ne 69, 3) := dk_160 0 69 (dk_at dksX5_meets_4 5 rfl rfl)
theorem dX5_meets_103 : decode cX5_meets 103 = .ok (.iconst 0, 1) := dk_3 (dk_at dksX5_meets_4 8 rfl rfl)
theorem dX5_meets_104 : decode cX5_meets 104 = .ok (.istore 4, 2) := dk_54 4 (dk_at dksX5_meets_4 9 rfl rfl)
theorem dX5_meets_106 : decode cX5_meets 106 = .ok (.iload 4, 2) := dk_21 4 (dk_at dksX5_meets_4 11 rfl rfl)
theorem dX5_meets_108 : decode cX5_meets 108 = .ok (.bipush 40, 2) := dk_16 40 (dk_at dksX5_meets_4 13 rfl rfl)
theorem dX5_meets_110 : decode cX5_meets 110 = .ok (.if_icmp .ge 25, 3) := dk_162 0 25 (dk_at dksX5_meets_4 15 rfl rfl)
theorem dX5_meets_113 : decode cX5_meets 113 = .ok (.aload_n 0, 1) := dk_42 (dk_at dksX5_meets_4 18 rfl rfl)
theorem dX5_meets_114 : decode cX5_meets 114 = .ok (.getfield 157, 3) := dk_180 0 157 (dk_at dksX5_meets_4 19 rfl rfl)
theorem dX5_meets_117 : decode cX5_meets 117 = .ok (.iload 4, 2) := dk_21 4 (dk_at dksX5_meets_4 22 rfl rfl)
theorem dX5_meets_119 : decode cX5_meets 119 = .ok (.aload_n 0, 1) := dk_42 (dk_at dksX5_meets_5 0 rfl rfl)
theorem dX5_meets_120 : decode cX5_meets 120 = .ok (.getfield 151, 3) := dk_180 0 151 (dk_at dksX5_meets_5 1 rfl rfl)
theorem dX5_meets_123 : decode cX5_meets 123 = .ok (.iload_n 3, 1) := dk_29 (dk_at dksX5_meets_5 4 rfl rfl)
theorem dX5_meets_124 : decode cX5_meets 124 = .ok (.iload 4, 2) := dk_21 4 (dk_at dksX5_meets_5 5 rfl rfl)
theorem dX5_meets_126 : decode cX5_meets 126 = .ok (.iadd, 1) := dk_96 (dk_at dksX5_meets_5 7 rfl rfl)
theorem dX5_meets_127 : decode cX5_meets 127 = .ok (.iaload, 1) := dk_46 (dk_at dksX5_meets_5 8 rfl rfl)
theorem dX5_meets_128 : decode cX5_meets 128 = .ok (.iastore, 1) := dk_79 (dk_at dksX5_meets_5 9 rfl rfl)
theorem dX5_meets_129 : decode cX5_meets 129 = .ok (.iinc 4 1, 3) := dk_132 4 1 (dk_at dksX5_meets_5 10 rfl rfl)
theorem dX5_meets_132 : decode cX5_meets 132 = .ok (.goto (-26), 3) := dk_167 255 230 (dk_at dksX5_meets_5 13 rfl rfl)
theorem dX5_meets_135 : decode cX5_meets 135 = .ok (.iconst 0, 1) := dk_3 (dk_at dksX5_meets_5 16 rfl rfl)
theorem dX5_meets_136 : decode cX5_meets 136 = .ok (.istore 4, 2) := dk_54 4 (dk_at dksX5_meets_5 17 rfl rfl)
theorem dX5_meets_138 : decode cX5_meets 138 = .ok (.iload 4, 2) := dk_21 4 (dk_at dksX5_meets_5 19 rfl rfl)
theorem dX5_meets_140 : decode cX5_meets 140 = .ok (.aload_n 0, 1) := dk_42 (dk_at dksX5_meets_5 21 rfl rfl)
theorem dX5_meets_141 : decode cX5_meets 141 = .ok (.getfield 414, 3) := dk_180 1 158 (dk_at dksX5_meets_6 0 rfl rfl)
theorem dX5_meets_144 : decode cX5_meets 144 = .ok (.if_icmp .ge 23, 3) := dk_162 0 23 (dk_at dksX5_meets_6 3 rfl rfl)
theorem dX5_meets_147 : decode cX5_meets 147 = .ok (.aload_n 0, 1) := dk_42 (dk_at dksX5_meets_6 6 rfl rfl)
theorem dX5_meets_148 : decode cX5_meets 148 = .ok (.getfield 154, 3) := dk_180 0 154 (dk_at dksX5_meets_6 7 rfl rfl)
theorem dX5_meets_151 : decode cX5_meets 151 = .ok (.iload 4, 2) := dk_21 4 (dk_at dksX5_meets_6 10 rfl rfl)
theorem dX5_meets_153 : decode cX5_meets 153 = .ok (.aload_n 0, 1) := dk_42 (dk_at dksX5_meets_6 12 rfl rfl)
theorem dX5_meets_154 : decode cX5_meets 154 = .ok (.getfield 148, 3) := dk_180 0 148 (dk_at dksX5_meets_6 13 rfl rfl)
theorem dX5_meets_157 : decode cX5_meets 157 = .ok (.iload 4, 2) := dk_21 4 (dk_at dksX5_meets_6 16 rfl rfl)
theorem dX5_meets_159 : decode cX5_meets 159 = .ok (.iaload, 1) := dk_46 (dk_at dksX5_meets_6 18 rfl rfl)
theorem dX5_meets_160 : decode cX5_meets 160 = .ok (.iastore, 1) := dk_79 (dk_at dksX5_meets_6 19 rfl rfl)
theorem dX5_meets_161 : decode cX5_meets 161 = .ok (.iinc 4 1, 3) := dk_132 4 1 (dk_at dksX5_meets_6 20 rfl rfl)
theorem dX5_meets_164 : decode cX5_meets 164 = .ok (.goto (-26), 3) := dk_167 255 230 (dk_at dksX5_meets_7 0 rfl rfl)
theorem dX5_meets_167 : decode cX5_meets 167 = .ok (.iconst 0, 1) := dk_3 (dk_at dksX5_meets_7 3 rfl rfl)
theorem dX5_meets_168 : decode cX5_meets 168 = .ok (.ireturn, 1) := dk_172 (dk_at dksX5_meets_7 4 rfl rfl)
theorem dX5_meets_169 : decode cX5_meets 169 = .ok (.iload_n 1, 1) := dk_27 (dk_at dksX5_meets_7 5 rfl rfl)
theorem dX5_meets_170 : decode cX5_meets 170 = .ok (.iconst 3, 1) := dk_6 (dk_at dksX5_meets_7 6 rfl rfl)
theorem dX5_meets_171 : decode cX5_meets 171 = .ok (.if_icmp .ne 8, 3) := dk_160 0 8 (dk_at dksX5_meets_7 7 rfl rfl)
theorem dX5_meets_174 : decode cX5_meets 174 = .ok (.aload_n 0, 1) := dk_42 (dk_at dksX5_meets_7 10 rfl rfl)
theorem dX5_meets_175 : decode cX5_meets 175 = .ok (.iload_n 2, 1) := dk_28 (dk_at dksX5_meets_7 11 rfl rfl)
theorem dX5_meets_176 : decode cX5_meets 176 = .ok (.invokevirtual 420, 3) := dk_182 1 164 (dk_at dksX5_meets_7 12 rfl rfl)
theorem dX5_meets_179 : decode cX5_meets 179 = .ok (.iload_n 1, 1) := dk_27 (dk_at dksX5_meets_7 15 rfl rfl)
theorem dX5_meets_180 : decode cX5_meets 180 = .ok (.iconst 1, 1) := dk_4 (dk_at dksX5_meets_7 16 rfl rfl)
theorem dX5_meets_181 : decode cX5_meets 181 = .ok (.if_icmp .eq 7, 3) := dk_159 0 7 (dk_at dksX5_meets_7 17 rfl rfl)
theorem dX5_meets_184 : decode cX5_meets 184 = .ok (.iconst 1, 1) := dk_4 (dk_at dksX5_meets_7 20 rfl rfl)
theorem dX5_meets_185 : decode cX5_meets 185 = .ok (.goto 4, 3) := dk_167 0 4 (dk_at dksX5_meets_7 21 rfl rfl)
theorem dX5_meets_188 : decode cX5_meets 188 = .ok (.iconst 0, 1) := dk_3 (dk_at dksX5_meets_8 0 rfl rfl)
theorem dX5_meets_189 : decode cX5_meets 189 = .ok (.ireturn, 1) := dk_172 (dk_at dksX5_meets_8 1 rfl rfl)
def dkwX5_marksFits_8 : List UInt8 := [167, 255, 75, 177]
abbrev dktX5_marksFits_8 : List UInt8 := dkwX5_marksFits_8 ++ []
def dkwX5_marksFits_7 : List UInt8 := [132, 5, 1, 167, 255, 220, 42, 180, 0, 163, 28, 42, 16, 7, 28, 16, 6, 182, 1, 152, 84, 132, 2, 1]
abbrev dktX5_marksFits_7 : List UInt8 := dkwX5_marksFits_7 ++ dktX5_marksFits_8
def dkwX5_marksFits_6 : List UInt8 := [17, 1, 24, 21, 5, 96, 42, 180, 0, 151, 16, 40, 42, 180, 1, 158, 104, 21, 5, 96, 46, 79]
abbrev dktX5_marksFits_6 : List UInt8 := dkwX5_marksFits_6 ++ dktX5_marksFits_7
def dkwX5_marksFits_5 : List UInt8 := [21, 4, 153, 0, 6, 167, 0, 60, 3, 54, 5, 21, 5, 16, 40, 162, 0, 35, 42, 180, 0, 151]
abbrev dktX5_marksFits_5 : List UInt8 := dkwX5_marksFits_5 ++ dktX5_marksFits_6
def dkwX5_marksFits_4 : List UInt8 := [21, 5, 46, 28, 16, 8, 112, 160, 0, 7, 4, 167, 0, 4, 3, 54, 4, 132, 5, 1, 167, 255, 202]
abbrev dktX5_marksFits_4 : List UInt8 := dkwX5_marksFits_4 ++ dktX5_marksFits_5
def dkwX5_marksFits_3 : List UInt8 := [154, 0, 33, 42, 180, 0, 127, 42, 180, 0, 145, 21, 5, 46, 46, 29, 160, 0, 21, 42, 180, 0, 148]
abbrev dktX5_marksFits_3 : List UInt8 := dkwX5_marksFits_3 ++ dktX5_marksFits_4
def dkwX5_marksFits_2 : List UInt8 := [154, 0, 6, 167, 0, 131, 3, 54, 4, 3, 54, 5, 21, 5, 42, 180, 1, 158, 162, 0, 51, 21, 4]
abbrev dktX5_marksFits_2 : List UInt8 := dkwX5_marksFits_2 ++ dktX5_marksFits_3
def dkwX5_marksFits_1 : List UInt8 := [154, 0, 156, 28, 16, 8, 112, 42, 180, 0, 20, 29, 46, 162, 0, 143, 42, 29, 27, 182, 1, 58]
abbrev dktX5_marksFits_1 : List UInt8 := dkwX5_marksFits_1 ++ dktX5_marksFits_2
def dkwX5_marksFits_0 : List UInt8 := [3, 61, 28, 16, 8, 42, 180, 0, 243, 104, 162, 0, 176, 28, 16, 8, 108, 62, 42, 180, 0, 163, 28, 51]
abbrev dktX5_marksFits_0 : List UInt8 := dkwX5_marksFits_0 ++ dktX5_marksFits_1
theorem dksX5_marksFits_0 : cX5_marksFits.data.toList.drop 0 = dktX5_marksFits_0 := by decide +kernel
theorem dksX5_marksFits_1 : cX5_marksFits.data.toList.drop 24 = dktX5_marksFits_1 := dk_seg dksX5_marksFits_0 24 rfl rfl
theorem dksX5_marksFits_2 : cX5_marksFits.data.toList.drop 46 = dktX5_marksFits_2 := dk_seg dksX5_marksFits_1 22 rfl rfl
theorem dksX5_marksFits_3 : cX5_marksFits.data.toList.drop 69 = dktX5_marksFits_3 := dk_seg dksX5_marksFits_2 23 rfl rfl
theorem dksX5_marksFits_4 : cX5_marksFits.data.toList.drop 92 = dktX5_marksFits_4 := dk_seg dksX5_marksFits_3 23 rfl rfl
theorem dksX5_marksFits_5 : cX5_marksFits.data.toList.drop 115 = dktX5_marksFits_5 := dk_seg dksX5_marksFits_4 23 rfl rfl
theorem dksX5_marksFits_6 : cX5_marksFits.data.toList.drop 137 = dktX5_marksFits_6 := dk_seg dksX5_marksFits_5 22 rfl rfl
theorem dksX5_marksFits_7 : cX5_marksFits.data.toList.drop 159 = dktX5_marksFits_7 := dk_seg dksX5_marksFits_6 22 rfl rfl
theorem dksX5_marksFits_8 : cX5_marksFits.data.toList.drop 183 = dktX5_marksFits_8 := dk_seg dksX5_marksFits_7 24 rfl rfl
theorem dX5_marksFits_0 : decode cX5_marksFits 0 = .ok (.iconst 0, 1) := dk_3 (dk_at dksX5_marksFits_0 0 rfl rfl)
theorem dX5_marksFits_1 : decode cX5_marksFits 1 = .ok (.istore_n 2, 1) := dk_61 (dk_at dksX5_marksFits_0 1 rfl rfl)
theorem dX5_marksFits_2 : decode cX5_marksFits 2 = .ok (.iload_n 2, 1) := dk_28 (dk_at dksX5_marksFits_0 2 rfl rfl)
theorem dX5_marksFits_3 : decode cX5_marksFits 3 = .ok (.bipush 8, 2) := dk_16 8 (dk_at dksX5_marksFits_0 3 rfl rfl)
theorem dX5_marksFits_5 : decode cX5_marksFits 5 = .ok (.aload_n 0, 1) := dk_42 (dk_at dksX5_marksFits_0 5 rfl rfl)
theorem dX5_marksFits_6 : decode cX5_marksFits 6 = .ok (.getfield 243, 3) := dk_180 0 243 (dk_at dksX5_marksFits_0 6 rfl rfl)
theorem dX5_marksFits_9 : decode cX5_marksFits 9 = .ok (.imul, 1) := dk_104 (dk_at dksX5_marksFits_0 9 rfl rfl)
theorem dX5_marksFits_10 : decode cX5_marksFits 10 = .ok (.if_icmp .ge 176, 3) := dk_162 0 176 (dk_at dksX5_marksFits_0 10 rfl rfl)
theorem dX5_marksFits_13 : decode cX5_marksFits 13 = .ok (.iload_n 2, 1) := dk_28 (dk_at dksX5_marksFits_0 13 rfl rfl)
theorem dX5_marksFits_14 : decode cX5_marksFits 14 = .ok (.bipush 8, 2) := dk_16 8 (dk_at dksX5_marksFits_0 14 rfl rfl)
theorem dX5_marksFits_16 : decode cX5_marksFits 16 = .ok (.idiv, 1) := dk_108 (dk_at dksX5_marksFits_0 16 rfl rfl)
theorem dX5_marksFits_17 : decode cX5_marksFits 17 = .ok (.istore_n 3, 1) := dk_62 (dk_at dksX5_marksFits_0 17 rfl rfl)
theorem dX5_marksFits_18 : decode cX5_marksFits 18 = .ok (.aload_n 0, 1) := dk_42 (dk_at dksX5_marksFits_0 18 rfl rfl)
theorem dX5_marksFits_19 : decode cX5_marksFits 19 = .ok (.getfield 163, 3) := dk_180 0 163 (dk_at dksX5_marksFits_0 19 rfl rfl)
theorem dX5_marksFits_22 : decode cX5_marksFits 22 = .ok (.iload_n 2, 1) := dk_28 (dk_at dksX5_marksFits_0 22 rfl rfl)
theorem dX5_marksFits_23 : decode cX5_marksFits 23 = .ok (.baload, 1) := dk_51 (dk_at dksX5_marksFits_0 23 rfl rfl)
theorem dX5_marksFits_24 : decode cX5_marksFits 24 = .ok (.ifCond .ne 156, 3) := dk_154 0 156 (dk_at dksX5_marksFits_1 0 rfl rfl)
theorem dX5_marksFits_27 : decode cX5_marksFits 27 = .ok (.iload_n 2, 1) := dk_28 (dk_at dksX5_marksFits_1 3 rfl rfl)
theorem dX5_marksFits_28 : decode cX5_marksFits 28 = .ok (.bipush 8, 2) := dk_16 8 (dk_at dksX5_marksFits_1 4 rfl rfl)
theorem dX5_marksFits_30 : decode cX5_marksFits 30 = .ok (.irem, 1) := dk_112 (dk_at dksX5_marksFits_1 6 rfl rfl)
theorem dX5_marksFits_31 : decode cX5_marksFits 31 = .ok (.aload_n 0, 1) := dk_42 (dk_at dksX5_marksFits_1 7 rfl rfl)
theorem dX5_marksFits_32 : decode cX5_marksFits 32 = .ok (.getfield 20, 3) := dk_180 0 20 (dk_at dksX5_marksFits_1 8 rfl rfl)
theorem dX5_marksFits_35 : decode cX5_marksFits 35 = .ok (.iload_n 3, 1) := dk_29 (dk_at dksX5_marksFits_1 11 rfl rfl)
theorem dX5_marksFits_36 : decode cX5_marksFits 36 = .ok (.iaload, 1) := dk_46 (dk_at dksX5_marksFits_1 12 rfl rfl)
theorem dX5_marksFits_37 : decode cX5_marksFits 37 = .ok (.if_icmp .ge 143, 3) := dk_162 0 143 (dk_at dksX5_marksFits_1 13 rfl rfl)
theorem dX5_marksFits_40 : decode cX5_marksFits 40 = .ok (.aload_n 0, 1) := dk_42 (dk_at dksX5_marksFits_1 16 rfl rfl)
theorem dX5_marksFits_41 : decode cX5_marksFits 41 = .ok (.iload_n 3, 1) := dk_29 (dk_at dksX5_marksFits_1 17 rfl rfl)
theorem dX5_marksFits_42 : decode cX5_marksFits 42 = .ok (.iload_n 1, 1) := dk_27 (dk_at dksX5_marksFits_1 18 rfl rfl)
theorem dX5_marksFits_43 : decode cX5_marksFits 43 = .ok (.invokevirtual 314, 3) := dk_182 1 58 (dk_at dksX5_marksFits_1 19 rfl rfl)
theorem dX5_marksFits_46 : decode cX5_marksFits 46 = .ok (.ifCond .ne 6, 3) := dk_154 0 6 (dk_at dksX5_marksFits_2 0 rfl rfl)
theorem dX5_marksFits_49 : decode cX5_marksFits 49 = .ok (.goto 131, 3) := dk_167 0 131 (dk_at dksX5_marksFits_2 3 rfl rfl)
theorem dX5_marksFits_52 : decode cX5_marksFits 52 = .ok (.iconst 0, 1) := dk_3 (dk_at dksX5_marksFits_2 6 rfl rfl)
theorem dX5_marksFits_53 : decode cX5_marksFits 53 = .ok (.istore 4, 2) := dk_54 4 (dk_at dksX5_marksFits_2 7 rfl rfl)
theorem dX5_marksFits_55 : decode cX5_marksFits 55 = .ok (.iconst 0, 1) := dk_3 (dk_at dksX5_marksFits_2 9 rfl rfl)
theorem dX5_marksFits_56 : decode cX5_marksFits 56 = .ok (.istore 5, 2) := dk_54 5 (dk_at dksX5_marksFits_2 10 rfl rfl)
theorem dX5_marksFits_58 : decode cX5_marksFits 58 = .ok (.iload 5, 2) := dk_21 5 (dk_at dksX5_marksFits_2 12 rfl rfl)
theorem dX5_marksFits_60 : decode cX5_marksFits 60 = .ok (.aload_n 0, 1) := dk_42 (dk_at dksX5_marksFits_2 14 rfl rfl)
theorem dX5_marksFits_61 : decode cX5_marksFits 61 = .ok (.getfield 414, 3) := dk_180 1 158 (dk_at dksX5_marksFits_2 15 rfl rfl)
theorem dX5_marksFits_64 : decode cX5_marksFits 64 = .ok (.if_icmp .ge 51, 3) := dk_162 0 51 (dk_at dksX5_marksFits_2 18 rfl rfl)
theorem dX5_marksFits_67 : decode cX5_marksFits 67 = .ok (.iload 4, 2) := dk_21 4 (dk_at dksX5_marksFits_2 21 rfl rfl)
theorem dX5_marksFits_69 : decode cX5_marksFits 69 = .ok (.ifCond .ne 33, 3) := dk_154 0 33 (dk_at dksX5_marksFits_3 0 rfl rfl)
theorem dX5_marksFits_72 : decode cX5_marksFits 72 = .ok (.aload_n 0, 1) := dk_42 (dk_at dksX5_marksFits_3 3 rfl rfl)
theorem dX5_marksFits_73 : decode cX5_marksFits 73 = .ok (.getfield 127, 3) := dk_180 0 127 (dk_at dksX5_marksFits_3 4 rfl rfl)
theorem dX5_marksFits_76 : decode cX5_marksFits 76 = .ok (.aload_n 0, 1) := dk_42 (dk_at dksX5_marksFits_3 7 rfl rfl)
theorem dX5_marksFits_77 : decode cX5_marksFits 77 = .ok (.getfield 145, 3) := dk_180 0 145 (dk_at dksX5_marksFits_3 8 rfl rfl)
theorem dX5_marksFits_80 : decode cX5_marksFits 80 = .ok (.iload 5, 2) := dk_21 5 (dk_at dksX5_marksFits_3 11 rfl rfl)
theorem dX5_marksFits_82 : decode cX5_marksFits 82 = .ok (.iaload, 1) := dk_46 (dk_at dksX5_marksFits_3 13 rfl rfl)
theorem dX5_marksFits_83 : decode cX5_marksFits 83 = .ok (.iaload, 1) := dk_46 (dk_at dksX5_marksFits_3 14 rfl rfl)
theorem dX5_marksFits_84 : decode cX5_marksFits 84 = .ok (.iload_n 3, 1) := dk_29 (dk_at dksX5_marksFits_3 15 rfl rfl)
theorem dX5_marksFits_85 : decode cX5_marksFits 85 = .ok (.if_icmp .ne 21, 3) := dk_160 0 21 (dk_at dksX5_marksFits_3 16 rfl rfl)
theorem dX5_marksFits_88 : decode cX5_marksFits 88 = .ok (.aload_n 0, 1) := dk_42 (dk_at dksX5_marksFits_3 19 rfl rfl)
theorem dX5_marksFits_89 : decode cX5_marksFits 89 = .ok (.getfield 148, 3) := dk_180 0 148 (dk_at dksX5_marksFits_3 20 rfl rfl)
theorem dX5_marksFits_92 : decode cX5_marksFits 92 = .ok (.iload 5, 2) := dk_21 5 (dk_at dksX5_marksFits_4 0 rfl rfl)
theorem dX5_marksFits_94 : decode cX5_marksFits 94 = .ok (.iaload, 1) := dk_46 (dk_at dksX5_marksFits_4 2 rfl rfl)
theorem dX5_marksFits_95 : decode cX5_marksFits 95 = .ok (.iload_n 2, 1) := dk_28 (dk_at dksX5_marksFits_4 3 rfl rfl)
theorem dX5_marksFits_96 : decode cX5_marksFits 96 = .ok (.bipush 8, 2) := dk_16 8 (dk_at dksX5_marksFits_4 4 rfl rfl)
theorem dX5_marksFits_98 : decode cX5_marksFits 98 = .ok (.irem, 1) := dk_112 (dk_at dksX5_marksFits_4 6 rfl rfl)
theorem dX5_marksFits_99 : decode cX5_marksFits 99 = .ok (.if_icmp .ne 7, 3) := dk_160 0 7 (dk_at dksX5_marksFits_4 7 rfl rfl)
theorem dX5_marksFits_102 : decode cX5_marksFits 102 = .ok (.iconst 1, 1) := dk_4 (dk_at dksX5_marksFits_4 10 rfl rfl)
theorem dX5_marksFits_103 : decode cX5_marksFits 103 = .ok (.goto 4, 3) := dk_167 0 4 (dk_at dksX5_marksFits_4 11 rfl rfl)
theorem dX5_marksFits_106 : decode cX5_marksFits 106 = .ok (.iconst 0, 1) := dk_3 (dk_at dksX5_marksFits_4 14 rfl rfl)
theorem dX5_marksFits_107 : decode cX5_marksFits 107 = .ok (.istore 4, 2) := dk_54 4 (dk_at dksX5_marksFits_4 15 rfl rfl)
theorem dX5_marksFits_109 : decode cX5_marksFits 109 = .ok (.iinc 5 1, 3) := dk_132 5 1 (dk_at dksX5_marksFits_4 17 rfl rfl)
theorem dX5_marksFits_112 : decode cX5_marksFits 112 = .ok (.goto (-54), 3) := dk_167 255 202 (dk_at dksX5_marksFits_4 20 rfl rfl)
theorem dX5_marksFits_115 : decode cX5_marksFits 115 = .ok (.iload 4, 2) := dk_21 4 (dk_at dksX5_marksFits_5 0 rfl rfl)
theorem dX5_marksFits_117 : decode cX5_marksFits 117 = .ok (.ifCond .eq 6, 3) := dk_153 0 6 (dk_at dksX5_marksFits_5 2 rfl rfl)
theorem dX5_marksFits_120 : decode cX5_marksFits 120 = .ok (.goto 60, 3) := dk_167 0 60 (dk_at dksX5_marksFits_5 5 rfl rfl)
theorem dX5_marksFits_123 : decode cX5_marksFits 123 = .ok (.iconst 0, 1) := dk_3 (dk_at dksX5_marksFits_5 8 rfl rfl)
theorem dX5_marksFits_124 : decode cX5_marksFits 124 = .ok (.istore 5, 2) := dk_54 5 (dk_at dksX5_marksFits_5 9 rfl rfl)
theorem dX5_marksFits_126 : decode cX5_marksFits 126 = .ok (.iload 5, 2) := dk_21 5 (dk_at dksX5_marksFits_5 11 rfl rfl)
theorem dX5_marksFits_128 : decode cX5_marksFits 128 = .ok (.bipush 40, 2) := dk_16 40 (dk_at dksX5_marksFits_5 13 rfl rfl)
theorem dX5_marksFits_130 : decode cX5_marksFits 130 = .ok (.if_icmp .ge 35, 3) := dk_162 0 35 (dk_at dksX5_marksFits_5 15 rfl rfl)
theorem dX5_marksFits_133 : decode cX5_marksFits 133 = .ok (.aload_n 0, 1) := dk_42 (dk_at dksX5_marksFits_5 18 rfl rfl)
theorem dX5_marksFits_134 : decode cX5_marksFits 134 = .ok (.getfield 151, 3) := dk_180 0 151 (dk_at dksX5_marksFits_5 19 rfl rfl)
theorem dX5_marksFits_137 : decode cX5_marksFits 137 = .ok (.sipush 280, 3) := dk_17 1 24 (dk_at dksX5_marksFits_6 0 rfl rfl)
theorem dX5_marksFits_140 : decode cX5_marksFits 140 = .ok (.iload 5, 2) := dk_21 5 (dk_at dksX5_marksFits_6 3 rfl rfl)
theorem dX5_marksFits_142 : decode cX5_marksFits 142 = .ok (.iadd, 1) := dk_96 (dk_at dksX5_marksFits_6 5 rfl rfl)
theorem dX5_marksFits_143 : decode cX5_marksFits 143 = .ok (.aload_n 0, 1) := dk_42 (dk_at dksX5_marksFits_6 6 rfl rfl)
theorem dX5_marksFits_144 : decode cX5_marksFits 144 = .ok (.getfield 151, 3) := dk_180 0 151 (dk_at dksX5_marksFits_6 7 rfl rfl)
theorem dX5_marksFits_147 : decode cX5_marksFits 147 = .ok (.bipush 40, 2) := dk_16 40 (dk_at dksX5_marksFits_6 10 rfl rfl)
theorem dX5_marksFits_149 : decode cX5_marksFits 149 = .ok (.aload_n 0, 1) := dk_42 (dk_at dksX5_marksFits_6 12 rfl rfl)
theorem dX5_marksFits_150 : decode cX5_marksFits 150 = .ok (.getfield 414, 3) := dk_180 1 158 (dk_at dksX5_marksFits_6 13 rfl rfl)
theorem dX5_marksFits_153 : decode cX5_marksFits 153 = .ok (.imul, 1) := dk_104 (dk_at dksX5_marksFits_6 16 rfl rfl)
theorem dX5_marksFits_154 : decode cX5_marksFits 154 = .ok (.iload 5, 2) := dk_21 5 (dk_at dksX5_marksFits_6 17 rfl rfl)
theorem dX5_marksFits_156 : decode cX5_marksFits 156 = .ok (.iadd, 1) := dk_96 (dk_at dksX5_marksFits_6 19 rfl rfl)
theorem dX5_marksFits_157 : decode cX5_marksFits 157 = .ok (.iaload, 1) := dk_46 (dk_at dksX5_marksFits_6 20 rfl rfl)
theorem dX5_marksFits_158 : decode cX5_marksFits 158 = .ok (.iastore, 1) := dk_79 (dk_at dksX5_marksFits_6 21 rfl rfl)
theorem dX5_marksFits_159 : decode cX5_marksFits 159 = .ok (.iinc 5 1, 3) := dk_132 5 1 (dk_at dksX5_marksFits_7 0 rfl rfl)
theorem dX5_marksFits_162 : decode cX5_marksFits 162 = .ok (.goto (-36), 3) := dk_167 255 220 (dk_at dksX5_marksFits_7 3 rfl rfl)
theorem dX5_marksFits_165 : decode cX5_marksFits 165 = .ok (.aload_n 0, 1) := dk_42 (dk_at dksX5_marksFits_7 6 rfl rfl)
theorem dX5_marksFits_166 : decode cX5_marksFits 166 = .ok (.getfield 163, 3) := dk_180 0 163 (dk_at dksX5_marksFits_7 7 rfl rfl)
theorem dX5_marksFits_169 : decode cX5_marksFits 169 = .ok (.iload_n 2, 1) := dk_28 (dk_at dksX5_marksFits_7 10 rfl rfl)
theorem dX5_marksFits_170 : decode cX5_marksFits 170 = .ok (.aload_n 0, 1) := dk_42 (dk_at dksX5_marksFits_7 11 rfl rfl)
theorem dX5_marksFits_171 : decode cX5_marksFits 171 = .ok (.bipush 7, 2) := dk_16 7 (dk_at dksX5_marksFits_7 12 rfl rfl)
theorem dX5_marksFits_173 : decode cX5_marksFits 173 = .ok (.iload_n 2, 1) := dk_28 (dk_at dksX5_marksFits_7 14 rfl rfl)
theorem dX5_marksFits_174 : decode cX5_marksFits 174 = .ok (.bipush 6, 2) := dk_16 6 (dk_at dksX5_marksFits_7 15 rfl rfl)
theorem dX5_marksFits_176 : decode cX5_marksFits 176 = .ok (.invokevirtual 408, 3) := dk_182 1 152 (dk_at dksX5_marksFits_7 17 rfl rfl)
theorem dX5_marksFits_179 : decode cX5_marksFits 179 = .ok (.bastore, 1) := dk_84 (dk_at dksX5_marksFits_7 20 rfl rfl)
theorem dX5_marksFits_180 : decode cX5_marksFits 180 = .ok (.iinc 2 1, 3) := dk_132 2 1 (dk_at dksX5_marksFits_7 21 rfl rfl)
theorem dX5_marksFits_183 : decode cX5_marksFits 183 = .ok (.goto (-181), 3) := dk_167 255 75 (dk_at dksX5_marksFits_8 0 rfl rfl)
theorem dX5_marksFits_186 : decode cX5_marksFits 186 = .ok (.return_, 1) := dk_177 (dk_at dksX5_marksFits_8 3 rfl rfl)
def dkwX5_agrees_9 : List UInt8 := [132, 5, 1, 167, 255, 80, 4, 172]
abbrev dktX5_agrees_9 : List UInt8 := dkwX5_agrees_9 ++ []
def dkwX5_agrees_8 : List UInt8 := [154, 0, 5, 3, 172, 132, 9, 1, 167, 255, 207, 42, 180, 0, 151, 21, 4, 21, 7, 96, 21, 8, 79]
abbrev dktX5_agrees_8 : List UInt8 := dkwX5_agrees_8 ++ dktX5_agrees_9
def dkwX5_agrees_7 : List UInt8 := [159, 0, 28, 42, 21, 7, 21, 8, 21, 9, 42, 180, 0, 151, 21, 4, 21, 9, 96, 46, 182, 1, 148]
abbrev dktX5_agrees_7 : List UInt8 := dkwX5_agrees_7 ++ dktX5_agrees_8
def dkwX5_agrees_6 : List UInt8 := [167, 0, 70, 3, 54, 9, 21, 9, 16, 40, 162, 0, 48, 42, 180, 0, 151, 21, 4, 21, 9, 96, 46, 2]
abbrev dktX5_agrees_6 : List UInt8 := dkwX5_agrees_6 ++ dktX5_agrees_7
def dkwX5_agrees_5 : List UInt8 := [21, 8, 159, 0, 5, 3, 172, 42, 180, 0, 151, 21, 4, 21, 7, 96, 46, 21, 8, 160, 0, 6]
abbrev dktX5_agrees_5 : List UInt8 := dkwX5_agrees_5 ++ dktX5_agrees_6
def dkwX5_agrees_4 : List UInt8 := [180, 0, 151, 21, 4, 21, 7, 96, 46, 2, 159, 0, 20, 42, 180, 0, 151, 21, 4, 21, 7, 96, 46]
abbrev dktX5_agrees_4 : List UInt8 := dkwX5_agrees_4 ++ dktX5_agrees_5
def dkwX5_agrees_3 : List UInt8 := [180, 0, 72, 21, 6, 46, 54, 7, 42, 180, 0, 136, 16, 8, 29, 104, 21, 5, 96, 46, 54, 8, 42]
abbrev dktX5_agrees_3 : List UInt8 := dkwX5_agrees_3 ++ dktX5_agrees_4
def dkwX5_agrees_2 : List UInt8 := [42, 180, 0, 26, 16, 6, 28, 104, 21, 5, 96, 46, 54, 6, 21, 6, 2, 160, 0, 6, 167, 0, 142, 42]
abbrev dktX5_agrees_2 : List UInt8 := dkwX5_agrees_2 ++ dktX5_agrees_3
def dkwX5_agrees_1 : List UInt8 := [180, 0, 139, 29, 46, 154, 0, 5, 3, 172, 3, 54, 5, 21, 5, 42, 180, 0, 23, 28, 46, 162, 0, 171]
abbrev dktX5_agrees_1 : List UInt8 := dkwX5_agrees_1 ++ dktX5_agrees_2
def dkwX5_agrees_0 : List UInt8 := [16, 40, 27, 104, 54, 4, 42, 180, 0, 23, 28, 46, 42, 180, 0, 139, 29, 46, 160, 0, 12, 42]
abbrev dktX5_agrees_0 : List UInt8 := dkwX5_agrees_0 ++ dktX5_agrees_1
theorem dksX5_agrees_0 : cX5_agrees.data.toList.drop 0 = dktX5_agrees_0 := by decide +kernel
theorem dksX5_agrees_1 : cX5_agrees.data.toList.drop 22 = dktX5_agrees_1 := dk_seg dksX5_agrees_0 22 rfl rfl
theorem dksX5_agrees_2 : cX5_agrees.data.toList.drop 46 = dktX5_agrees_2 := dk_seg dksX5_agrees_1 24 rfl rfl
theorem dksX5_agrees_3 : cX5_agrees.data.toList.drop 70 = dktX5_agrees_3 := dk_seg dksX5_agrees_2 24 rfl rfl
theorem dksX5_agrees_4 : cX5_agrees.data.toList.drop 93 = dktX5_agrees_4 := dk_seg dksX5_agrees_3 23 rfl rfl
theorem dksX5_agrees_5 : cX5_agrees.data.toList.drop 116 = dktX5_agrees_5 := dk_seg dksX5_agrees_4 23 rfl rfl
theorem dksX5_agrees_6 : cX5_agrees.data.toList.drop 138 = dktX5_agrees_6 := dk_seg dksX5_agrees_5 22 rfl rfl
theorem dksX5_agrees_7 : cX5_agrees.data.toList.drop 162 = dktX5_agrees_7 := dk_seg dksX5_agrees_6 24 rfl rfl
theorem dksX5_agrees_8 : cX5_agrees.data.toList.drop 185 = dktX5_agrees_8 := dk_seg dksX5_agrees_7 23 rfl rfl
theorem dksX5_agrees_9 : cX5_agrees.data.toList.drop 208 = dktX5_agrees_9 := dk_seg dksX5_agrees_8 23 rfl rfl
theorem dX5_agrees_0 : decode cX5_agrees 0 = .ok (.bipush 40, 2) := dk_16 40 (dk_at dksX5_agrees_0 0 rfl rfl)
theorem dX5_agrees_2 : decode cX5_agrees 2 = .ok (.iload_n 1, 1) := dk_27 (dk_at dksX5_agrees_0 2 rfl rfl)
theorem dX5_agrees_3 : decode cX5_agrees 3 = .ok (.imul, 1) := dk_104 (dk_at dksX5_agrees_0 3 rfl rfl)
theorem dX5_agrees_4 : decode cX5_agrees 4 = .ok (.istore 4, 2) := dk_54 4 (dk_at dksX5_agrees_0 4 rfl rfl)
theorem dX5_agrees_6 : decode cX5_agrees 6 = .ok (.aload_n 0, 1) := dk_42 (dk_at dksX5_agrees_0 6 rfl rfl)
theorem dX5_agrees_7 : decode cX5_agrees 7 = .ok (.getfield 23, 3) := dk_180 0 23 (dk_at dksX5_agrees_0 7 rfl rfl)
theorem dX5_agrees_10 : decode cX5_agrees 10 = .ok (.iload_n 2, 1) := dk_28 (dk_at dksX5_agrees_0 10 rfl rfl)
theorem dX5_agrees_11 : decode cX5_agrees 11 = .ok (.iaload, 1) := dk_46 (dk_at dksX5_agrees_0 11 rfl rfl)
theorem dX5_agrees_12 : decode cX5_agrees 12 = .ok (.aload_n 0, 1) := dk_42 (dk_at dksX5_agrees_0 12 rfl rfl)
theorem dX5_agrees_13 : decode cX5_agrees 13 = .ok (.getfield 139, 3) := dk_180 0 139 (dk_at dksX5_agrees_0 13 rfl rfl)
theorem dX5_agrees_16 : decode cX5_agrees 16 = .ok (.iload_n 3, 1) := dk_29 (dk_at dksX5_agrees_0 16 rfl rfl)
theorem dX5_agrees_17 : decode cX5_agrees 17 = .ok (.iaload, 1) := dk_46 (dk_at dksX5_agrees_0 17 rfl rfl)
theorem dX5_agrees_18 : decode cX5_agrees 18 = .ok (.if_icmp .ne 12, 3) := dk_160 0 12 (dk_at dksX5_agrees_0 18 rfl rfl)
theorem dX5_agrees_21 : decode cX5_agrees 21 = .ok (.aload_n 0, 1) := dk_42 (dk_at dksX5_agrees_0 21 rfl rfl)
theorem dX5_agrees_22 : decode cX5_agrees 22 = .ok (.getfield 139, 3) := dk_180 0 139 (dk_at dksX5_agrees_1 0 rfl rfl)
theorem dX5_agrees_25 : decode cX5_agrees 25 = .ok (.iload_n 3, 1) := dk_29 (dk_at dksX5_agrees_1 3 rfl rfl)
theorem dX5_agrees_26 : decode cX5_agrees 26 = .ok (.iaload, 1) := dk_46 (dk_at dksX5_agrees_1 4 rfl rfl)
theorem dX5_agrees_27 : decode cX5_agrees 27 = .ok (.ifCond .ne 5, 3) := dk_154 0 5 (dk_at dksX5_agrees_1 5 rfl rfl)
theorem dX5_agrees_30 : decode cX5_agrees 30 = .ok (.iconst 0, 1) := dk_3 (dk_at dksX5_agrees_1 8 rfl rfl)
theorem dX5_agrees_31 : decode cX5_agrees 31 = .ok (.ireturn, 1) := dk_172 (dk_at dksX5_agrees_1 9 rfl rfl)
theorem dX5_agrees_32 : decode cX5_agrees 32 = .ok (.iconst 0, 1) := dk_3 (dk_at dksX5_agrees_1 10 rfl rfl)
theorem dX5_agrees_33 : decode cX5_agrees 33 = .ok (.istore 5, 2) := dk_54 5 (dk_at dksX5_agrees_1 11 rfl rfl)
theorem dX5_agrees_35 : decode cX5_agrees 35 = .ok (.iload 5, 2) := dk_21 5 (dk_at dksX5_agrees_1 13 rfl rfl)
theorem dX5_agrees_37 : decode cX5_agrees 37 = .ok (.aload_n 0, 1) := dk_42 (dk_at dksX5_agrees_1 15 rfl rfl)
theorem dX5_agrees_38 : decode cX5_agrees 38 = .ok (.getfield 23, 3) := dk_180 0 23 (dk_at dksX5_agrees_1 16 rfl rfl)
theorem dX5_agrees_41 : decode cX5_agrees 41 = .ok (.iload_n 2, 1) := dk_28 (dk_at dksX5_agrees_1 19 rfl rfl)
theorem dX5_agrees_42 : decode cX5_agrees 42 = .ok (.iaload, 1) := dk_46 (dk_at dksX5_agrees_1 20 rfl rfl)
theorem dX5_agrees_43 : decode cX5_agrees 43 = .ok (.if_icmp .ge 171, 3) := dk_162 0 171 (dk_at dksX5_agrees_1 21 rfl rfl)
theorem dX5_agrees_46 : decode cX5_agrees 46 = .ok (.aload_n 0, 1) := dk_42 (dk_at dksX5_agrees_2 0 rfl rfl)
theorem dX5_agrees_47 : decode cX5_agrees 47 = .ok (.getfield 26, 3) := dk_180 0 26 (dk_at dksX5_agrees_2 1 rfl rfl)
theorem dX5_agrees_50 : decode cX5_agrees 50 = .ok (.bipush 6, 2) := dk_16 6 (dk_at dksX5_agrees_2 4 rfl rfl)
theorem dX5_agrees_52 : decode cX5_agrees 52 = .ok (.iload_n 2, 1) := dk_28 (dk_at dksX5_agrees_2 6 rfl rfl)
theorem dX5_agrees_53 : decode cX5_agrees 53 = .ok (.imul, 1) := dk_104 (dk_at dksX5_agrees_2 7 rfl rfl)
theorem dX5_agrees_54 : decode cX5_agrees 54 = .ok (.iload 5, 2) := dk_21 5 (dk_at dksX5_agrees_2 8 rfl rfl)
theorem dX5_agrees_56 : decode cX5_agrees 56 = .ok (.iadd, 1) := dk_96 (dk_at dksX5_agrees_2 10 rfl rfl)
theorem dX5_agrees_57 : decode cX5_agrees 57 = .ok (.iaload, 1) := dk_46 (dk_at dksX5_agrees_2 11 rfl rfl)
theorem dX5_agrees_58 : decode cX5_agrees 58 = .ok (.istore 6, 2) := dk_54 6 (dk_at dksX5_agrees_2 12 rfl rfl)
theorem dX5_agrees_60 : decode cX5_agrees 60 = .ok (.iload 6, 2) := dk_21 6 (dk_at dksX5_agrees_2 14 rfl rfl)
theorem dX5_agrees_62 : decode cX5_agrees 62 = .ok (.iconst (-1), 1) := dk_2 (dk_at dksX5_agrees_2 16 rfl rfl)
theorem dX5_agrees_63 : decode cX5_agrees 63 = .ok (.if_icmp .ne 6, 3) := dk_160 0 6 (dk_at dksX5_agrees_2 17 rfl rfl)
theorem dX5_agrees_66 : decode cX5_agrees 66 = .ok (.goto 142, 3) := dk_167 0 142 (dk_at dksX5_agrees_2 20 rfl rfl)
theorem dX5_agrees_69 : decode cX5_agrees 69 = .ok (.aload_n 0, 1) := dk_42 (dk_at dksX5_agrees_2 23 rfl rfl)
theorem dX5_agrees_70 : decode cX5_agrees 70 = .ok (.getfield 72, 3) := dk_180 0 72 (dk_at dksX5_agrees_3 0 rfl rfl)
theorem dX5_agrees_73 : decode cX5_agrees 73 = .ok (.iload 6, 2) := dk_21 6 (dk_at dksX5_agrees_3 3 rfl rfl)
theorem dX5_agrees_75 : decode cX5_agrees 75 = .ok (.iaload, 1) := dk_46 (dk_at dksX5_agrees_3 5 rfl rfl)
theorem dX5_agrees_76 : decode cX5_agrees 76 = .ok (.istore 7, 2) := dk_54 7 (dk_at dksX5_agrees_3 6 rfl rfl)
theorem dX5_agrees_78 : decode cX5_agrees 78 = .ok (.aload_n 0, 1) := dk_42 (dk_at dksX5_agrees_3 8 rfl rfl)
theorem dX5_agrees_79 : decode cX5_agrees 79 = .ok (.getfield 136, 3) := dk_180 0 136 (dk_at dksX5_agrees_3 9 rfl rfl)
theorem dX5_agrees_82 : decode cX5_agrees 82 = .ok (.bipush 8, 2) := dk_16 8 (dk_at dksX5_agrees_3 12 rfl rfl)
theorem dX5_agrees_84 : decode cX5_agrees 84 = .ok (.iload_n 3, 1) := dk_29 (dk_at dksX5_agrees_3 14 rfl rfl)
theorem dX5_agrees_85 : decode cX5_agrees 85 = .ok (.imul, 1) := dk_104 (dk_at dksX5_agrees_3 15 rfl rfl)
theorem dX5_agrees_86 : decode cX5_agrees 86 = .ok (.iload 5, 2) := dk_21 5 (dk_at dksX5_agrees_3 16 rfl rfl)
theorem dX5_agrees_88 : decode cX5_agrees 88 = .ok (.iadd, 1) := dk_96 (dk_at dksX5_agrees_3 18 rfl rfl)
theorem dX5_agrees_89 : decode cX5_agrees 89 = .ok (.iaload, 1) := dk_46 (dk_at dksX5_agrees_3 19 rfl rfl)
theorem dX5_agrees_90 : decode cX5_agrees 90 = .ok (.istore 8, 2) := dk_54 8 (dk_at dksX5_agrees_3 20 rfl rfl)
theorem dX5_agrees_92 : decode cX5_agrees 92 = .ok (.aload_n 0, 1) := dk_42 (dk_at dksX5_agrees_3 22 rfl rfl)
theorem dX5_agrees_93 : decode cX5_agrees 93 = .ok (.getfield 151, 3) := dk_180 0 151 (dk_at dksX5_agrees_4 0 rfl rfl)
theorem dX5_agrees_96 : decode cX5_agrees 96 = .ok (.iload 4, 2) := dk_21 4 (dk_at dksX5_agrees_4 3 rfl rfl)
theorem dX5_agrees_98 : decode cX5_agrees 98 = .ok (.iload 7, 2) := dk_21 7 (dk_at dksX5_agrees_4 5 rfl rfl)
theorem dX5_agrees_100 : decode cX5_agrees 100 = .ok (.iadd, 1) := dk_96 (dk_at dksX5_agrees_4 7 rfl rfl)
theorem dX5_agrees_101 : decode cX5_agrees 101 = .ok (.iaload, 1) := dk_46 (dk_at dksX5_agrees_4 8 rfl rfl)
theorem dX5_agrees_102 : decode cX5_agrees 102 = .ok (.iconst (-1), 1) := dk_2 (dk_at dksX5_agrees_4 9 rfl rfl)
theorem dX5_agrees_103 : decode cX5_agrees 103 = .ok (.if_icmp .eq 20, 3) := dk_159 0 20 (dk_at dksX5_agrees_4 10 rfl rfl)
theorem dX5_agrees_106 : decode cX5_agrees 106 = .ok (.aload_n 0, 1) := dk_42 (dk_at dksX5_agrees_4 13 rfl rfl)
theorem dX5_agrees_107 : decode cX5_agrees 107 = .ok (.getfield 151, 3) := dk_180 0 151 (dk_at dksX5_agrees_4 14 rfl rfl)
theorem dX5_agrees_110 : decode cX5_agrees 110 = .ok (.iload 4, 2) := dk_21 4 (dk_at dksX5_agrees_4 17 rfl rfl)
theorem dX5_agrees_112 : decode cX5_agrees 112 = .ok (.iload 7, 2) := dk_21 7 (dk_at dksX5_agrees_4 19 rfl rfl)
theorem dX5_agrees_114 : decode cX5_agrees 114 = .ok (.iadd, 1) := dk_96 (dk_at dksX5_agrees_4 21 rfl rfl)
theorem dX5_agrees_115 : decode cX5_agrees 115 = .ok (.iaload, 1) := dk_46 (dk_at dksX5_agrees_4 22 rfl rfl)
theorem dX5_agrees_116 : decode cX5_agrees 116 = .ok (.iload 8, 2) := dk_21 8 (dk_at dksX5_agrees_5 0 rfl rfl)
theorem dX5_agrees_118 : decode cX5_agrees 118 = .ok (.if_icmp .eq 5, 3) := dk_159 0 5 (dk_at dksX5_agrees_5 2 rfl rfl)
theorem dX5_agrees_121 : decode cX5_agrees 121 = .ok (.iconst 0, 1) := dk_3 (dk_at dksX5_agrees_5 5 rfl rfl)
theorem dX5_agrees_122 : decode cX5_agrees 122 = .ok (.ireturn, 1) := dk_172 (dk_at dksX5_agrees_5 6 rfl rfl)
theorem dX5_agrees_123 : decode cX5_agrees 123 = .ok (.aload_n 0, 1) := dk_42 (dk_at dksX5_agrees_5 7 rfl rfl)
theorem dX5_agrees_124 : decode cX5_agrees 124 = .ok (.getfield 151, 3) := dk_180 0 151 (dk_at dksX5_agrees_5 8 rfl rfl)
theorem dX5_agrees_127 : decode cX5_agrees 127 = .ok (.iload 4, 2) := dk_21 4 (dk_at dksX5_agrees_5 11 rfl rfl)
theorem dX5_agrees_129 : decode cX5_agrees 129 = .ok (.iload 7, 2) := dk_21 7 (dk_at dksX5_agrees_5 13 rfl rfl)
theorem dX5_agrees_131 : decode cX5_agrees 131 = .ok (.iadd, 1) := dk_96 (dk_at dksX5_agrees_5 15 rfl rfl)
theorem dX5_agrees_132 : decode cX5_agrees 132 = .ok (.iaload, 1) := dk_46 (dk_at dksX5_agrees_5 16 rfl rfl)
theorem dX5_agrees_133 : decode cX5_agrees 133 = .ok (.iload 8, 2) := dk_21 8 (dk_at dksX5_agrees_5 17 rfl rfl)
theorem dX5_agrees_135 : decode cX5_agrees 135 = .ok (.if_icmp .ne 6, 3) := dk_160 0 6 (dk_at dksX5_agrees_5 19 rfl rfl)
theorem dX5_agrees_138 : decode cX5_agrees 138 = .ok (.goto 70, 3) := dk_167 0 70 (dk_at dksX5_agrees_6 0 rfl rfl)
theorem dX5_agrees_141 : decode cX5_agrees 141 = .ok (.iconst 0, 1) := dk_3 (dk_at dksX5_agrees_6 3 rfl rfl)
theorem dX5_agrees_142 : decode cX5_agrees 142 = .ok (.istore 9, 2) := dk_54 9 (dk_at dksX5_agrees_6 4 rfl rfl)
theorem dX5_agrees_144 : decode cX5_agrees 144 = .ok (.iload 9, 2) := dk_21 9 (dk_at dksX5_agrees_6 6 rfl rfl)
theorem dX5_agrees_146 : decode cX5_agrees 146 = .ok (.bipush 40, 2) := dk_16 40 (dk_at dksX5_agrees_6 8 rfl rfl)
theorem dX5_agrees_148 : decode cX5_agrees 148 = .ok (.if_icmp .ge 48, 3) := dk_162 0 48 (dk_at dksX5_agrees_6 10 rfl rfl)
theorem dX5_agrees_151 : decode cX5_agrees 151 = .ok (.aload_n 0, 1) := dk_42 (dk_at dksX5_agrees_6 13 rfl rfl)
theorem dX5_agrees_152 : decode cX5_agrees 152 = .ok (.getfield 151, 3) := dk_180 0 151 (dk_at dksX5_agrees_6 14 rfl rfl)
theorem dX5_agrees_155 : decode cX5_agrees 155 = .ok (.iload 4, 2) := dk_21 4 (dk_at dksX5_agrees_6 17 rfl rfl)
theorem dX5_agrees_157 : decode cX5_agrees 157 = .ok (.iload 9, 2) := dk_21 9 (dk_at dksX5_agrees_6 19 rfl rfl)
theorem dX5_agrees_159 : decode cX5_agrees 159 = .ok (.iadd, 1) := dk_96 (dk_at dksX5_agrees_6 21 rfl rfl)
theorem dX5_agrees_160 : decode cX5_agrees 160 = .ok (.iaload, 1) := dk_46 (dk_at dksX5_agrees_6 22 rfl rfl)
theorem dX5_agrees_161 : decode cX5_agrees 161 = .ok (.iconst (-1), 1) := dk_2 (dk_at dksX5_agrees_6 23 rfl rfl)
theorem dX5_agrees_162 : decode cX5_agrees 162 = .ok (.if_icmp .eq 28, 3) := dk_159 0 28 (dk_at dksX5_agrees_7 0 rfl rfl)
theorem dX5_agrees_165 : decode cX5_agrees 165 = .ok (.aload_n 0, 1) := dk_42 (dk_at dksX5_agrees_7 3 rfl rfl)
theorem dX5_agrees_166 : decode cX5_agrees 166 = .ok (.iload 7, 2) := dk_21 7 (dk_at dksX5_agrees_7 4 rfl rfl)
theorem dX5_agrees_168 : decode cX5_agrees 168 = .ok (.iload 8, 2) := dk_21 8 (dk_at dksX5_agrees_7 6 rfl rfl)
theorem dX5_agrees_170 : decode cX5_agrees 170 = .ok (.iload 9, 2) := dk_21 9 (dk_at dksX5_agrees_7 8 rfl rfl)
theorem dX5_agrees_172 : decode cX5_agrees 172 = .ok (.aload_n 0, 1) := dk_42 (dk_at dksX5_agrees_7 10 rfl rfl)
theorem dX5_agrees_173 : decode cX5_agrees 173 = .ok (.getfield 151, 3) := dk_180 0 151 (dk_at dksX5_agrees_7 11 rfl rfl)
theorem dX5_agrees_176 : decode cX5_agrees 176 = .ok (.iload 4, 2) := dk_21 4 (dk_at dksX5_agrees_7 14 rfl rfl)
theorem dX5_agrees_178 : decode cX5_agrees 178 = .ok (.iload 9, 2) := dk_21 9 (dk_at dksX5_agrees_7 16 rfl rfl)
theorem dX5_agrees_180 : decode cX5_agrees 180 = .ok (.iadd, 1) := dk_96 (dk_at dksX5_agrees_7 18 rfl rfl)
theorem dX5_agrees_181 : decode cX5_agrees 181 = .ok (.iaload, 1) := dk_46 (dk_at dksX5_agrees_7 19 rfl rfl)
theorem dX5_agrees_182 : decode cX5_agrees 182 = .ok (.invokevirtual 404, 3) := dk_182 1 148 (dk_at dksX5_agrees_7 20 rfl rfl)
theorem dX5_agrees_185 : decode cX5_agrees 185 = .ok (.ifCond .ne 5, 3) := dk_154 0 5 (dk_at dksX5_agrees_8 0 rfl rfl)
theorem dX5_agrees_188 : decode cX5_agrees 188 = .ok (.iconst 0, 1) := dk_3 (dk_at dksX5_agrees_8 3 rfl rfl)
theorem dX5_agrees_189 : decode cX5_agrees 189 = .ok (.ireturn, 1) := dk_172 (dk_at dksX5_agrees_8 4 rfl rfl)
theorem dX5_agrees_190 : decode cX5_agrees 190 = .ok (.iinc 9 1, 3) := dk_132 9 1 (dk_at dksX5_agrees_8 5 rfl rfl)
theorem dX5_agrees_193 : decode cX5_agrees 193 = .ok (.goto (-49), 3) := dk_167 255 207 (dk_at dksX5_agrees_8 8 rfl rfl)
theorem dX5_agrees_196 : decode cX5_agrees 196 = .ok (.aload_n 0, 1) := dk_42 (dk_at dksX5_agrees_8 11 rfl rfl)
theorem dX5_agrees_197 : decode cX5_agrees 197 = .ok (.getfield 151, 3) := dk_180 0 151 (dk_at dksX5_agrees_8 12 rfl rfl)
theorem dX5_agrees_200 : decode cX5_agrees 200 = .ok (.iload 4, 2) := dk_21 4 (dk_at dksX5_agrees_8 15 rfl rfl)
theorem dX5_agrees_202 : decode cX5_agrees 202 = .ok (.iload 7, 2) := dk_21 7 (dk_at dksX5_agrees_8 17 rfl rfl)
theorem dX5_agrees_204 : decode cX5_agrees 204 = .ok (.iadd, 1) := dk_96 (dk_at dksX5_agrees_8 19 rfl rfl)
theorem dX5_agrees_205 : decode cX5_agrees 205 = .ok (.iload 8, 2) := dk_21 8 (dk_at dksX5_agrees_8 20 rfl rfl)
theorem dX5_agrees_207 : decode cX5_agrees 207 = .ok (.iastore, 1) := dk_79 (dk_at dksX5_agrees_8 22 rfl rfl)
theorem dX5_agrees_208 : decode cX5_agrees 208 = .ok (.iinc 5 1, 3) := dk_132 5 1 (dk_at dksX5_agrees_9 0 rfl rfl)
theorem dX5_agrees_211 : decode cX5_agrees 211 = .ok (.goto (-176), 3) := dk_167 255 80 (dk_at dksX5_agrees_9 3 rfl rfl)
theorem dX5_agrees_214 : decode cX5_agrees 214 = .ok (.iconst 1, 1) := dk_4 (dk_at dksX5_agrees_9 6 rfl rfl)
theorem dX5_agrees_215 : decode cX5_agrees 215 = .ok (.ireturn, 1) := dk_172 (dk_at dksX5_agrees_9 7 rfl rfl)
def dkwX5_agree_5 : List UInt8 := [159, 0, 7, 4, 167, 0, 4, 3, 172]
abbrev dktX5_agree_5 : List UInt8 := dkwX5_agree_5 ++ []
def dkwX5_agree_4 : List UInt8 := [180, 0, 103, 17, 6, 64, 16, 40, 27, 104, 96, 29, 96, 51, 153, 0, 13, 28, 8, 112, 21, 4, 8, 112]
abbrev dktX5_agree_4 : List UInt8 := dkwX5_agree_4 ++ dktX5_agree_5
def dkwX5_agree_3 : List UInt8 := [16, 40, 27, 104, 29, 96, 51, 153, 0, 15, 28, 8, 108, 21, 4, 8, 108, 160, 0, 5, 3, 172, 42]
abbrev dktX5_agree_3 : List UInt8 := dkwX5_agree_3 ++ dktX5_agree_4
def dkwX5_agree_2 : List UInt8 := [16, 40, 29, 96, 46, 160, 0, 15, 28, 8, 112, 21, 4, 8, 112, 159, 0, 5, 3, 172, 42, 180, 0, 103]
abbrev dktX5_agree_2 : List UInt8 := dkwX5_agree_2 ++ dktX5_agree_3
def dkwX5_agree_1 : List UInt8 := [8, 108, 21, 4, 8, 108, 159, 0, 5, 3, 172, 42, 180, 0, 106, 16, 40, 27, 96, 46, 42, 180, 0, 106]
abbrev dktX5_agree_1 : List UInt8 := dkwX5_agree_1 ++ dktX5_agree_2
def dkwX5_agree_0 : List UInt8 := [28, 21, 4, 160, 0, 5, 3, 172, 42, 180, 0, 106, 27, 46, 42, 180, 0, 106, 29, 46, 160, 0, 15, 28]
abbrev dktX5_agree_0 : List UInt8 := dkwX5_agree_0 ++ dktX5_agree_1
theorem dksX5_agree_0 : cX5_agree.data.toList.drop 0 = dktX5_agree_0 := by decide +kernel
theorem dksX5_agree_1 : cX5_agree.data.toList.drop 24 = dktX5_agree_1 := dk_seg dksX5_agree_0 24 rfl rfl
theorem dksX5_agree_2 : cX5_agree.data.toList.drop 48 = dktX5_agree_2 := dk_seg dksX5_agree_1 24 rfl rfl
theorem dksX5_agree_3 : cX5_agree.data.toList.drop 72 = dktX5_agree_3 := dk_seg dksX5_agree_2 24 rfl rfl
theorem dksX5_agree_4 : cX5_agree.data.toList.drop 95 = dktX5_agree_4 := dk_seg dksX5_agree_3 23 rfl rfl
theorem dksX5_agree_5 : cX5_agree.data.toList.drop 119 = dktX5_agree_5 := dk_seg dksX5_agree_4 24 rfl rfl
theorem dX5_agree_0 : decode cX5_agree 0 = .ok (.iload_n 2, 1) := dk_28 (dk_at dksX5_agree_0 0 rfl rfl)
theorem dX5_agree_1 : decode cX5_agree 1 = .ok (.iload 4, 2) := dk_21 4 (dk_at dksX5_agree_0 1 rfl rfl)
theorem dX5_agree_3 : decode cX5_agree 3 = .ok (.if_icmp .ne 5, 3) := dk_160 0 5 (dk_at dksX5_agree_0 3 rfl rfl)
theorem dX5_agree_6 : decode cX5_agree 6 = .ok (.iconst 0, 1) := dk_3 (dk_at dksX5_agree_0 6 rfl rfl)
theorem dX5_agree_7 : decode cX5_agree 7 = .ok (.ireturn, 1) := dk_172 (dk_at dksX5_agree_0 7 rfl rfl)
theorem dX5_agree_8 : decode cX5_agree 8 = .ok (.aload_n 0, 1) := dk_42 (dk_at dksX5_agree_0 8 rfl rfl)
theorem dX5_agree_9 : decode cX5_agree 9 = .ok (.getfield 106, 3) := dk_180 0 106 (dk_at dksX5_agree_0 9 rfl rfl)
theorem dX5_agree_12 : decode cX5_agree 12 = .ok (.iload_n 1, 1) := dk_27 (dk_at dksX5_agree_0 12 rfl rfl)
theorem dX5_agree_13 : decode cX5_agree 13 = .ok (.iaload, 1) := dk_46 (dk_at dksX5_agree_0 13 rfl rfl)
theorem dX5_agree_14 : decode cX5_agree 14 = .ok (.aload_n 0, 1) := dk_42 (dk_at dksX5_agree_0 14 rfl rfl)
theorem dX5_agree_15 : decode cX5_agree 15 = .ok (.getfield 106, 3) := dk_180 0 106 (dk_at dksX5_agree_0 15 rfl rfl)
theorem dX5_agree_18 : decode cX5_agree 18 = .ok (.iload_n 3, 1) := dk_29 (dk_at dksX5_agree_0 18 rfl rfl)
theorem dX5_agree_19 : decode cX5_agree 19 = .ok (.iaload, 1) := dk_46 (dk_at dksX5_agree_0 19 rfl rfl)
theorem dX5_agree_20 : decode cX5_agree 20 = .ok (.if_icmp .ne 15, 3) := dk_160 0 15 (dk_at dksX5_agree_0 20 rfl rfl)
theorem dX5_agree_23 : decode cX5_agree 23 = .ok (.iload_n 2, 1) := dk_28 (dk_at dksX5_agree_0 23 rfl rfl)
theorem dX5_agree_24 : decode cX5_agree 24 = .ok (.iconst 5, 1) := dk_8 (dk_at dksX5_agree_1 0 rfl rfl)
theorem dX5_agree_25 : decode cX5_agree 25 = .ok (.idiv, 1) := dk_108 (dk_at dksX5_agree_1 1 rfl rfl)
theorem dX5_agree_26 : decode cX5_agree 26 = .ok (.iload 4, 2) := dk_21 4 (dk_at dksX5_agree_1 2 rfl rfl)
theorem dX5_agree_28 : decode cX5_agree 28 = .ok (.iconst 5, 1) := dk_8 (dk_at dksX5_agree_1 4 rfl rfl)
theorem dX5_agree_29 : decode cX5_agree 29 = .ok (.idiv, 1) := dk_108 (dk_at dksX5_agree_1 5 rfl rfl)
theorem dX5_agree_30 : decode cX5_agree 30 = .ok (.if_icmp .eq 5, 3) := dk_159 0 5 (dk_at dksX5_agree_1 6 rfl rfl)
theorem dX5_agree_33 : decode cX5_agree 33 = .ok (.iconst 0, 1) := dk_3 (dk_at dksX5_agree_1 9 rfl rfl)
theorem dX5_agree_34 : decode cX5_agree 34 = .ok (.ireturn, 1) := dk_172 (dk_at dksX5_agree_1 10 rfl rfl)
theorem dX5_agree_35 : decode cX5_agree 35 = .ok (.aload_n 0, 1) := dk_42 (dk_at dksX5_agree_1 11 rfl rfl)
theorem dX5_agree_36 : decode cX5_agree 36 = .ok (.getfield 106, 3) := dk_180 0 106 (dk_at dksX5_agree_1 12 rfl rfl)
theorem dX5_agree_39 : decode cX5_agree 39 = .ok (.bipush 40, 2) := dk_16 40 (dk_at dksX5_agree_1 15 rfl rfl)
theorem dX5_agree_41 : decode cX5_agree 41 = .ok (.iload_n 1, 1) := dk_27 (dk_at dksX5_agree_1 17 rfl rfl)
theorem dX5_agree_42 : decode cX5_agree 42 = .ok (.iadd, 1) := dk_96 (dk_at dksX5_agree_1 18 rfl rfl)
theorem dX5_agree_43 : decode cX5_agree 43 = .ok (.iaload, 1) := dk_46 (dk_at dksX5_agree_1 19 rfl rfl)
theorem dX5_agree_44 : decode cX5_agree 44 = .ok (.aload_n 0, 1) := dk_42 (dk_at dksX5_agree_1 20 rfl rfl)
theorem dX5_agree_45 : decode cX5_agree 45 = .ok (.getfield 106, 3) := dk_180 0 106 (dk_at dksX5_agree_1 21 rfl rfl)
theorem dX5_agree_48 : decode cX5_agree 48 = .ok (.bipush 40, 2) := dk_16 40 (dk_at dksX5_agree_2 0 rfl rfl)
theorem dX5_agree_50 : decode cX5_agree 50 = .ok (.iload_n 3, 1) := dk_29 (dk_at dksX5_agree_2 2 rfl rfl)
theorem dX5_agree_51 : decode cX5_agree 51 = .ok (.iadd, 1) := dk_96 (dk_at dksX5_agree_2 3 rfl rfl)
theorem dX5_agree_52 : decode cX5_agree 52 = .ok (.iaload, 1) := dk_46 (dk_at dksX5_agree_2 4 rfl rfl)
theorem dX5_agree_53 : decode cX5_agree 53 = .ok (.if_icmp .ne 15, 3) := dk_160 0 15 (dk_at dksX5_agree_2 5 rfl rfl)
theorem dX5_agree_56 : decode cX5_agree 56 = .ok (.iload_n 2, 1) := dk_28 (dk_at dksX5_agree_2 8 rfl rfl)
theorem dX5_agree_57 : decode cX5_agree 57 = .ok (.iconst 5, 1) := dk_8 (dk_at dksX5_agree_2 9 rfl rfl)
theorem dX5_agree_58 : decode cX5_agree 58 = .ok (.irem, 1) := dk_112 (dk_at dksX5_agree_2 10 rfl rfl)
theorem dX5_agree_59 : decode cX5_agree 59 = .ok (.iload 4, 2) := dk_21 4 (dk_at dksX5_agree_2 11 rfl rfl)
theorem dX5_agree_61 : decode cX5_agree 61 = .ok (.iconst 5, 1) := dk_8 (dk_at dksX5_agree_2 13 rfl rfl)
theorem dX5_agree_62 : decode cX5_agree 62 = .ok (.irem, 1) := dk_112 (dk_at dksX5_agree_2 14 rfl rfl)
theorem dX5_agree_63 : decode cX5_agree 63 = .ok (.if_icmp .eq 5, 3) := dk_159 0 5 (dk_at dksX5_agree_2 15 rfl rfl)
theorem dX5_agree_66 : decode cX5_agree 66 = .ok (.iconst 0, 1) := dk_3 (dk_at dksX5_agree_2 18 rfl rfl)
theorem dX5_agree_67 : decode cX5_agree 67 = .ok (.ireturn, 1) := dk_172 (dk_at dksX5_agree_2 19 rfl rfl)
theorem dX5_agree_68 : decode cX5_agree 68 = .ok (.aload_n 0, 1) := dk_42 (dk_at dksX5_agree_2 20 rfl rfl)
theorem dX5_agree_69 : decode cX5_agree 69 = .ok (.getfield 103, 3) := dk_180 0 103 (dk_at dksX5_agree_2 21 rfl rfl)
theorem dX5_agree_72 : decode cX5_agree 72 = .ok (.bipush 40, 2) := dk_16 40 (dk_at dksX5_agree_3 0 rfl rfl)
theorem dX5_agree_74 : decode cX5_agree 74 = .ok (.iload_n 1, 1) := dk_27 (dk_at dksX5_agree_3 2 rfl rfl)
theorem dX5_agree_75 : decode cX5_agree 75 = .ok (.imul, 1) := dk_104 (dk_at dksX5_agree_3 3 rfl rfl)
theorem dX5_agree_76 : decode cX5_agree 76 = .ok (.iload_n 3, 1) := dk_29 (dk_at dksX5_agree_3 4 rfl rfl)
theorem dX5_agree_77 : decode cX5_agree 77 = .ok (.iadd, 1) := dk_96 (dk_at dksX5_agree_3 5 rfl rfl)
theorem dX5_agree_78 : decode cX5_agree 78 = .ok (.baload, 1) := dk_51 (dk_at dksX5_agree_3 6 rfl rfl)
theorem dX5_agree_79 : decode cX5_agree 79 = .ok (.ifCond .eq 15, 3) := dk_153 0 15 (dk_at dksX5_agree_3 7 rfl rfl)
theorem dX5_agree_82 : decode cX5_agree 82 = .ok (.iload_n 2, 1) := dk_28 (dk_at dksX5_agree_3 10 rfl rfl)
theorem dX5_agree_83 : decode cX5_agree 83 = .ok (.iconst 5, 1) := dk_8 (dk_at dksX5_agree_3 11 rfl rfl)
theorem dX5_agree_84 : decode cX5_agree 84 = .ok (.idiv, 1) := dk_108 (dk_at dksX5_agree_3 12 rfl rfl)
theorem dX5_agree_85 : decode cX5_agree 85 = .ok (.iload 4, 2) := dk_21 4 (dk_at dksX5_agree_3 13 rfl rfl)
theorem dX5_agree_87 : decode cX5_agree 87 = .ok (.iconst 5, 1) := dk_8 (dk_at dksX5_agree_3 15 rfl rfl)
theorem dX5_agree_88 : decode cX5_agree 88 = .ok (.idiv, 1) := dk_108 (dk_at dksX5_agree_3 16 rfl rfl)
theorem dX5_agree_89 : decode cX5_agree 89 = .ok (.if_icmp .ne 5, 3) := dk_160 0 5 (dk_at dksX5_agree_3 17 rfl rfl)
theorem dX5_agree_92 : decode cX5_agree 92 = .ok (.iconst 0, 1) := dk_3 (dk_at dksX5_agree_3 20 rfl rfl)
theorem dX5_agree_93 : decode cX5_agree 93 = .ok (.ireturn, 1) := dk_172 (dk_at dksX5_agree_3 21 rfl rfl)
theorem dX5_agree_94 : decode cX5_agree 94 = .ok (.aload_n 0, 1) := dk_42 (dk_at dksX5_agree_3 22 rfl rfl)
theorem dX5_agree_95 : decode cX5_agree 95 = .ok (.getfield 103, 3) := dk_180 0 103 (dk_at dksX5_agree_4 0 rfl rfl)
theorem dX5_agree_98 : decode cX5_agree 98 = .ok (.sipush 1600, 3) := dk_17 6 64 (dk_at dksX5_agree_4 3 rfl rfl)
theorem dX5_agree_101 : decode cX5_agree 101 = .ok (.bipush 40, 2) := dk_16 40 (dk_at dksX5_agree_4 6 rfl rfl)
theorem dX5_agree_103 : decode cX5_agree 103 = .ok (.iload_n 1, 1) := dk_27 (dk_at dksX5_agree_4 8 rfl rfl)
theorem dX5_agree_104 : decode cX5_agree 104 = .ok (.imul, 1) := dk_104 (dk_at dksX5_agree_4 9 rfl rfl)
theorem dX5_agree_105 : decode cX5_agree 105 = .ok (.iadd, 1) := dk_96 (dk_at dksX5_agree_4 10 rfl rfl)
theorem dX5_agree_106 : decode cX5_agree 106 = .ok (.iload_n 3, 1) := dk_29 (dk_at dksX5_agree_4 11 rfl rfl)
theorem dX5_agree_107 : decode cX5_agree 107 = .ok (.iadd, 1) := dk_96 (dk_at dksX5_agree_4 12 rfl rfl)
theorem dX5_agree_108 : decode cX5_agree 108 = .ok (.baload, 1) := dk_51 (dk_at dksX5_agree_4 13 rfl rfl)
theorem dX5_agree_109 : decode cX5_agree 109 = .ok (.ifCond .eq 13, 3) := dk_153 0 13 (dk_at dksX5_agree_4 14 rfl rfl)
theorem dX5_agree_112 : decode cX5_agree 112 = .ok (.iload_n 2, 1) := dk_28 (dk_at dksX5_agree_4 17 rfl rfl)
theorem dX5_agree_113 : decode cX5_agree 113 = .ok (.iconst 5, 1) := dk_8 (dk_at dksX5_agree_4 18 rfl rfl)
theorem dX5_agree_114 : decode cX5_agree 114 = .ok (.irem, 1) := dk_112 (dk_at dksX5_agree_4 19 rfl rfl)
theorem dX5_agree_115 : decode cX5_agree 115 = .ok (.iload 4, 2) := dk_21 4 (dk_at dksX5_agree_4 20 rfl rfl)
theorem dX5_agree_117 : decode cX5_agree 117 = .ok (.iconst 5, 1) := dk_8 (dk_at dksX5_agree_4 22 rfl rfl)
theorem dX5_agree_118 : decode cX5_agree 118 = .ok (.irem, 1) := dk_112 (dk_at dksX5_agree_4 23 rfl rfl)
theorem dX5_agree_119 : decode cX5_agree 119 = .ok (.if_icmp .eq 7, 3) := dk_159 0 7 (dk_at dksX5_agree_5 0 rfl rfl)
theorem dX5_agree_122 : decode cX5_agree 122 = .ok (.iconst 1, 1) := dk_4 (dk_at dksX5_agree_5 3 rfl rfl)
theorem dX5_agree_123 : decode cX5_agree 123 = .ok (.goto 4, 3) := dk_167 0 4 (dk_at dksX5_agree_5 4 rfl rfl)
theorem dX5_agree_126 : decode cX5_agree 126 = .ok (.iconst 0, 1) := dk_3 (dk_at dksX5_agree_5 7 rfl rfl)
theorem dX5_agree_127 : decode cX5_agree 127 = .ok (.ireturn, 1) := dk_172 (dk_at dksX5_agree_5 8 rfl rfl)
def dkwX5_tries_5 : List UInt8 := [182, 1, 152, 172]
abbrev dktX5_tries_5 : List UInt8 := dkwX5_tries_5 ++ []
def dkwX5_tries_4 : List UInt8 := [167, 255, 223, 42, 27, 4, 96, 16, 8, 42, 180, 0, 127, 28, 46, 104, 42, 180, 0, 148, 27, 46, 96, 28]
abbrev dktX5_tries_4 : List UInt8 := dkwX5_tries_4 ++ dktX5_tries_5
def dkwX5_tries_3 : List UInt8 := [16, 40, 27, 4, 96, 104, 29, 96, 42, 180, 0, 151, 16, 40, 27, 104, 29, 96, 46, 79, 132, 3, 1]
abbrev dktX5_tries_3 : List UInt8 := dkwX5_tries_3 ++ dktX5_tries_4
def dkwX5_tries_2 : List UInt8 := [160, 0, 5, 3, 172, 132, 3, 1, 167, 255, 211, 3, 62, 29, 16, 40, 162, 0, 33, 42, 180, 0, 151]
abbrev dktX5_tries_2 : List UInt8 := dkwX5_tries_2 ++ dktX5_tries_3
def dkwX5_tries_1 : List UInt8 := [46, 42, 180, 0, 127, 28, 46, 160, 0, 20, 42, 180, 0, 148, 29, 46, 42, 180, 0, 148, 27, 46]
abbrev dktX5_tries_1 : List UInt8 := dkwX5_tries_1 ++ dktX5_tries_2
def dkwX5_tries_0 : List UInt8 := [42, 180, 0, 145, 27, 46, 61, 3, 62, 29, 27, 162, 0, 46, 42, 180, 0, 127, 42, 180, 0, 145, 29, 46]
abbrev dktX5_tries_0 : List UInt8 := dkwX5_tries_0 ++ dktX5_tries_1
theorem dksX5_tries_0 : cX5_tries.data.toList.drop 0 = dktX5_tries_0 := by decide +kernel
theorem dksX5_tries_1 : cX5_tries.data.toList.drop 24 = dktX5_tries_1 := dk_seg dksX5_tries_0 24 rfl rfl
theorem dksX5_tries_2 : cX5_tries.data.toList.drop 46 = dktX5_tries_2 := dk_seg dksX5_tries_1 22 rfl rfl
theorem dksX5_tries_3 : cX5_tries.data.toList.drop 69 = dktX5_tries_3 := dk_seg dksX5_tries_2 23 rfl rfl
theorem dksX5_tries_4 : cX5_tries.data.toList.drop 92 = dktX5_tries_4 := dk_seg dksX5_tries_3 23 rfl rfl
theorem dksX5_tries_5 : cX5_tries.data.toList.drop 116 = dktX5_tries_5 := dk_seg dksX5_tries_4 24 rfl rfl
theorem dX5_tries_0 : decode cX5_tries 0 = .ok (.aload_n 0, 1) := dk_42 (dk_at dksX5_tries_0 0 rfl rfl)
theorem dX5_tries_1 : decode cX5_tries 1 = .ok (.getfield 145, 3) := dk_180 0 145 (dk_at dksX5_tries_0 1 rfl rfl)
theorem dX5_tries_4 : decode cX5_tries 4 = .ok (.iload_n 1, 1) := dk_27 (dk_at dksX5_tries_0 4 rfl rfl)
theorem dX5_tries_5 : decode cX5_tries 5 = .ok (.iaload, 1) := dk_46 (dk_at dksX5_tries_0 5 rfl rfl)
theorem dX5_tries_6 : decode cX5_tries 6 = .ok (.istore_n 2, 1) := dk_61 (dk_at dksX5_tries_0 6 rfl rfl)
theorem dX5_tries_7 : decode cX5_tries 7 = .ok (.iconst 0, 1) := dk_3 (dk_at dksX5_tries_0 7 rfl rfl)
theorem dX5_tries_8 : decode cX5_tries 8 = .ok (.istore_n 3, 1) := dk_62 (dk_at dksX5_tries_0 8 rfl rfl)
theorem dX5_tries_9 : decode cX5_tries 9 = .ok (.iload_n 3, 1) := dk_29 (dk_at dksX5_tries_0 9 rfl rfl)
theorem dX5_tries_10 : decode cX5_tries 10 = .ok (.iload_n 1, 1) := dk_27 (dk_at dksX5_tries_0 10 rfl rfl)
theorem dX5_tries_11 : decode cX5_tries 11 = .ok (.if_icmp .ge 46, 3) := dk_162 0 46 (dk_at dksX5_tries_0 11 rfl rfl)
theorem dX5_tries_14 : decode cX5_tries 14 = .ok (.aload_n 0, 1) := dk_42 (dk_at dksX5_tries_0 14 rfl rfl)
theorem dX5_tries_15 : decode cX5_tries 15 = .ok (.getfield 127, 3) := dk_180 0 127 (dk_at dksX5_tries_0 15 rfl rfl)
theorem dX5_tries_18 : decode cX5_tries 18 = .ok (.aload_n 0, 1) := dk_42 (dk_at dksX5_tries_0 18 rfl rfl)
theorem dX5_tries_19 : decode cX5_tries 19 = .ok (.getfield 145, 3) := dk_180 0 145 (dk_at dksX5_tries_0 19 rfl rfl)
theorem dX5_tries_22 : decode cX5_tries 22 = .ok (.iload_n 3, 1) := dk_29 (dk_at dksX5_tries_0 22 rfl rfl)
theorem dX5_tries_23 : decode cX5_tries 23 = .ok (.iaload, 1) := dk_46 (dk_at dksX5_tries_0 23 rfl rfl)
theorem dX5_tries_24 : decode cX5_tries 24 = .ok (.iaload, 1) := dk_46 (dk_at dksX5_tries_1 0 rfl rfl)
theorem dX5_tries_25 : decode cX5_tries 25 = .ok (.aload_n 0, 1) := dk_42 (dk_at dksX5_tries_1 1 rfl rfl)
theorem dX5_tries_26 : decode cX5_tries 26 = .ok (.getfield 127, 3) := dk_180 0 127 (dk_at dksX5_tries_1 2 rfl rfl)
theorem dX5_tries_29 : decode cX5_tries 29 = .ok (.iload_n 2, 1) := dk_28 (dk_at dksX5_tries_1 5 rfl rfl)
theorem dX5_tries_30 : decode cX5_tries 30 = .ok (.iaload, 1) := dk_46 (dk_at dksX5_tries_1 6 rfl rfl)
theorem dX5_tries_31 : decode cX5_tries 31 = .ok (.if_icmp .ne 20, 3) := dk_160 0 20 (dk_at dksX5_tries_1 7 rfl rfl)
theorem dX5_tries_34 : decode cX5_tries 34 = .ok (.aload_n 0, 1) := dk_42 (dk_at dksX5_tries_1 10 rfl rfl)
theorem dX5_tries_35 : decode cX5_tries 35 = .ok (.getfield 148, 3) := dk_180 0 148 (dk_at dksX5_tries_1 11 rfl rfl)
theorem dX5_tries_38 : decode cX5_tries 38 = .ok (.iload_n 3, 1) := dk_29 (dk_at dksX5_tries_1 14 rfl rfl)
theorem dX5_tries_39 : decode cX5_tries 39 = .ok (.iaload, 1) := dk_46 (dk_at dksX5_tries_1 15 rfl rfl)
theorem dX5_tries_40 : decode cX5_tries 40 = .ok (.aload_n 0, 1) := dk_42 (dk_at dksX5_tries_1 16 rfl rfl)
theorem dX5_tries_41 : decode cX5_tries 41 = .ok (.getfield 148, 3) := dk_180 0 148 (dk_at dksX5_tries_1 17 rfl rfl)
theorem dX5_tries_44 : decode cX5_tries 44 = .ok (.iload_n 1, 1) := dk_27 (dk_at dksX5_tries_1 20 rfl rfl)
theorem dX5_tries_45 : decode cX5_tries 45 = .ok (.iaload, 1) := dk_46 (dk_at dksX5_tries_1 21 rfl rfl)
theorem dX5_tries_46 : decode cX5_tries 46 = .ok (.if_icmp .ne 5, 3) := dk_160 0 5 (dk_at dksX5_tries_2 0 rfl rfl)
theorem dX5_tries_49 : decode cX5_tries 49 = .ok (.iconst 0, 1) := dk_3 (dk_at dksX5_tries_2 3 rfl rfl)
theorem dX5_tries_50 : decode cX5_tries 50 = .ok (.ireturn, 1) := dk_172 (dk_at dksX5_tries_2 4 rfl rfl)
theorem dX5_tries_51 : decode cX5_tries 51 = .ok (.iinc 3 1, 3) := dk_132 3 1 (dk_at dksX5_tries_2 5 rfl rfl)
theorem dX5_tries_54 : decode cX5_tries 54 = .ok (.goto (-45), 3) := dk_167 255 211 (dk_at dksX5_tries_2 8 rfl rfl)
theorem dX5_tries_57 : decode cX5_tries 57 = .ok (.iconst 0, 1) := dk_3 (dk_at dksX5_tries_2 11 rfl rfl)
theorem dX5_tries_58 : decode cX5_tries 58 = .ok (.istore_n 3, 1) := dk_62 (dk_at dksX5_tries_2 12 rfl rfl)
theorem dX5_tries_59 : decode cX5_tries 59 = .ok (.iload_n 3, 1) := dk_29 (dk_at dksX5_tries_2 13 rfl rfl)
theorem dX5_tries_60 : decode cX5_tries 60 = .ok (.bipush 40, 2) := dk_16 40 (dk_at dksX5_tries_2 14 rfl rfl)
theorem dX5_tries_62 : decode cX5_tries 62 = .ok (.if_icmp .ge 33, 3) := dk_162 0 33 (dk_at dksX5_tries_2 16 rfl rfl)
theorem dX5_tries_65 : decode cX5_tries 65 = .ok (.aload_n 0, 1) := dk_42 (dk_at dksX5_tries_2 19 rfl rfl)
theorem dX5_tries_66 : decode cX5_tries 66 = .ok (.getfield 151, 3) := dk_180 0 151 (dk_at dksX5_tries_2 20 rfl rfl)
theorem dX5_tries_69 : decode cX5_tries 69 = .ok (.bipush 40, 2) := dk_16 40 (dk_at dksX5_tries_3 0 rfl rfl)
theorem dX5_tries_71 : decode cX5_tries 71 = .ok (.iload_n 1, 1) := dk_27 (dk_at dksX5_tries_3 2 rfl rfl)
theorem dX5_tries_72 : decode cX5_tries 72 = .ok (.iconst 1, 1) := dk_4 (dk_at dksX5_tries_3 3 rfl rfl)
theorem dX5_tries_73 : decode cX5_tries 73 = .ok (.iadd, 1) := dk_96 (dk_at dksX5_tries_3 4 rfl rfl)
theorem dX5_tries_74 : decode cX5_tries 74 = .ok (.imul, 1) := dk_104 (dk_at dksX5_tries_3 5 rfl rfl)
theorem dX5_tries_75 : decode cX5_tries 75 = .ok (.iload_n 3, 1) := dk_29 (dk_at dksX5_tries_3 6 rfl rfl)
theorem dX5_tries_76 : decode cX5_tries 76 = .ok (.iadd, 1) := dk_96 (dk_at dksX5_tries_3 7 rfl rfl)
theorem dX5_tries_77 : decode cX5_tries 77 = .ok (.aload_n 0, 1) := dk_42 (dk_at dksX5_tries_3 8 rfl rfl)
theorem dX5_tries_78 : decode cX5_tries 78 = .ok (.getfield 151, 3) := dk_180 0 151 (dk_at dksX5_tries_3 9 rfl rfl)
theorem dX5_tries_81 : decode cX5_tries 81 = .ok (.bipush 40, 2) := dk_16 40 (dk_at dksX5_tries_3 12 rfl rfl)
theorem dX5_tries_83 : decode cX5_tries 83 = .ok (.iload_n 1, 1) := dk_27 (dk_at dksX5_tries_3 14 rfl rfl)
theorem dX5_tries_84 : decode cX5_tries 84 = .ok (.imul, 1) := dk_104 (dk_at dksX5_tries_3 15 rfl rfl)
theorem dX5_tries_85 : decode cX5_tries 85 = .ok (.iload_n 3, 1) := dk_29 (dk_at dksX5_tries_3 16 rfl rfl)
theorem dX5_tries_86 : decode cX5_tries 86 = .ok (.iadd, 1) := dk_96 (dk_at dksX5_tries_3 17 rfl rfl)
theorem dX5_tries_87 : decode cX5_tries 87 = .ok (.iaload, 1) := dk_46 (dk_at dksX5_tries_3 18 rfl rfl)
theorem dX5_tries_88 : decode cX5_tries 88 = .ok (.iastore, 1) := dk_79 (dk_at dksX5_tries_3 19 rfl rfl)
theorem dX5_tries_89 : decode cX5_tries 89 = .ok (.iinc 3 1, 3) := dk_132 3 1 (dk_at dksX5_tries_3 20 rfl rfl)
theorem dX5_tries_92 : decode cX5_tries 92 = .ok (.goto (-33), 3) := dk_167 255 223 (dk_at dksX5_tries_4 0 rfl rfl)
theorem dX5_tries_95 : decode cX5_tries 95 = .ok (.aload_n 0, 1) := dk_42 (dk_at dksX5_tries_4 3 rfl rfl)
theorem dX5_tries_96 : decode cX5_tries 96 = .ok (.iload_n 1, 1) := dk_27 (dk_at dksX5_tries_4 4 rfl rfl)
theorem dX5_tries_97 : decode cX5_tries 97 = .ok (.iconst 1, 1) := dk_4 (dk_at dksX5_tries_4 5 rfl rfl)
theorem dX5_tries_98 : decode cX5_tries 98 = .ok (.iadd, 1) := dk_96 (dk_at dksX5_tries_4 6 rfl rfl)
theorem dX5_tries_99 : decode cX5_tries 99 = .ok (.bipush 8, 2) := dk_16 8 (dk_at dksX5_tries_4 7 rfl rfl)
theorem dX5_tries_101 : decode cX5_tries 101 = .ok (.aload_n 0, 1) := dk_42 (dk_at dksX5_tries_4 9 rfl rfl)
theorem dX5_tries_102 : decode cX5_tries 102 = .ok (.getfield 127, 3) := dk_180 0 127 (dk_at dksX5_tries_4 10 rfl rfl)
theorem dX5_tries_105 : decode cX5_tries 105 = .ok (.iload_n 2, 1) := dk_28 (dk_at dksX5_tries_4 13 rfl rfl)
theorem dX5_tries_106 : decode cX5_tries 106 = .ok (.iaload, 1) := dk_46 (dk_at dksX5_tries_4 14 rfl rfl)
theorem dX5_tries_107 : decode cX5_tries 107 = .ok (.imul, 1) := dk_104 (dk_at dksX5_tries_4 15 rfl rfl)
theorem dX5_tries_108 : decode cX5_tries 108 = .ok (.aload_n 0, 1) := dk_42 (dk_at dksX5_tries_4 16 rfl rfl)
theorem dX5_tries_109 : decode cX5_tries 109 = .ok (.getfield 148, 3) := dk_180 0 148 (dk_at dksX5_tries_4 17 rfl rfl)
theorem dX5_tries_112 : decode cX5_tries 112 = .ok (.iload_n 1, 1) := dk_27 (dk_at dksX5_tries_4 20 rfl rfl)
theorem dX5_tries_113 : decode cX5_tries 113 = .ok (.iaload, 1) := dk_46 (dk_at dksX5_tries_4 21 rfl rfl)
theorem dX5_tries_114 : decode cX5_tries 114 = .ok (.iadd, 1) := dk_96 (dk_at dksX5_tries_4 22 rfl rfl)
theorem dX5_tries_115 : decode cX5_tries 115 = .ok (.iload_n 2, 1) := dk_28 (dk_at dksX5_tries_4 23 rfl rfl)
theorem dX5_tries_116 : decode cX5_tries 116 = .ok (.invokevirtual 408, 3) := dk_182 1 152 (dk_at dksX5_tries_5 0 rfl rfl)
theorem dX5_tries_119 : decode cX5_tries 119 = .ok (.ireturn, 1) := dk_172 (dk_at dksX5_tries_5 3 rfl rfl)
def dkwX5_way_3 : List UInt8 := [172, 132, 4, 1, 167, 255, 225, 2, 172]
abbrev dktX5_way_3 : List UInt8 := dkwX5_way_3 ++ []
def dkwX5_way_2 : List UInt8 := [180, 1, 158, 162, 0, 28, 42, 180, 0, 145, 21, 4, 46, 29, 160, 0, 11, 42, 180, 0, 154, 21, 4, 46]
abbrev dktX5_way_2 : List UInt8 := dkwX5_way_2 ++ dktX5_way_3
def dkwX5_way_1 : List UInt8 := [100, 184, 0, 169, 153, 0, 12, 42, 27, 28, 182, 1, 185, 154, 0, 5, 2, 172, 3, 54, 4, 21, 4, 42]
abbrev dktX5_way_1 : List UInt8 := dkwX5_way_1 ++ dktX5_way_2
def dkwX5_way_0 : List UInt8 := [42, 3, 181, 0, 1, 42, 27, 182, 1, 42, 153, 0, 30, 28, 155, 0, 26, 29, 3, 42, 180, 1, 127, 4]
abbrev dktX5_way_0 : List UInt8 := dkwX5_way_0 ++ dktX5_way_1
theorem dksX5_way_0 : cX5_way.data.toList.drop 0 = dktX5_way_0 := by decide +kernel
theorem dksX5_way_1 : cX5_way.data.toList.drop 24 = dktX5_way_1 := dk_seg dksX5_way_0 24 rfl rfl
theorem dksX5_way_2 : cX5_way.data.toList.drop 48 = dktX5_way_2 := dk_seg dksX5_way_1 24 rfl rfl
theorem dksX5_way_3 : cX5_way.data.toList.drop 72 = dktX5_way_3 := dk_seg dksX5_way_2 24 rfl rfl
theorem dX5_way_0 : decode cX5_way 0 = .ok (.aload_n 0, 1) := dk_42 (dk_at dksX5_way_0 0 rfl rfl)
theorem dX5_way_1 : decode cX5_way 1 = .ok (.iconst 0, 1) := dk_3 (dk_at dksX5_way_0 1 rfl rfl)
theorem dX5_way_2 : decode cX5_way 2 = .ok (.putfield 1, 3) := dk_181 0 1 (dk_at dksX5_way_0 2 rfl rfl)
theorem dX5_way_5 : decode cX5_way 5 = .ok (.aload_n 0, 1) := dk_42 (dk_at dksX5_way_0 5 rfl rfl)
theorem dX5_way_6 : decode cX5_way 6 = .ok (.iload_n 1, 1) := dk_27 (dk_at dksX5_way_0 6 rfl rfl)
theorem dX5_way_7 : decode cX5_way 7 = .ok (.invokevirtual 298, 3) := dk_182 1 42 (dk_at dksX5_way_0 7 rfl rfl)
theorem dX5_way_10 : decode cX5_way 10 = .ok (.ifCond .eq 30, 3) := dk_153 0 30 (dk_at dksX5_way_0 10 rfl rfl)
theorem dX5_way_13 : decode cX5_way 13 = .ok (.iload_n 2, 1) := dk_28 (dk_at dksX5_way_0 13 rfl rfl)
theorem dX5_way_14 : decode cX5_way 14 = .ok (.ifCond .lt 26, 3) := dk_155 0 26 (dk_at dksX5_way_0 14 rfl rfl)
theorem dX5_way_17 : decode cX5_way 17 = .ok (.iload_n 3, 1) := dk_29 (dk_at dksX5_way_0 17 rfl rfl)
theorem dX5_way_18 : decode cX5_way 18 = .ok (.iconst 0, 1) := dk_3 (dk_at dksX5_way_0 18 rfl rfl)
theorem dX5_way_19 : decode cX5_way 19 = .ok (.aload_n 0, 1) := dk_42 (dk_at dksX5_way_0 19 rfl rfl)
theorem dX5_way_20 : decode cX5_way 20 = .ok (.getfield 383, 3) := dk_180 1 127 (dk_at dksX5_way_0 20 rfl rfl)
theorem dX5_way_23 : decode cX5_way 23 = .ok (.iconst 1, 1) := dk_4 (dk_at dksX5_way_0 23 rfl rfl)
theorem dX5_way_24 : decode cX5_way 24 = .ok (.isub, 1) := dk_100 (dk_at dksX5_way_1 0 rfl rfl)
theorem dX5_way_25 : decode cX5_way 25 = .ok (.invokestatic 169, 3) := dk_184 0 169 (dk_at dksX5_way_1 1 rfl rfl)
theorem dX5_way_28 : decode cX5_way 28 = .ok (.ifCond .eq 12, 3) := dk_153 0 12 (dk_at dksX5_way_1 4 rfl rfl)
theorem dX5_way_31 : decode cX5_way 31 = .ok (.aload_n 0, 1) := dk_42 (dk_at dksX5_way_1 7 rfl rfl)
theorem dX5_way_32 : decode cX5_way 32 = .ok (.iload_n 1, 1) := dk_27 (dk_at dksX5_way_1 8 rfl rfl)
theorem dX5_way_33 : decode cX5_way 33 = .ok (.iload_n 2, 1) := dk_28 (dk_at dksX5_way_1 9 rfl rfl)
theorem dX5_way_34 : decode cX5_way 34 = .ok (.invokevirtual 441, 3) := dk_182 1 185 (dk_at dksX5_way_1 10 rfl rfl)
theorem dX5_way_37 : decode cX5_way 37 = .ok (.ifCond .ne 5, 3) := dk_154 0 5 (dk_at dksX5_way_1 13 rfl rfl)
theorem dX5_way_40 : decode cX5_way 40 = .ok (.iconst (-1), 1) := dk_2 (dk_at dksX5_way_1 16 rfl rfl)
theorem dX5_way_41 : decode cX5_way 41 = .ok (.ireturn, 1) := dk_172 (dk_at dksX5_way_1 17 rfl rfl)
theorem dX5_way_42 : decode cX5_way 42 = .ok (.iconst 0, 1) := dk_3 (dk_at dksX5_way_1 18 rfl rfl)
theorem dX5_way_43 : decode cX5_way 43 = .ok (.istore 4, 2) := dk_54 4 (dk_at dksX5_way_1 19 rfl rfl)
theorem dX5_way_45 : decode cX5_way 45 = .ok (.iload 4, 2) := dk_21 4 (dk_at dksX5_way_1 21 rfl rfl)
theorem dX5_way_47 : decode cX5_way 47 = .ok (.aload_n 0, 1) := dk_42 (dk_at dksX5_way_1 23 rfl rfl)
theorem dX5_way_48 : decode cX5_way 48 = .ok (.getfield 414, 3) := dk_180 1 158 (dk_at dksX5_way_2 0 rfl rfl)
theorem dX5_way_51 : decode cX5_way 51 = .ok (.if_icmp .ge 28, 3) := dk_162 0 28 (dk_at dksX5_way_2 3 rfl rfl)
theorem dX5_way_54 : decode cX5_way 54 = .ok (.aload_n 0, 1) := dk_42 (dk_at dksX5_way_2 6 rfl rfl)
theorem dX5_way_55 : decode cX5_way 55 = .ok (.getfield 145, 3) := dk_180 0 145 (dk_at dksX5_way_2 7 rfl rfl)
theorem dX5_way_58 : decode cX5_way 58 = .ok (.iload 4, 2) := dk_21 4 (dk_at dksX5_way_2 10 rfl rfl)
theorem dX5_way_60 : decode cX5_way 60 = .ok (.iaload, 1) := dk_46 (dk_at dksX5_way_2 12 rfl rfl)
theorem dX5_way_61 : decode cX5_way 61 = .ok (.iload_n 3, 1) := dk_29 (dk_at dksX5_way_2 13 rfl rfl)
theorem dX5_way_62 : decode cX5_way 62 = .ok (.if_icmp .ne 11, 3) := dk_160 0 11 (dk_at dksX5_way_2 14 rfl rfl)
theorem dX5_way_65 : decode cX5_way 65 = .ok (.aload_n 0, 1) := dk_42 (dk_at dksX5_way_2 17 rfl rfl)
theorem dX5_way_66 : decode cX5_way 66 = .ok (.getfield 154, 3) := dk_180 0 154 (dk_at dksX5_way_2 18 rfl rfl)
theorem dX5_way_69 : decode cX5_way 69 = .ok (.iload 4, 2) := dk_21 4 (dk_at dksX5_way_2 21 rfl rfl)
theorem dX5_way_71 : decode cX5_way 71 = .ok (.iaload, 1) := dk_46 (dk_at dksX5_way_2 23 rfl rfl)
theorem dX5_way_72 : decode cX5_way 72 = .ok (.ireturn, 1) := dk_172 (dk_at dksX5_way_3 0 rfl rfl)
theorem dX5_way_73 : decode cX5_way 73 = .ok (.iinc 4 1, 3) := dk_132 4 1 (dk_at dksX5_way_3 1 rfl rfl)
theorem dX5_way_76 : decode cX5_way 76 = .ok (.goto (-31), 3) := dk_167 255 225 (dk_at dksX5_way_3 4 rfl rfl)
theorem dX5_way_79 : decode cX5_way 79 = .ok (.iconst (-1), 1) := dk_2 (dk_at dksX5_way_3 7 rfl rfl)
theorem dX5_way_80 : decode cX5_way 80 = .ok (.ireturn, 1) := dk_172 (dk_at dksX5_way_3 8 rfl rfl)
def dkwX5_findWay_1 : List UInt8 := [164, 0, 7, 4, 167, 0, 4, 3, 172]
abbrev dktX5_findWay_1 : List UInt8 := dkwX5_findWay_1 ++ []
def dkwX5_findWay_0 : List UInt8 := [42, 27, 3, 182, 1, 176, 42, 28, 181, 1, 161, 42, 5, 27, 182, 1, 179, 42, 180, 1, 155, 28]
abbrev dktX5_findWay_0 : List UInt8 := dkwX5_findWay_0 ++ dktX5_findWay_1
theorem dksX5_findWay_0 : cX5_findWay.data.toList.drop 0 = dktX5_findWay_0 := by decide +kernel
theorem dksX5_findWay_1 : cX5_findWay.data.toList.drop 22 = dktX5_findWay_1 := dk_seg dksX5_findWay_0 22 rfl rfl
theorem dX5_findWay_0 : decode cX5_findWay 0 = .ok (.aload_n 0, 1) := dk_42 (dk_at dksX5_findWay_0 0 rfl rfl)
theorem dX5_findWay_1 : decode cX5_findWay 1 = .ok (.iload_n 1, 1) := dk_27 (dk_at dksX5_findWay_0 1 rfl rfl)
theorem dX5_findWay_2 : decode cX5_findWay 2 = .ok (.iconst 0, 1) := dk_3 (dk_at dksX5_findWay_0 2 rfl rfl)
theorem dX5_findWay_3 : decode cX5_findWay 3 = .ok (.invokevirtual 432, 3) := dk_182 1 176 (dk_at dksX5_findWay_0 3 rfl rfl)
theorem dX5_findWay_6 : decode cX5_findWay 6 = .ok (.aload_n 0, 1) := dk_42 (dk_at dksX5_findWay_0 6 rfl rfl)
theorem dX5_findWay_7 : decode cX5_findWay 7 = .ok (.iload_n 2, 1) := dk_28 (dk_at dksX5_findWay_0 7 rfl rfl)
theorem dX5_findWay_8 : decode cX5_findWay 8 = .ok (.putfield 417, 3) := dk_181 1 161 (dk_at dksX5_findWay_0 8 rfl rfl)
theorem dX5_findWay_11 : decode cX5_findWay 11 = .ok (.aload_n 0, 1) := dk_42 (dk_at dksX5_findWay_0 11 rfl rfl)
theorem dX5_findWay_12 : decode cX5_findWay 12 = .ok (.iconst 2, 1) := dk_5 (dk_at dksX5_findWay_0 12 rfl rfl)
theorem dX5_findWay_13 : decode cX5_findWay 13 = .ok (.iload_n 1, 1) := dk_27 (dk_at dksX5_findWay_0 13 rfl rfl)
theorem dX5_findWay_14 : decode cX5_findWay 14 = .ok (.invokevirtual 435, 3) := dk_182 1 179 (dk_at dksX5_findWay_0 14 rfl rfl)
theorem dX5_findWay_17 : decode cX5_findWay 17 = .ok (.aload_n 0, 1) := dk_42 (dk_at dksX5_findWay_0 17 rfl rfl)
theorem dX5_findWay_18 : decode cX5_findWay 18 = .ok (.getfield 411, 3) := dk_180 1 155 (dk_at dksX5_findWay_0 18 rfl rfl)
theorem dX5_findWay_21 : decode cX5_findWay 21 = .ok (.iload_n 2, 1) := dk_28 (dk_at dksX5_findWay_0 21 rfl rfl)
theorem dX5_findWay_22 : decode cX5_findWay 22 = .ok (.if_icmp .le 7, 3) := dk_164 0 7 (dk_at dksX5_findWay_1 0 rfl rfl)
theorem dX5_findWay_25 : decode cX5_findWay 25 = .ok (.iconst 1, 1) := dk_4 (dk_at dksX5_findWay_1 3 rfl rfl)
theorem dX5_findWay_26 : decode cX5_findWay 26 = .ok (.goto 4, 3) := dk_167 0 4 (dk_at dksX5_findWay_1 4 rfl rfl)
theorem dX5_findWay_29 : decode cX5_findWay 29 = .ok (.iconst 0, 1) := dk_3 (dk_at dksX5_findWay_1 7 rfl rfl)
theorem dX5_findWay_30 : decode cX5_findWay 30 = .ok (.ireturn, 1) := dk_172 (dk_at dksX5_findWay_1 8 rfl rfl)
def dkwX5_given_2 : List UInt8 := [172]
abbrev dktX5_given_2 : List UInt8 := dkwX5_given_2 ++ []
def dkwX5_given_1 : List UInt8 := [42, 27, 28, 182, 1, 185, 153, 0, 17, 42, 180, 0, 157, 42, 180, 0, 72, 29, 46, 46, 167, 0, 4, 2]
abbrev dktX5_given_1 : List UInt8 := dkwX5_given_1 ++ dktX5_given_2
def dkwX5_given_0 : List UInt8 := [42, 3, 181, 0, 1, 42, 27, 182, 1, 42, 153, 0, 37, 28, 155, 0, 33, 29, 184, 1, 32, 153, 0, 26]
abbrev dktX5_given_0 : List UInt8 := dkwX5_given_0 ++ dktX5_given_1
theorem dksX5_given_0 : cX5_given.data.toList.drop 0 = dktX5_given_0 := by decide +kernel
theorem dksX5_given_1 : cX5_given.data.toList.drop 24 = dktX5_given_1 := dk_seg dksX5_given_0 24 rfl rfl
theorem dksX5_given_2 : cX5_given.data.toList.drop 48 = dktX5_given_2 := dk_seg dksX5_given_1 24 rfl rfl
theorem dX5_given_0 : decode cX5_given 0 = .ok (.aload_n 0, 1) := dk_42 (dk_at dksX5_given_0 0 rfl rfl)
theorem dX5_given_1 : decode cX5_given 1 = .ok (.iconst 0, 1) := dk_3 (dk_at dksX5_given_0 1 rfl rfl)
theorem dX5_given_2 : decode cX5_given 2 = .ok (.putfield 1, 3) := dk_181 0 1 (dk_at dksX5_given_0 2 rfl rfl)
theorem dX5_given_5 : decode cX5_given 5 = .ok (.aload_n 0, 1) := dk_42 (dk_at dksX5_given_0 5 rfl rfl)
theorem dX5_given_6 : decode cX5_given 6 = .ok (.iload_n 1, 1) := dk_27 (dk_at dksX5_given_0 6 rfl rfl)
theorem dX5_given_7 : decode cX5_given 7 = .ok (.invokevirtual 298, 3) := dk_182 1 42 (dk_at dksX5_given_0 7 rfl rfl)
theorem dX5_given_10 : decode cX5_given 10 = .ok (.ifCond .eq 37, 3) := dk_153 0 37 (dk_at dksX5_given_0 10 rfl rfl)
theorem dX5_given_13 : decode cX5_given 13 = .ok (.iload_n 2, 1) := dk_28 (dk_at dksX5_given_0 13 rfl rfl)
theorem dX5_given_14 : decode cX5_given 14 = .ok (.ifCond .lt 33, 3) := dk_155 0 33 (dk_at dksX5_given_0 14 rfl rfl)
theorem dX5_given_17 : decode cX5_given 17 = .ok (.iload_n 3, 1) := dk_29 (dk_at dksX5_given_0 17 rfl rfl)
theorem dX5_given_18 : decode cX5_given 18 = .ok (.invokestatic 288, 3) := dk_184 1 32 (dk_at dksX5_given_0 18 rfl rfl)
theorem dX5_given_21 : decode cX5_given 21 = .ok (.ifCond .eq 26, 3) := dk_153 0 26 (dk_at dksX5_given_0 21 rfl rfl)
theorem dX5_given_24 : decode cX5_given 24 = .ok (.aload_n 0, 1) := dk_42 (dk_at dksX5_given_1 0 rfl rfl)
theorem dX5_given_25 : decode cX5_given 25 = .ok (.iload_n 1, 1) := dk_27 (dk_at dksX5_given_1 1 rfl rfl)
theorem dX5_given_26 : decode cX5_given 26 = .ok (.iload_n 2, 1) := dk_28 (dk_at dksX5_given_1 2 rfl rfl)
theorem dX5_given_27 : decode cX5_given 27 = .ok (.invokevirtual 441, 3) := dk_182 1 185 (dk_at dksX5_given_1 3 rfl rfl)
theorem dX5_given_30 : decode cX5_given 30 = .ok (.ifCond .eq 17, 3) := dk_153 0 17 (dk_at dksX5_given_1 6 rfl rfl)
theorem dX5_given_33 : decode cX5_given 33 = .ok (.aload_n 0, 1) := dk_42 (dk_at dksX5_given_1 9 rfl rfl)
theorem dX5_given_34 : decode cX5_given 34 = .ok (.getfield 157, 3) := dk_180 0 157 (dk_at dksX5_given_1 10 rfl rfl)
theorem dX5_given_37 : decode cX5_given 37 = .ok (.aload_n 0, 1) := dk_42 (dk_at dksX5_given_1 13 rfl rfl)
theorem dX5_given_38 : decode cX5_given 38 = .ok (.getfield 72, 3) := dk_180 0 72 (dk_at dksX5_given_1 14 rfl rfl)
theorem dX5_given_41 : decode cX5_given 41 = .ok (.iload_n 3, 1) := dk_29 (dk_at dksX5_given_1 17 rfl rfl)
theorem dX5_given_42 : decode cX5_given 42 = .ok (.iaload, 1) := dk_46 (dk_at dksX5_given_1 18 rfl rfl)
theorem dX5_given_43 : decode cX5_given 43 = .ok (.iaload, 1) := dk_46 (dk_at dksX5_given_1 19 rfl rfl)
theorem dX5_given_44 : decode cX5_given 44 = .ok (.goto 4, 3) := dk_167 0 4 (dk_at dksX5_given_1 20 rfl rfl)
theorem dX5_given_47 : decode cX5_given 47 = .ok (.iconst (-1), 1) := dk_2 (dk_at dksX5_given_1 23 rfl rfl)
theorem dX5_given_48 : decode cX5_given 48 = .ok (.ireturn, 1) := dk_172 (dk_at dksX5_given_2 0 rfl rfl)
def dkwX5_forced_1 : List UInt8 := [182, 1, 182, 42, 42, 180, 0, 72, 28, 46, 182, 1, 188, 172]
abbrev dktX5_forced_1 : List UInt8 := dkwX5_forced_1 ++ []
def dkwX5_forced_0 : List UInt8 := [42, 3, 181, 0, 1, 42, 27, 182, 1, 42, 153, 0, 10, 28, 184, 1, 32, 154, 0, 5, 2, 172, 42, 27]
abbrev dktX5_forced_0 : List UInt8 := dkwX5_forced_0 ++ dktX5_forced_1
theorem dksX5_forced_0 : cX5_forced.data.toList.drop 0 = dktX5_forced_0 := by decide +kernel
theorem dksX5_forced_1 : cX5_forced.data.toList.drop 24 = dktX5_forced_1 := dk_seg dksX5_forced_0 24 rfl rfl
theorem dX5_forced_0 : decode cX5_forced 0 = .ok (.aload_n 0, 1) := dk_42 (dk_at dksX5_forced_0 0 rfl rfl)
theorem dX5_forced_1 : decode cX5_forced 1 = .ok (.iconst 0, 1) := dk_3 (dk_at dksX5_forced_0 1 rfl rfl)
theorem dX5_forced_2 : decode cX5_forced 2 = .ok (.putfield 1, 3) := dk_181 0 1 (dk_at dksX5_forced_0 2 rfl rfl)
theorem dX5_forced_5 : decode cX5_forced 5 = .ok (.aload_n 0, 1) := dk_42 (dk_at dksX5_forced_0 5 rfl rfl)
theorem dX5_forced_6 : decode cX5_forced 6 = .ok (.iload_n 1, 1) := dk_27 (dk_at dksX5_forced_0 6 rfl rfl)
theorem dX5_forced_7 : decode cX5_forced 7 = .ok (.invokevirtual 298, 3) := dk_182 1 42 (dk_at dksX5_forced_0 7 rfl rfl)
theorem dX5_forced_10 : decode cX5_forced 10 = .ok (.ifCond .eq 10, 3) := dk_153 0 10 (dk_at dksX5_forced_0 10 rfl rfl)
theorem dX5_forced_13 : decode cX5_forced 13 = .ok (.iload_n 2, 1) := dk_28 (dk_at dksX5_forced_0 13 rfl rfl)
theorem dX5_forced_14 : decode cX5_forced 14 = .ok (.invokestatic 288, 3) := dk_184 1 32 (dk_at dksX5_forced_0 14 rfl rfl)
theorem dX5_forced_17 : decode cX5_forced 17 = .ok (.ifCond .ne 5, 3) := dk_154 0 5 (dk_at dksX5_forced_0 17 rfl rfl)
theorem dX5_forced_20 : decode cX5_forced 20 = .ok (.iconst (-1), 1) := dk_2 (dk_at dksX5_forced_0 20 rfl rfl)
theorem dX5_forced_21 : decode cX5_forced 21 = .ok (.ireturn, 1) := dk_172 (dk_at dksX5_forced_0 21 rfl rfl)
theorem dX5_forced_22 : decode cX5_forced 22 = .ok (.aload_n 0, 1) := dk_42 (dk_at dksX5_forced_0 22 rfl rfl)
theorem dX5_forced_23 : decode cX5_forced 23 = .ok (.iload_n 1, 1) := dk_27 (dk_at dksX5_forced_0 23 rfl rfl)
theorem dX5_forced_24 : decode cX5_forced 24 = .ok (.invokevirtual 438, 3) := dk_182 1 182 (dk_at dksX5_forced_1 0 rfl rfl)
theorem dX5_forced_27 : decode cX5_forced 27 = .ok (.aload_n 0, 1) := dk_42 (dk_at dksX5_forced_1 3 rfl rfl)
theorem dX5_forced_28 : decode cX5_forced 28 = .ok (.aload_n 0, 1) := dk_42 (dk_at dksX5_forced_1 4 rfl rfl)
theorem dX5_forced_29 : decode cX5_forced 29 = .ok (.getfield 72, 3) := dk_180 0 72 (dk_at dksX5_forced_1 5 rfl rfl)
theorem dX5_forced_32 : decode cX5_forced 32 = .ok (.iload_n 2, 1) := dk_28 (dk_at dksX5_forced_1 8 rfl rfl)
theorem dX5_forced_33 : decode cX5_forced 33 = .ok (.iaload, 1) := dk_46 (dk_at dksX5_forced_1 9 rfl rfl)
theorem dX5_forced_34 : decode cX5_forced 34 = .ok (.invokevirtual 444, 3) := dk_182 1 188 (dk_at dksX5_forced_1 10 rfl rfl)
theorem dX5_forced_37 : decode cX5_forced 37 = .ok (.ireturn, 1) := dk_172 (dk_at dksX5_forced_1 13 rfl rfl)
def dkwX5_forcedOf_2 : List UInt8 := [172]
abbrev dktX5_forcedOf_2 : List UInt8 := dkwX5_forcedOf_2 ++ []
def dkwX5_forcedOf_1 : List UInt8 := [17, 0, 136, 27, 104, 29, 96, 46, 42, 180, 1, 155, 160, 0, 5, 29, 61, 132, 3, 1, 167, 255, 218, 28]
abbrev dktX5_forcedOf_1 : List UInt8 := dkwX5_forcedOf_1 ++ dktX5_forcedOf_2
def dkwX5_forcedOf_0 : List UInt8 := [2, 61, 3, 62, 29, 17, 0, 135, 162, 0, 37, 42, 180, 1, 155, 158, 0, 30, 42, 180, 0, 160]
abbrev dktX5_forcedOf_0 : List UInt8 := dkwX5_forcedOf_0 ++ dktX5_forcedOf_1
theorem dksX5_forcedOf_0 : cX5_forcedOf.data.toList.drop 0 = dktX5_forcedOf_0 := by decide +kernel
theorem dksX5_forcedOf_1 : cX5_forcedOf.data.toList.drop 22 = dktX5_forcedOf_1 := dk_seg dksX5_forcedOf_0 22 rfl rfl
theorem dksX5_forcedOf_2 : cX5_forcedOf.data.toList.drop 46 = dktX5_forcedOf_2 := dk_seg dksX5_forcedOf_1 24 rfl rfl
theorem dX5_forcedOf_0 : decode cX5_forcedOf 0 = .ok (.iconst (-1), 1) := dk_2 (dk_at dksX5_forcedOf_0 0 rfl rfl)
theorem dX5_forcedOf_1 : decode cX5_forcedOf 1 = .ok (.istore_n 2, 1) := dk_61 (dk_at dksX5_forcedOf_0 1 rfl rfl)
theorem dX5_forcedOf_2 : decode cX5_forcedOf 2 = .ok (.iconst 0, 1) := dk_3 (dk_at dksX5_forcedOf_0 2 rfl rfl)
theorem dX5_forcedOf_3 : decode cX5_forcedOf 3 = .ok (.istore_n 3, 1) := dk_62 (dk_at dksX5_forcedOf_0 3 rfl rfl)
theorem dX5_forcedOf_4 : decode cX5_forcedOf 4 = .ok (.iload_n 3, 1) := dk_29 (dk_at dksX5_forcedOf_0 4 rfl rfl)
theorem dX5_forcedOf_5 : decode cX5_forcedOf 5 = .ok (.sipush 135, 3) := dk_17 0 135 (dk_at dksX5_forcedOf_0 5 rfl rfl)
theorem dX5_forcedOf_8 : decode cX5_forcedOf 8 = .ok (.if_icmp .ge 37, 3) := dk_162 0 37 (dk_at dksX5_forcedOf_0 8 rfl rfl)
theorem dX5_forcedOf_11 : decode cX5_forcedOf 11 = .ok (.aload_n 0, 1) := dk_42 (dk_at dksX5_forcedOf_0 11 rfl rfl)
theorem dX5_forcedOf_12 : decode cX5_forcedOf 12 = .ok (.getfield 411, 3) := dk_180 1 155 (dk_at dksX5_forcedOf_0 12 rfl rfl)
theorem dX5_forcedOf_15 : decode cX5_forcedOf 15 = .ok (.ifCond .le 30, 3) := dk_158 0 30 (dk_at dksX5_forcedOf_0 15 rfl rfl)
theorem dX5_forcedOf_18 : decode cX5_forcedOf 18 = .ok (.aload_n 0, 1) := dk_42 (dk_at dksX5_forcedOf_0 18 rfl rfl)
theorem dX5_forcedOf_19 : decode cX5_forcedOf 19 = .ok (.getfield 160, 3) := dk_180 0 160 (dk_at dksX5_forcedOf_0 19 rfl rfl)
theorem dX5_forcedOf_22 : decode cX5_forcedOf 22 = .ok (.sipush 136, 3) := dk_17 0 136 (dk_at dksX5_forcedOf_1 0 rfl rfl)
theorem dX5_forcedOf_25 : decode cX5_forcedOf 25 = .ok (.iload_n 1, 1) := dk_27 (dk_at dksX5_forcedOf_1 3 rfl rfl)
theorem dX5_forcedOf_26 : decode cX5_forcedOf 26 = .ok (.imul, 1) := dk_104 (dk_at dksX5_forcedOf_1 4 rfl rfl)
theorem dX5_forcedOf_27 : decode cX5_forcedOf 27 = .ok (.iload_n 3, 1) := dk_29 (dk_at dksX5_forcedOf_1 5 rfl rfl)
theorem dX5_forcedOf_28 : decode cX5_forcedOf 28 = .ok (.iadd, 1) := dk_96 (dk_at dksX5_forcedOf_1 6 rfl rfl)
theorem dX5_forcedOf_29 : decode cX5_forcedOf 29 = .ok (.iaload, 1) := dk_46 (dk_at dksX5_forcedOf_1 7 rfl rfl)
theorem dX5_forcedOf_30 : decode cX5_forcedOf 30 = .ok (.aload_n 0, 1) := dk_42 (dk_at dksX5_forcedOf_1 8 rfl rfl)
theorem dX5_forcedOf_31 : decode cX5_forcedOf 31 = .ok (.getfield 411, 3) := dk_180 1 155 (dk_at dksX5_forcedOf_1 9 rfl rfl)
theorem dX5_forcedOf_34 : decode cX5_forcedOf 34 = .ok (.if_icmp .ne 5, 3) := dk_160 0 5 (dk_at dksX5_forcedOf_1 12 rfl rfl)
theorem dX5_forcedOf_37 : decode cX5_forcedOf 37 = .ok (.iload_n 3, 1) := dk_29 (dk_at dksX5_forcedOf_1 15 rfl rfl)
theorem dX5_forcedOf_38 : decode cX5_forcedOf 38 = .ok (.istore_n 2, 1) := dk_61 (dk_at dksX5_forcedOf_1 16 rfl rfl)
theorem dX5_forcedOf_39 : decode cX5_forcedOf 39 = .ok (.iinc 3 1, 3) := dk_132 3 1 (dk_at dksX5_forcedOf_1 17 rfl rfl)
theorem dX5_forcedOf_42 : decode cX5_forcedOf 42 = .ok (.goto (-38), 3) := dk_167 255 218 (dk_at dksX5_forcedOf_1 20 rfl rfl)
theorem dX5_forcedOf_45 : decode cX5_forcedOf 45 = .ok (.iload_n 2, 1) := dk_28 (dk_at dksX5_forcedOf_1 23 rfl rfl)
theorem dX5_forcedOf_46 : decode cX5_forcedOf 46 = .ok (.ireturn, 1) := dk_172 (dk_at dksX5_forcedOf_2 0 rfl rfl)
def dkwX5_reads_8 : List UInt8 := [132, 5, 1, 167, 255, 132, 42, 180, 1, 191, 172]
abbrev dktX5_reads_8 : List UInt8 := dkwX5_reads_8 ++ []
def dkwX5_reads_7 : List UInt8 := [16, 63, 167, 0, 10, 21, 7, 8, 112, 184, 1, 194, 79, 42, 89, 180, 1, 191, 4, 96, 181, 1, 191]
abbrev dktX5_reads_7 : List UInt8 := dkwX5_reads_7 ++ dktX5_reads_8
def dkwX5_reads_6 : List UInt8 := [42, 89, 180, 1, 191, 4, 96, 181, 1, 191, 42, 180, 0, 166, 42, 180, 1, 191, 21, 7, 2, 160, 0, 8]
abbrev dktX5_reads_6 : List UInt8 := dkwX5_reads_6 ++ dktX5_reads_7
def dkwX5_reads_5 : List UInt8 := [21, 7, 8, 161, 0, 31, 42, 180, 0, 166, 42, 180, 1, 191, 16, 97, 21, 7, 8, 108, 96, 4, 100, 79]
abbrev dktX5_reads_5 : List UInt8 := dkwX5_reads_5 ++ dktX5_reads_6
def dkwX5_reads_4 : List UInt8 := [21, 6, 2, 160, 0, 7, 2, 167, 0, 14, 42, 42, 180, 0, 72, 21, 6, 46, 182, 1, 188, 54, 7]
abbrev dktX5_reads_4 : List UInt8 := dkwX5_reads_4 ++ dktX5_reads_5
def dkwX5_reads_3 : List UInt8 := [180, 0, 23, 21, 4, 46, 162, 0, 118, 42, 180, 0, 26, 16, 6, 21, 4, 104, 21, 5, 96, 46, 54, 6]
abbrev dktX5_reads_3 : List UInt8 := dkwX5_reads_3 ++ dktX5_reads_4
def dkwX5_reads_2 : List UInt8 := [182, 1, 182, 16, 8, 28, 104, 29, 96, 54, 4, 42, 3, 181, 1, 191, 3, 54, 5, 21, 5, 42]
abbrev dktX5_reads_2 : List UInt8 := dkwX5_reads_2 ++ dktX5_reads_3
def dkwX5_reads_1 : List UInt8 := [153, 0, 19, 29, 3, 42, 180, 0, 20, 28, 46, 4, 100, 184, 0, 169, 154, 0, 5, 2, 172, 42, 27]
abbrev dktX5_reads_1 : List UInt8 := dkwX5_reads_1 ++ dktX5_reads_2
def dkwX5_reads_0 : List UInt8 := [42, 3, 181, 0, 1, 42, 27, 182, 1, 42, 153, 0, 33, 28, 3, 42, 180, 0, 243, 4, 100, 184, 0, 169]
abbrev dktX5_reads_0 : List UInt8 := dkwX5_reads_0 ++ dktX5_reads_1
theorem dksX5_reads_0 : cX5_reads.data.toList.drop 0 = dktX5_reads_0 := by decide +kernel
theorem dksX5_reads_1 : cX5_reads.data.toList.drop 24 = dktX5_reads_1 := dk_seg dksX5_reads_0 24 rfl rfl
theorem dksX5_reads_2 : cX5_reads.data.toList.drop 47 = dktX5_reads_2 := dk_seg dksX5_reads_1 23 rfl rfl
theorem dksX5_reads_3 : cX5_reads.data.toList.drop 69 = dktX5_reads_3 := dk_seg dksX5_reads_2 22 rfl rfl
theorem dksX5_reads_4 : cX5_reads.data.toList.drop 93 = dktX5_reads_4 := dk_seg dksX5_reads_3 24 rfl rfl
theorem dksX5_reads_5 : cX5_reads.data.toList.drop 116 = dktX5_reads_5 := dk_seg dksX5_reads_4 23 rfl rfl
theorem dksX5_reads_6 : cX5_reads.data.toList.drop 140 = dktX5_reads_6 := dk_seg dksX5_reads_5 24 rfl rfl
theorem dksX5_reads_7 : cX5_reads.data.toList.drop 164 = dktX5_reads_7 := dk_seg dksX5_reads_6 24 rfl rfl
theorem dksX5_reads_8 : cX5_reads.data.toList.drop 187 = dktX5_reads_8 := dk_seg dksX5_reads_7 23 rfl rfl
theorem dX5_reads_0 : decode cX5_reads 0 = .ok (.aload_n 0, 1) := dk_42 (dk_at dksX5_reads_0 0 rfl rfl)
theorem dX5_reads_1 : decode cX5_reads 1 = .ok (.iconst 0, 1) := dk_3 (dk_at dksX5_reads_0 1 rfl rfl)
theorem dX5_reads_2 : decode cX5_reads 2 = .ok (.putfield 1, 3) := dk_181 0 1 (dk_at dksX5_reads_0 2 rfl rfl)
theorem dX5_reads_5 : decode cX5_reads 5 = .ok (.aload_n 0, 1) := dk_42 (dk_at dksX5_reads_0 5 rfl rfl)
theorem dX5_reads_6 : decode cX5_reads 6 = .ok (.iload_n 1, 1) := dk_27 (dk_at dksX5_reads_0 6 rfl rfl)
theorem dX5_reads_7 : decode cX5_reads 7 = .ok (.invokevirtual 298, 3) := dk_182 1 42 (dk_at dksX5_reads_0 7 rfl rfl)
theorem dX5_reads_10 : decode cX5_reads 10 = .ok (.ifCond .eq 33, 3) := dk_153 0 33 (dk_at dksX5_reads_0 10 rfl rfl)
theorem dX5_reads_13 : decode cX5_reads 13 = .ok (.iload_n 2, 1) := dk_28 (dk_at dksX5_reads_0 13 rfl rfl)
theorem dX5_reads_14 : decode cX5_reads 14 = .ok (.iconst 0, 1) := dk_3 (dk_at dksX5_reads_0 14 rfl rfl)
theorem dX5_reads_15 : decode cX5_reads 15 = .ok (.aload_n 0, 1) := dk_42 (dk_at dksX5_reads_0 15 rfl rfl)
theorem dX5_reads_16 : decode cX5_reads 16 = .ok (.getfield 243, 3) := dk_180 0 243 (dk_at dksX5_reads_0 16 rfl rfl)
theorem dX5_reads_19 : decode cX5_reads 19 = .ok (.iconst 1, 1) := dk_4 (dk_at dksX5_reads_0 19 rfl rfl)
theorem dX5_reads_20 : decode cX5_reads 20 = .ok (.isub, 1) := dk_100 (dk_at dksX5_reads_0 20 rfl rfl)
theorem dX5_reads_21 : decode cX5_reads 21 = .ok (.invokestatic 169, 3) := dk_184 0 169 (dk_at dksX5_reads_0 21 rfl rfl)
theorem dX5_reads_24 : decode cX5_reads 24 = .ok (.ifCond .eq 19, 3) := dk_153 0 19 (dk_at dksX5_reads_1 0 rfl rfl)
theorem dX5_reads_27 : decode cX5_reads 27 = .ok (.iload_n 3, 1) := dk_29 (dk_at dksX5_reads_1 3 rfl rfl)
theorem dX5_reads_28 : decode cX5_reads 28 = .ok (.iconst 0, 1) := dk_3 (dk_at dksX5_reads_1 4 rfl rfl)
theorem dX5_reads_29 : decode cX5_reads 29 = .ok (.aload_n 0, 1) := dk_42 (dk_at dksX5_reads_1 5 rfl rfl)
theorem dX5_reads_30 : decode cX5_reads 30 = .ok (.getfield 20, 3) := dk_180 0 20 (dk_at dksX5_reads_1 6 rfl rfl)
theorem dX5_reads_33 : decode cX5_reads 33 = .ok (.iload_n 2, 1) := dk_28 (dk_at dksX5_reads_1 9 rfl rfl)
theorem dX5_reads_34 : decode cX5_reads 34 = .ok (.iaload, 1) := dk_46 (dk_at dksX5_reads_1 10 rfl rfl)
theorem dX5_reads_35 : decode cX5_reads 35 = .ok (.iconst 1, 1) := dk_4 (dk_at dksX5_reads_1 11 rfl rfl)
theorem dX5_reads_36 : decode cX5_reads 36 = .ok (.isub, 1) := dk_100 (dk_at dksX5_reads_1 12 rfl rfl)
theorem dX5_reads_37 : decode cX5_reads 37 = .ok (.invokestatic 169, 3) := dk_184 0 169 (dk_at dksX5_reads_1 13 rfl rfl)
theorem dX5_reads_40 : decode cX5_reads 40 = .ok (.ifCond .ne 5, 3) := dk_154 0 5 (dk_at dksX5_reads_1 16 rfl rfl)
theorem dX5_reads_43 : decode cX5_reads 43 = .ok (.iconst (-1), 1) := dk_2 (dk_at dksX5_reads_1 19 rfl rfl)
theorem dX5_reads_44 : decode cX5_reads 44 = .ok (.ireturn, 1) := dk_172 (dk_at dksX5_reads_1 20 rfl rfl)
theorem dX5_reads_45 : decode cX5_reads 45 = .ok (.aload_n 0, 1) := dk_42 (dk_at dksX5_reads_1 21 rfl rfl)
theorem dX5_reads_46 : decode cX5_reads 46 = .ok (.iload_n 1, 1) := dk_27 (dk_at dksX5_reads_1 22 rfl rfl)
theorem dX5_reads_47 : decode cX5_reads 47 = .ok (.invokevirtual 438, 3) := dk_182 1 182 (dk_at dksX5_reads_2 0 rfl rfl)
theorem dX5_reads_50 : decode cX5_reads 50 = .ok (.bipush 8, 2) := dk_16 8 (dk_at dksX5_reads_2 3 rfl rfl)
theorem dX5_reads_52 : decode cX5_reads 52 = .ok (.iload_n 2, 1) := dk_28 (dk_at dksX5_reads_2 5 rfl rfl)
theorem dX5_reads_53 : decode cX5_reads 53 = .ok (.imul, 1) := dk_104 (dk_at dksX5_reads_2 6 rfl rfl)
theorem dX5_reads_54 : decode cX5_reads 54 = .ok (.iload_n 3, 1) := dk_29 (dk_at dksX5_reads_2 7 rfl rfl)
theorem dX5_reads_55 : decode cX5_reads 55 = .ok (.iadd, 1) := dk_96 (dk_at dksX5_reads_2 8 rfl rfl)
theorem dX5_reads_56 : decode cX5_reads 56 = .ok (.istore 4, 2) := dk_54 4 (dk_at dksX5_reads_2 9 rfl rfl)
theorem dX5_reads_58 : decode cX5_reads 58 = .ok (.aload_n 0, 1) := dk_42 (dk_at dksX5_reads_2 11 rfl rfl)
theorem dX5_reads_59 : decode cX5_reads 59 = .ok (.iconst 0, 1) := dk_3 (dk_at dksX5_reads_2 12 rfl rfl)
theorem dX5_reads_60 : decode cX5_reads 60 = .ok (.putfield 447, 3) := dk_181 1 191 (dk_at dksX5_reads_2 13 rfl rfl)
theorem dX5_reads_63 : decode cX5_reads 63 = .ok (.iconst 0, 1) := dk_3 (dk_at dksX5_reads_2 16 rfl rfl)
theorem dX5_reads_64 : decode cX5_reads 64 = .ok (.istore 5, 2) := dk_54 5 (dk_at dksX5_reads_2 17 rfl rfl)
theorem dX5_reads_66 : decode cX5_reads 66 = .ok (.iload 5, 2) := dk_21 5 (dk_at dksX5_reads_2 19 rfl rfl)
theorem dX5_reads_68 : decode cX5_reads 68 = .ok (.aload_n 0, 1) := dk_42 (dk_at dksX5_reads_2 21 rfl rfl)
theorem dX5_reads_69 : decode cX5_reads 69 = .ok (.getfield 23, 3) := dk_180 0 23 (dk_at dksX5_reads_3 0 rfl rfl)
theorem dX5_reads_72 : decode cX5_reads 72 = .ok (.iload 4, 2) := dk_21 4 (dk_at dksX5_reads_3 3 rfl rfl)
theorem dX5_reads_74 : decode cX5_reads 74 = .ok (.iaload, 1) := dk_46 (dk_at dksX5_reads_3 5 rfl rfl)
theorem dX5_reads_75 : decode cX5_reads 75 = .ok (.if_icmp .ge 118, 3) := dk_162 0 118 (dk_at dksX5_reads_3 6 rfl rfl)
theorem dX5_reads_78 : decode cX5_reads 78 = .ok (.aload_n 0, 1) := dk_42 (dk_at dksX5_reads_3 9 rfl rfl)
theorem dX5_reads_79 : decode cX5_reads 79 = .ok (.getfield 26, 3) := dk_180 0 26 (dk_at dksX5_reads_3 10 rfl rfl)
theorem dX5_reads_82 : decode cX5_reads 82 = .ok (.bipush 6, 2) := dk_16 6 (dk_at dksX5_reads_3 13 rfl rfl)
theorem dX5_reads_84 : decode cX5_reads 84 = .ok (.iload 4, 2) := dk_21 4 (dk_at dksX5_reads_3 15 rfl rfl)
theorem dX5_reads_86 : decode cX5_reads 86 = .ok (.imul, 1) := dk_104 (dk_at dksX5_reads_3 17 rfl rfl)
theorem dX5_reads_87 : decode cX5_reads 87 = .ok (.iload 5, 2) := dk_21 5 (dk_at dksX5_reads_3 18 rfl rfl)
theorem dX5_reads_89 : decode cX5_reads 89 = .ok (.iadd, 1) := dk_96 (dk_at dksX5_reads_3 20 rfl rfl)
theorem dX5_reads_90 : decode cX5_reads 90 = .ok (.iaload, 1) := dk_46 (dk_at dksX5_reads_3 21 rfl rfl)
theorem dX5_reads_91 : decode cX5_reads 91 = .ok (.istore 6, 2) := dk_54 6 (dk_at dksX5_reads_3 22 rfl rfl)
theorem dX5_reads_93 : decode cX5_reads 93 = .ok (.iload 6, 2) := dk_21 6 (dk_at dksX5_reads_4 0 rfl rfl)
theorem dX5_reads_95 : decode cX5_reads 95 = .ok (.iconst (-1), 1) := dk_2 (dk_at dksX5_reads_4 2 rfl rfl)
theorem dX5_reads_96 : decode cX5_reads 96 = .ok (.if_icmp .ne 7, 3) := dk_160 0 7 (dk_at dksX5_reads_4 3 rfl rfl)
theorem dX5_reads_99 : decode cX5_reads 99 = .ok (.iconst (-1), 1) := dk_2 (dk_at dksX5_reads_4 6 rfl rfl)
theorem dX5_reads_100 : decode cX5_reads 100 = .ok (.goto 14, 3) := dk_167 0 14 (dk_at dksX5_reads_4 7 rfl rfl)
theorem dX5_reads_103 : decode cX5_reads 103 = .ok (.aload_n 0, 1) := dk_42 (dk_at dksX5_reads_4 10 rfl rfl)
theorem dX5_reads_104 : decode cX5_reads 104 = .ok (.aload_n 0, 1) := dk_42 (dk_at dksX5_reads_4 11 rfl rfl)
theorem dX5_reads_105 : decode cX5_reads 105 = .ok (.getfield 72, 3) := dk_180 0 72 (dk_at dksX5_reads_4 12 rfl rfl)
theorem dX5_reads_108 : decode cX5_reads 108 = .ok (.iload 6, 2) := dk_21 6 (dk_at dksX5_reads_4 15 rfl rfl)
theorem dX5_reads_110 : decode cX5_reads 110 = .ok (.iaload, 1) := dk_46 (dk_at dksX5_reads_4 17 rfl rfl)
theorem dX5_reads_111 : decode cX5_reads 111 = .ok (.invokevirtual 444, 3) := dk_182 1 188 (dk_at dksX5_reads_4 18 rfl rfl)
theorem dX5_reads_114 : decode cX5_reads 114 = .ok (.istore 7, 2) := dk_54 7 (dk_at dksX5_reads_4 21 rfl rfl)
theorem dX5_reads_116 : decode cX5_reads 116 = .ok (.iload 7, 2) := dk_21 7 (dk_at dksX5_reads_5 0 rfl rfl)
theorem dX5_reads_118 : decode cX5_reads 118 = .ok (.iconst 5, 1) := dk_8 (dk_at dksX5_reads_5 2 rfl rfl)
theorem dX5_reads_119 : decode cX5_reads 119 = .ok (.if_icmp .lt 31, 3) := dk_161 0 31 (dk_at dksX5_reads_5 3 rfl rfl)
theorem dX5_reads_122 : decode cX5_reads 122 = .ok (.aload_n 0, 1) := dk_42 (dk_at dksX5_reads_5 6 rfl rfl)
theorem dX5_reads_123 : decode cX5_reads 123 = .ok (.getfield 166, 3) := dk_180 0 166 (dk_at dksX5_reads_5 7 rfl rfl)
theorem dX5_reads_126 : decode cX5_reads 126 = .ok (.aload_n 0, 1) := dk_42 (dk_at dksX5_reads_5 10 rfl rfl)
theorem dX5_reads_127 : decode cX5_reads 127 = .ok (.getfield 447, 3) := dk_180 1 191 (dk_at dksX5_reads_5 11 rfl rfl)
theorem dX5_reads_130 : decode cX5_reads 130 = .ok (.bipush 97, 2) := dk_16 97 (dk_at dksX5_reads_5 14 rfl rfl)
theorem dX5_reads_132 : decode cX5_reads 132 = .ok (.iload 7, 2) := dk_21 7 (dk_at dksX5_reads_5 16 rfl rfl)
theorem dX5_reads_134 : decode cX5_reads 134 = .ok (.iconst 5, 1) := dk_8 (dk_at dksX5_reads_5 18 rfl rfl)
theorem dX5_reads_135 : decode cX5_reads 135 = .ok (.idiv, 1) := dk_108 (dk_at dksX5_reads_5 19 rfl rfl)
theorem dX5_reads_136 : decode cX5_reads 136 = .ok (.iadd, 1) := dk_96 (dk_at dksX5_reads_5 20 rfl rfl)
theorem dX5_reads_137 : decode cX5_reads 137 = .ok (.iconst 1, 1) := dk_4 (dk_at dksX5_reads_5 21 rfl rfl)
theorem dX5_reads_138 : decode cX5_reads 138 = .ok (.isub, 1) := dk_100 (dk_at dksX5_reads_5 22 rfl rfl)
theorem dX5_reads_139 : decode cX5_reads 139 = .ok (.iastore, 1) := dk_79 (dk_at dksX5_reads_5 23 rfl rfl)
theorem dX5_reads_140 : decode cX5_reads 140 = .ok (.aload_n 0, 1) := dk_42 (dk_at dksX5_reads_6 0 rfl rfl)
theorem dX5_reads_141 : decode cX5_reads 141 = .ok (.dup, 1) := dk_89 (dk_at dksX5_reads_6 1 rfl rfl)
theorem dX5_reads_142 : decode cX5_reads 142 = .ok (.getfield 447, 3) := dk_180 1 191 (dk_at dksX5_reads_6 2 rfl rfl)
theorem dX5_reads_145 : decode cX5_reads 145 = .ok (.iconst 1, 1) := dk_4 (dk_at dksX5_reads_6 5 rfl rfl)
theorem dX5_reads_146 : decode cX5_reads 146 = .ok (.iadd, 1) := dk_96 (dk_at dksX5_reads_6 6 rfl rfl)
theorem dX5_reads_147 : decode cX5_reads 147 = .ok (.putfield 447, 3) := dk_181 1 191 (dk_at dksX5_reads_6 7 rfl rfl)
theorem dX5_reads_150 : decode cX5_reads 150 = .ok (.aload_n 0, 1) := dk_42 (dk_at dksX5_reads_6 10 rfl rfl)
theorem dX5_reads_151 : decode cX5_reads 151 = .ok (.getfield 166, 3) := dk_180 0 166 (dk_at dksX5_reads_6 11 rfl rfl)
theorem dX5_reads_154 : decode cX5_reads 154 = .ok (.aload_n 0, 1) := dk_42 (dk_at dksX5_reads_6 14 rfl rfl)
theorem dX5_reads_155 : decode cX5_reads 155 = .ok (.getfield 447, 3) := dk_180 1 191 (dk_at dksX5_reads_6 15 rfl rfl)
theorem dX5_reads_158 : decode cX5_reads 158 = .ok (.iload 7, 2) := dk_21 7 (dk_at dksX5_reads_6 18 rfl rfl)
theorem dX5_reads_160 : decode cX5_reads 160 = .ok (.iconst (-1), 1) := dk_2 (dk_at dksX5_reads_6 20 rfl rfl)
theorem dX5_reads_161 : decode cX5_reads 161 = .ok (.if_icmp .ne 8, 3) := dk_160 0 8 (dk_at dksX5_reads_6 21 rfl rfl)
theorem dX5_reads_164 : decode cX5_reads 164 = .ok (.bipush 63, 2) := dk_16 63 (dk_at dksX5_reads_7 0 rfl rfl)
theorem dX5_reads_166 : decode cX5_reads 166 = .ok (.goto 10, 3) := dk_167 0 10 (dk_at dksX5_reads_7 2 rfl rfl)
theorem dX5_reads_169 : decode cX5_reads 169 = .ok (.iload 7, 2) := dk_21 7 (dk_at dksX5_reads_7 5 rfl rfl)
theorem dX5_reads_171 : decode cX5_reads 171 = .ok (.iconst 5, 1) := dk_8 (dk_at dksX5_reads_7 7 rfl rfl)
theorem dX5_reads_172 : decode cX5_reads 172 = .ok (.irem, 1) := dk_112 (dk_at dksX5_reads_7 8 rfl rfl)
theorem dX5_reads_173 : decode cX5_reads 173 = .ok (.invokestatic 450, 3) := dk_184 1 194 (dk_at dksX5_reads_7 9 rfl rfl)
theorem dX5_reads_176 : decode cX5_reads 176 = .ok (.iastore, 1) := dk_79 (dk_at dksX5_reads_7 12 rfl rfl)
theorem dX5_reads_177 : decode cX5_reads 177 = .ok (.aload_n 0, 1) := dk_42 (dk_at dksX5_reads_7 13 rfl rfl)
theorem dX5_reads_178 : decode cX5_reads 178 = .ok (.dup, 1) := dk_89 (dk_at dksX5_reads_7 14 rfl rfl)
theorem dX5_reads_179 : decode cX5_reads 179 = .ok (.getfield 447, 3) := dk_180 1 191 (dk_at dksX5_reads_7 15 rfl rfl)
theorem dX5_reads_182 : decode cX5_reads 182 = .ok (.iconst 1, 1) := dk_4 (dk_at dksX5_reads_7 18 rfl rfl)
theorem dX5_reads_183 : decode cX5_reads 183 = .ok (.iadd, 1) := dk_96 (dk_at dksX5_reads_7 19 rfl rfl)
theorem dX5_reads_184 : decode cX5_reads 184 = .ok (.putfield 447, 3) := dk_181 1 191 (dk_at dksX5_reads_7 20 rfl rfl)
theorem dX5_reads_187 : decode cX5_reads 187 = .ok (.iinc 5 1, 3) := dk_132 5 1 (dk_at dksX5_reads_8 0 rfl rfl)
theorem dX5_reads_190 : decode cX5_reads 190 = .ok (.goto (-124), 3) := dk_167 255 132 (dk_at dksX5_reads_8 3 rfl rfl)
theorem dX5_reads_193 : decode cX5_reads 193 = .ok (.aload_n 0, 1) := dk_42 (dk_at dksX5_reads_8 6 rfl rfl)
theorem dX5_reads_194 : decode cX5_reads 194 = .ok (.getfield 447, 3) := dk_180 1 191 (dk_at dksX5_reads_8 7 rfl rfl)
theorem dX5_reads_197 : decode cX5_reads 197 = .ok (.ireturn, 1) := dk_172 (dk_at dksX5_reads_8 10 rfl rfl)
def dkwX5_vowelLetter_1 : List UInt8 := [16, 105, 167, 0, 15, 26, 6, 160, 0, 8, 16, 111, 167, 0, 5, 16, 117, 172]
abbrev dktX5_vowelLetter_1 : List UInt8 := dkwX5_vowelLetter_1 ++ []
def dkwX5_vowelLetter_0 : List UInt8 := [26, 154, 0, 8, 16, 97, 167, 0, 35, 26, 4, 160, 0, 8, 16, 101, 167, 0, 25, 26, 5, 160, 0, 8]
abbrev dktX5_vowelLetter_0 : List UInt8 := dkwX5_vowelLetter_0 ++ dktX5_vowelLetter_1
theorem dksX5_vowelLetter_0 : cX5_vowelLetter.data.toList.drop 0 = dktX5_vowelLetter_0 := by decide +kernel
theorem dksX5_vowelLetter_1 : cX5_vowelLetter.data.toList.drop 24 = dktX5_vowelLetter_1 := dk_seg dksX5_vowelLetter_0 24 rfl rfl
theorem dX5_vowelLetter_0 : decode cX5_vowelLetter 0 = .ok (.iload_n 0, 1) := dk_26 (dk_at dksX5_vowelLetter_0 0 rfl rfl)
theorem dX5_vowelLetter_1 : decode cX5_vowelLetter 1 = .ok (.ifCond .ne 8, 3) := dk_154 0 8 (dk_at dksX5_vowelLetter_0 1 rfl rfl)
theorem dX5_vowelLetter_4 : decode cX5_vowelLetter 4 = .ok (.bipush 97, 2) := dk_16 97 (dk_at dksX5_vowelLetter_0 4 rfl rfl)
theorem dX5_vowelLetter_6 : decode cX5_vowelLetter 6 = .ok (.goto 35, 3) := dk_167 0 35 (dk_at dksX5_vowelLetter_0 6 rfl rfl)
theorem dX5_vowelLetter_9 : decode cX5_vowelLetter 9 = .ok (.iload_n 0, 1) := dk_26 (dk_at dksX5_vowelLetter_0 9 rfl rfl)
theorem dX5_vowelLetter_10 : decode cX5_vowelLetter 10 = .ok (.iconst 1, 1) := dk_4 (dk_at dksX5_vowelLetter_0 10 rfl rfl)
theorem dX5_vowelLetter_11 : decode cX5_vowelLetter 11 = .ok (.if_icmp .ne 8, 3) := dk_160 0 8 (dk_at dksX5_vowelLetter_0 11 rfl rfl)
theorem dX5_vowelLetter_14 : decode cX5_vowelLetter 14 = .ok (.bipush 101, 2) := dk_16 101 (dk_at dksX5_vowelLetter_0 14 rfl rfl)
theorem dX5_vowelLetter_16 : decode cX5_vowelLetter 16 = .ok (.goto 25, 3) := dk_167 0 25 (dk_at dksX5_vowelLetter_0 16 rfl rfl)
theorem dX5_vowelLetter_19 : decode cX5_vowelLetter 19 = .ok (.iload_n 0, 1) := dk_26 (dk_at dksX5_vowelLetter_0 19 rfl rfl)
theorem dX5_vowelLetter_20 : decode cX5_vowelLetter 20 = .ok (.iconst 2, 1) := dk_5 (dk_at dksX5_vowelLetter_0 20 rfl rfl)
theorem dX5_vowelLetter_21 : decode cX5_vowelLetter 21 = .ok (.if_icmp .ne 8, 3) := dk_160 0 8 (dk_at dksX5_vowelLetter_0 21 rfl rfl)
theorem dX5_vowelLetter_24 : decode cX5_vowelLetter 24 = .ok (.bipush 105, 2) := dk_16 105 (dk_at dksX5_vowelLetter_1 0 rfl rfl)
theorem dX5_vowelLetter_26 : decode cX5_vowelLetter 26 = .ok (.goto 15, 3) := dk_167 0 15 (dk_at dksX5_vowelLetter_1 2 rfl rfl)
theorem dX5_vowelLetter_29 : decode cX5_vowelLetter 29 = .ok (.iload_n 0, 1) := dk_26 (dk_at dksX5_vowelLetter_1 5 rfl rfl)
theorem dX5_vowelLetter_30 : decode cX5_vowelLetter 30 = .ok (.iconst 3, 1) := dk_6 (dk_at dksX5_vowelLetter_1 6 rfl rfl)
theorem dX5_vowelLetter_31 : decode cX5_vowelLetter 31 = .ok (.if_icmp .ne 8, 3) := dk_160 0 8 (dk_at dksX5_vowelLetter_1 7 rfl rfl)
theorem dX5_vowelLetter_34 : decode cX5_vowelLetter 34 = .ok (.bipush 111, 2) := dk_16 111 (dk_at dksX5_vowelLetter_1 10 rfl rfl)
theorem dX5_vowelLetter_36 : decode cX5_vowelLetter 36 = .ok (.goto 5, 3) := dk_167 0 5 (dk_at dksX5_vowelLetter_1 12 rfl rfl)
theorem dX5_vowelLetter_39 : decode cX5_vowelLetter 39 = .ok (.bipush 117, 2) := dk_16 117 (dk_at dksX5_vowelLetter_1 15 rfl rfl)
theorem dX5_vowelLetter_41 : decode cX5_vowelLetter 41 = .ok (.ireturn, 1) := dk_172 (dk_at dksX5_vowelLetter_1 17 rfl rfl)
def dkwX5_letter_1 : List UInt8 := [46, 167, 0, 4, 2, 172]
abbrev dktX5_letter_1 : List UInt8 := dkwX5_letter_1 ++ []
def dkwX5_letter_0 : List UInt8 := [42, 3, 181, 0, 1, 27, 3, 42, 180, 1, 191, 4, 100, 184, 0, 169, 153, 0, 12, 42, 180, 0, 166, 27]
abbrev dktX5_letter_0 : List UInt8 := dkwX5_letter_0 ++ dktX5_letter_1
theorem dksX5_letter_0 : cX5_letter.data.toList.drop 0 = dktX5_letter_0 := by decide +kernel
theorem dksX5_letter_1 : cX5_letter.data.toList.drop 24 = dktX5_letter_1 := dk_seg dksX5_letter_0 24 rfl rfl
theorem dX5_letter_0 : decode cX5_letter 0 = .ok (.aload_n 0, 1) := dk_42 (dk_at dksX5_letter_0 0 rfl rfl)
theorem dX5_letter_1 : decode cX5_letter 1 = .ok (.iconst 0, 1) := dk_3 (dk_at dksX5_letter_0 1 rfl rfl)
theorem dX5_letter_2 : decode cX5_letter 2 = .ok (.putfield 1, 3) := dk_181 0 1 (dk_at dksX5_letter_0 2 rfl rfl)
theorem dX5_letter_5 : decode cX5_letter 5 = .ok (.iload_n 1, 1) := dk_27 (dk_at dksX5_letter_0 5 rfl rfl)
theorem dX5_letter_6 : decode cX5_letter 6 = .ok (.iconst 0, 1) := dk_3 (dk_at dksX5_letter_0 6 rfl rfl)
theorem dX5_letter_7 : decode cX5_letter 7 = .ok (.aload_n 0, 1) := dk_42 (dk_at dksX5_letter_0 7 rfl rfl)
theorem dX5_letter_8 : decode cX5_letter 8 = .ok (.getfield 447, 3) := dk_180 1 191 (dk_at dksX5_letter_0 8 rfl rfl)
theorem dX5_letter_11 : decode cX5_letter 11 = .ok (.iconst 1, 1) := dk_4 (dk_at dksX5_letter_0 11 rfl rfl)
theorem dX5_letter_12 : decode cX5_letter 12 = .ok (.isub, 1) := dk_100 (dk_at dksX5_letter_0 12 rfl rfl)
theorem dX5_letter_13 : decode cX5_letter 13 = .ok (.invokestatic 169, 3) := dk_184 0 169 (dk_at dksX5_letter_0 13 rfl rfl)
theorem dX5_letter_16 : decode cX5_letter 16 = .ok (.ifCond .eq 12, 3) := dk_153 0 12 (dk_at dksX5_letter_0 16 rfl rfl)
theorem dX5_letter_19 : decode cX5_letter 19 = .ok (.aload_n 0, 1) := dk_42 (dk_at dksX5_letter_0 19 rfl rfl)
theorem dX5_letter_20 : decode cX5_letter 20 = .ok (.getfield 166, 3) := dk_180 0 166 (dk_at dksX5_letter_0 20 rfl rfl)
theorem dX5_letter_23 : decode cX5_letter 23 = .ok (.iload_n 1, 1) := dk_27 (dk_at dksX5_letter_0 23 rfl rfl)
theorem dX5_letter_24 : decode cX5_letter 24 = .ok (.iaload, 1) := dk_46 (dk_at dksX5_letter_1 0 rfl rfl)
theorem dX5_letter_25 : decode cX5_letter 25 = .ok (.goto 4, 3) := dk_167 0 4 (dk_at dksX5_letter_1 1 rfl rfl)
theorem dX5_letter_28 : decode cX5_letter 28 = .ok (.iconst (-1), 1) := dk_2 (dk_at dksX5_letter_1 4 rfl rfl)
theorem dX5_letter_29 : decode cX5_letter 29 = .ok (.ireturn, 1) := dk_172 (dk_at dksX5_letter_1 5 rfl rfl)
def dkwX5_settles_6 : List UInt8 := [54, 4, 132, 5, 1, 167, 255, 154, 28, 154, 0, 7, 29, 167, 0, 5, 21, 4, 172]
abbrev dktX5_settles_6 : List UInt8 := dkwX5_settles_6 ++ []
def dkwX5_settles_5 : List UInt8 := [167, 255, 210, 29, 2, 159, 0, 13, 21, 6, 21, 4, 161, 0, 6, 167, 0, 10, 21, 5, 62, 21, 6]
abbrev dktX5_settles_5 : List UInt8 := dkwX5_settles_5 ++ dktX5_settles_6
def dkwX5_settles_4 : List UInt8 := [21, 6, 164, 0, 19, 42, 180, 0, 160, 17, 0, 136, 21, 5, 104, 21, 7, 96, 46, 54, 6, 132, 7, 1]
abbrev dktX5_settles_4 : List UInt8 := dkwX5_settles_4 ++ dktX5_settles_5
def dkwX5_settles_3 : List UInt8 := [54, 7, 21, 7, 17, 0, 136, 162, 0, 44, 42, 180, 0, 160, 17, 0, 136, 21, 5, 104, 21, 7, 96, 46]
abbrev dktX5_settles_3 : List UInt8 := dkwX5_settles_3 ++ dktX5_settles_4
def dkwX5_settles_2 : List UInt8 := [16, 40, 162, 0, 101, 42, 180, 0, 72, 21, 5, 46, 21, 5, 159, 0, 6, 167, 0, 80, 3, 54, 6, 3]
abbrev dktX5_settles_2 : List UInt8 := dkwX5_settles_2 ++ dktX5_settles_3
def dkwX5_settles_1 : List UInt8 := [42, 27, 182, 1, 182, 42, 180, 1, 155, 154, 0, 5, 2, 172, 2, 62, 3, 54, 4, 3, 54, 5, 21, 5]
abbrev dktX5_settles_1 : List UInt8 := dkwX5_settles_1 ++ dktX5_settles_2
def dkwX5_settles_0 : List UInt8 := [42, 3, 181, 0, 1, 42, 27, 182, 1, 42, 153, 0, 12, 28, 3, 4, 184, 0, 169, 154, 0, 5, 2, 172]
abbrev dktX5_settles_0 : List UInt8 := dkwX5_settles_0 ++ dktX5_settles_1
theorem dksX5_settles_0 : cX5_settles.data.toList.drop 0 = dktX5_settles_0 := by decide +kernel
theorem dksX5_settles_1 : cX5_settles.data.toList.drop 24 = dktX5_settles_1 := dk_seg dksX5_settles_0 24 rfl rfl
theorem dksX5_settles_2 : cX5_settles.data.toList.drop 48 = dktX5_settles_2 := dk_seg dksX5_settles_1 24 rfl rfl
theorem dksX5_settles_3 : cX5_settles.data.toList.drop 72 = dktX5_settles_3 := dk_seg dksX5_settles_2 24 rfl rfl
theorem dksX5_settles_4 : cX5_settles.data.toList.drop 96 = dktX5_settles_4 := dk_seg dksX5_settles_3 24 rfl rfl
theorem dksX5_settles_5 : cX5_settles.data.toList.drop 120 = dktX5_settles_5 := dk_seg dksX5_settles_4 24 rfl rfl
theorem dksX5_settles_6 : cX5_settles.data.toList.drop 143 = dktX5_settles_6 := dk_seg dksX5_settles_5 23 rfl rfl
theorem dX5_settles_0 : decode cX5_settles 0 = .ok (.aload_n 0, 1) := dk_42 (dk_at dksX5_settles_0 0 rfl rfl)
theorem dX5_settles_1 : decode cX5_settles 1 = .ok (.iconst 0, 1) := dk_3 (dk_at dksX5_settles_0 1 rfl rfl)
theorem dX5_settles_2 : decode cX5_settles 2 = .ok (.putfield 1, 3) := dk_181 0 1 (dk_at dksX5_settles_0 2 rfl rfl)
theorem dX5_settles_5 : decode cX5_settles 5 = .ok (.aload_n 0, 1) := dk_42 (dk_at dksX5_settles_0 5 rfl rfl)
theorem dX5_settles_6 : decode cX5_settles 6 = .ok (.iload_n 1, 1) := dk_27 (dk_at dksX5_settles_0 6 rfl rfl)
theorem dX5_settles_7 : decode cX5_settles 7 = .ok (.invokevirtual 298, 3) := dk_182 1 42 (dk_at dksX5_settles_0 7 rfl rfl)
theorem dX5_settles_10 : decode cX5_settles 10 = .ok (.ifCond .eq 12, 3) := dk_153 0 12 (dk_at dksX5_settles_0 10 rfl rfl)
theorem dX5_settles_13 : decode cX5_settles 13 = .ok (.iload_n 2, 1) := dk_28 (dk_at dksX5_settles_0 13 rfl rfl)
theorem dX5_settles_14 : decode cX5_settles 14 = .ok (.iconst 0, 1) := dk_3 (dk_at dksX5_settles_0 14 rfl rfl)
theorem dX5_settles_15 : decode cX5_settles 15 = .ok (.iconst 1, 1) := dk_4 (dk_at dksX5_settles_0 15 rfl rfl)
theorem dX5_settles_16 : decode cX5_settles 16 = .ok (.invokestatic 169, 3) := dk_184 0 169 (dk_at dksX5_settles_0 16 rfl rfl)
theorem dX5_settles_19 : decode cX5_settles 19 = .ok (.ifCond .ne 5, 3) := dk_154 0 5 (dk_at dksX5_settles_0 19 rfl rfl)
theorem dX5_settles_22 : decode cX5_settles 22 = .ok (.iconst (-1), 1) := dk_2 (dk_at dksX5_settles_0 22 rfl rfl)
theorem dX5_settles_23 : decode cX5_settles 23 = .ok (.ireturn, 1) := dk_172 (dk_at dksX5_settles_0 23 rfl rfl)
theorem dX5_settles_24 : decode cX5_settles 24 = .ok (.aload_n 0, 1) := dk_42 (dk_at dksX5_settles_1 0 rfl rfl)
theorem dX5_settles_25 : decode cX5_settles 25 = .ok (.iload_n 1, 1) := dk_27 (dk_at dksX5_settles_1 1 rfl rfl)
theorem dX5_settles_26 : decode cX5_settles 26 = .ok (.invokevirtual 438, 3) := dk_182 1 182 (dk_at dksX5_settles_1 2 rfl rfl)
theorem dX5_settles_29 : decode cX5_settles 29 = .ok (.aload_n 0, 1) := dk_42 (dk_at dksX5_settles_1 5 rfl rfl)
theorem dX5_settles_30 : decode cX5_settles 30 = .ok (.getfield 411, 3) := dk_180 1 155 (dk_at dksX5_settles_1 6 rfl rfl)
theorem dX5_settles_33 : decode cX5_settles 33 = .ok (.ifCond .ne 5, 3) := dk_154 0 5 (dk_at dksX5_settles_1 9 rfl rfl)
theorem dX5_settles_36 : decode cX5_settles 36 = .ok (.iconst (-1), 1) := dk_2 (dk_at dksX5_settles_1 12 rfl rfl)
theorem dX5_settles_37 : decode cX5_settles 37 = .ok (.ireturn, 1) := dk_172 (dk_at dksX5_settles_1 13 rfl rfl)
theorem dX5_settles_38 : decode cX5_settles 38 = .ok (.iconst (-1), 1) := dk_2 (dk_at dksX5_settles_1 14 rfl rfl)
theorem dX5_settles_39 : decode cX5_settles 39 = .ok (.istore_n 3, 1) := dk_62 (dk_at dksX5_settles_1 15 rfl rfl)
theorem dX5_settles_40 : decode cX5_settles 40 = .ok (.iconst 0, 1) := dk_3 (dk_at dksX5_settles_1 16 rfl rfl)
theorem dX5_settles_41 : decode cX5_settles 41 = .ok (.istore 4, 2) := dk_54 4 (dk_at dksX5_settles_1 17 rfl rfl)
theorem dX5_settles_43 : decode cX5_settles 43 = .ok (.iconst 0, 1) := dk_3 (dk_at dksX5_settles_1 19 rfl rfl)
theorem dX5_settles_44 : decode cX5_settles 44 = .ok (.istore 5, 2) := dk_54 5 (dk_at dksX5_settles_1 20 rfl rfl)
theorem dX5_settles_46 : decode cX5_settles 46 = .ok (.iload 5, 2) := dk_21 5 (dk_at dksX5_settles_1 22 rfl rfl)
theorem dX5_settles_48 : decode cX5_settles 48 = .ok (.bipush 40, 2) := dk_16 40 (dk_at dksX5_settles_2 0 rfl rfl)
theorem dX5_settles_50 : decode cX5_settles 50 = .ok (.if_icmp .ge 101, 3) := dk_162 0 101 (dk_at dksX5_settles_2 2 rfl rfl)
theorem dX5_settles_53 : decode cX5_settles 53 = .ok (.aload_n 0, 1) := dk_42 (dk_at dksX5_settles_2 5 rfl rfl)
theorem dX5_settles_54 : decode cX5_settles 54 = .ok (.getfield 72, 3) := dk_180 0 72 (dk_at dksX5_settles_2 6 rfl rfl)
theorem dX5_settles_57 : decode cX5_settles 57 = .ok (.iload 5, 2) := dk_21 5 (dk_at dksX5_settles_2 9 rfl rfl)
theorem dX5_settles_59 : decode cX5_settles 59 = .ok (.iaload, 1) := dk_46 (dk_at dksX5_settles_2 11 rfl rfl)
theorem dX5_settles_60 : decode cX5_settles 60 = .ok (.iload 5, 2) := dk_21 5 (dk_at dksX5_settles_2 12 rfl rfl)
theorem dX5_settles_62 : decode cX5_settles 62 = .ok (.if_icmp .eq 6, 3) := dk_159 0 6 (dk_at dksX5_settles_2 14 rfl rfl)
theorem dX5_settles_65 : decode cX5_settles 65 = .ok (.goto 80, 3) := dk_167 0 80 (dk_at dksX5_settles_2 17 rfl rfl)
theorem dX5_settles_68 : decode cX5_settles 68 = .ok (.iconst 0, 1) := dk_3 (dk_at dksX5_settles_2 20 rfl rfl)
theorem dX5_settles_69 : decode cX5_settles 69 = .ok (.istore 6, 2) := dk_54 6 (dk_at dksX5_settles_2 21 rfl rfl)
theorem dX5_settles_71 : decode cX5_settles 71 = .ok (.iconst 0, 1) := dk_3 (dk_at dksX5_settles_2 23 rfl rfl)
theorem dX5_settles_72 : decode cX5_settles 72 = .ok (.istore 7, 2) := dk_54 7 (dk_at dksX5_settles_3 0 rfl rfl)
theorem dX5_settles_74 : decode cX5_settles 74 = .ok (.iload 7, 2) := dk_21 7 (dk_at dksX5_settles_3 2 rfl rfl)
theorem dX5_settles_76 : decode cX5_settles 76 = .ok (.sipush 136, 3) := dk_17 0 136 (dk_at dksX5_settles_3 4 rfl rfl)
theorem dX5_settles_79 : decode cX5_settles 79 = .ok (.if_icmp .ge 44, 3) := dk_162 0 44 (dk_at dksX5_settles_3 7 rfl rfl)
theorem dX5_settles_82 : decode cX5_settles 82 = .ok (.aload_n 0, 1) := dk_42 (dk_at dksX5_settles_3 10 rfl rfl)
theorem dX5_settles_83 : decode cX5_settles 83 = .ok (.getfield 160, 3) := dk_180 0 160 (dk_at dksX5_settles_3 11 rfl rfl)
theorem dX5_settles_86 : decode cX5_settles 86 = .ok (.sipush 136, 3) := dk_17 0 136 (dk_at dksX5_settles_3 14 rfl rfl)
theorem dX5_settles_89 : decode cX5_settles 89 = .ok (.iload 5, 2) := dk_21 5 (dk_at dksX5_settles_3 17 rfl rfl)
theorem dX5_settles_91 : decode cX5_settles 91 = .ok (.imul, 1) := dk_104 (dk_at dksX5_settles_3 19 rfl rfl)
theorem dX5_settles_92 : decode cX5_settles 92 = .ok (.iload 7, 2) := dk_21 7 (dk_at dksX5_settles_3 20 rfl rfl)
theorem dX5_settles_94 : decode cX5_settles 94 = .ok (.iadd, 1) := dk_96 (dk_at dksX5_settles_3 22 rfl rfl)
theorem dX5_settles_95 : decode cX5_settles 95 = .ok (.iaload, 1) := dk_46 (dk_at dksX5_settles_3 23 rfl rfl)
theorem dX5_settles_96 : decode cX5_settles 96 = .ok (.iload 6, 2) := dk_21 6 (dk_at dksX5_settles_4 0 rfl rfl)
theorem dX5_settles_98 : decode cX5_settles 98 = .ok (.if_icmp .le 19, 3) := dk_164 0 19 (dk_at dksX5_settles_4 2 rfl rfl)
theorem dX5_settles_101 : decode cX5_settles 101 = .ok (.aload_n 0, 1) := dk_42 (dk_at dksX5_settles_4 5 rfl rfl)
theorem dX5_settles_102 : decode cX5_settles 102 = .ok (.getfield 160, 3) := dk_180 0 160 (dk_at dksX5_settles_4 6 rfl rfl)
theorem dX5_settles_105 : decode cX5_settles 105 = .ok (.sipush 136, 3) := dk_17 0 136 (dk_at dksX5_settles_4 9 rfl rfl)
theorem dX5_settles_108 : decode cX5_settles 108 = .ok (.iload 5, 2) := dk_21 5 (dk_at dksX5_settles_4 12 rfl rfl)
theorem dX5_settles_110 : decode cX5_settles 110 = .ok (.imul, 1) := dk_104 (dk_at dksX5_settles_4 14 rfl rfl)
theorem dX5_settles_111 : decode cX5_settles 111 = .ok (.iload 7, 2) := dk_21 7 (dk_at dksX5_settles_4 15 rfl rfl)
theorem dX5_settles_113 : decode cX5_settles 113 = .ok (.iadd, 1) := dk_96 (dk_at dksX5_settles_4 17 rfl rfl)
theorem dX5_settles_114 : decode cX5_settles 114 = .ok (.iaload, 1) := dk_46 (dk_at dksX5_settles_4 18 rfl rfl)
theorem dX5_settles_115 : decode cX5_settles 115 = .ok (.istore 6, 2) := dk_54 6 (dk_at dksX5_settles_4 19 rfl rfl)
theorem dX5_settles_117 : decode cX5_settles 117 = .ok (.iinc 7 1, 3) := dk_132 7 1 (dk_at dksX5_settles_4 21 rfl rfl)
theorem dX5_settles_120 : decode cX5_settles 120 = .ok (.goto (-46), 3) := dk_167 255 210 (dk_at dksX5_settles_5 0 rfl rfl)
theorem dX5_settles_123 : decode cX5_settles 123 = .ok (.iload_n 3, 1) := dk_29 (dk_at dksX5_settles_5 3 rfl rfl)
theorem dX5_settles_124 : decode cX5_settles 124 = .ok (.iconst (-1), 1) := dk_2 (dk_at dksX5_settles_5 4 rfl rfl)
theorem dX5_settles_125 : decode cX5_settles 125 = .ok (.if_icmp .eq 13, 3) := dk_159 0 13 (dk_at dksX5_settles_5 5 rfl rfl)
theorem dX5_settles_128 : decode cX5_settles 128 = .ok (.iload 6, 2) := dk_21 6 (dk_at dksX5_settles_5 8 rfl rfl)
theorem dX5_settles_130 : decode cX5_settles 130 = .ok (.iload 4, 2) := dk_21 4 (dk_at dksX5_settles_5 10 rfl rfl)
theorem dX5_settles_132 : decode cX5_settles 132 = .ok (.if_icmp .lt 6, 3) := dk_161 0 6 (dk_at dksX5_settles_5 12 rfl rfl)
theorem dX5_settles_135 : decode cX5_settles 135 = .ok (.goto 10, 3) := dk_167 0 10 (dk_at dksX5_settles_5 15 rfl rfl)
theorem dX5_settles_138 : decode cX5_settles 138 = .ok (.iload 5, 2) := dk_21 5 (dk_at dksX5_settles_5 18 rfl rfl)
theorem dX5_settles_140 : decode cX5_settles 140 = .ok (.istore_n 3, 1) := dk_62 (dk_at dksX5_settles_5 20 rfl rfl)
theorem dX5_settles_141 : decode cX5_settles 141 = .ok (.iload 6, 2) := dk_21 6 (dk_at dksX5_settles_5 21 rfl rfl)
theorem dX5_settles_143 : decode cX5_settles 143 = .ok (.istore 4, 2) := dk_54 4 (dk_at dksX5_settles_6 0 rfl rfl)
theorem dX5_settles_145 : decode cX5_settles 145 = .ok (.iinc 5 1, 3) := dk_132 5 1 (dk_at dksX5_settles_6 2 rfl rfl)
theorem dX5_settles_148 : decode cX5_settles 148 = .ok (.goto (-102), 3) := dk_167 255 154 (dk_at dksX5_settles_6 5 rfl rfl)
theorem dX5_settles_151 : decode cX5_settles 151 = .ok (.iload_n 2, 1) := dk_28 (dk_at dksX5_settles_6 8 rfl rfl)
theorem dX5_settles_152 : decode cX5_settles 152 = .ok (.ifCond .ne 7, 3) := dk_154 0 7 (dk_at dksX5_settles_6 9 rfl rfl)
theorem dX5_settles_155 : decode cX5_settles 155 = .ok (.iload_n 3, 1) := dk_29 (dk_at dksX5_settles_6 12 rfl rfl)
theorem dX5_settles_156 : decode cX5_settles 156 = .ok (.goto 5, 3) := dk_167 0 5 (dk_at dksX5_settles_6 13 rfl rfl)
theorem dX5_settles_159 : decode cX5_settles 159 = .ok (.iload 4, 2) := dk_21 4 (dk_at dksX5_settles_6 16 rfl rfl)
theorem dX5_settles_161 : decode cX5_settles 161 = .ok (.ireturn, 1) := dk_172 (dk_at dksX5_settles_6 18 rfl rfl)
def dkwX5_would_2 : List UInt8 := [28, 182, 1, 130, 42, 27, 28, 182, 1, 197, 172]
abbrev dktX5_would_2 : List UInt8 := dkwX5_would_2 ++ []
def dkwX5_would_1 : List UInt8 := [153, 0, 19, 42, 28, 27, 182, 1, 58, 153, 0, 10, 42, 182, 1, 124, 154, 0, 5, 2, 172, 42, 16, 6]
abbrev dktX5_would_1 : List UInt8 := dkwX5_would_1 ++ dktX5_would_2
def dkwX5_would_0 : List UInt8 := [42, 3, 181, 0, 1, 42, 27, 182, 1, 42, 153, 0, 33, 28, 3, 42, 180, 0, 243, 4, 100, 184, 0, 169]
abbrev dktX5_would_0 : List UInt8 := dkwX5_would_0 ++ dktX5_would_1
theorem dksX5_would_0 : cX5_would.data.toList.drop 0 = dktX5_would_0 := by decide +kernel
theorem dksX5_would_1 : cX5_would.data.toList.drop 24 = dktX5_would_1 := dk_seg dksX5_would_0 24 rfl rfl
theorem dksX5_would_2 : cX5_would.data.toList.drop 48 = dktX5_would_2 := dk_seg dksX5_would_1 24 rfl rfl
theorem dX5_would_0 : decode cX5_would 0 = .ok (.aload_n 0, 1) := dk_42 (dk_at dksX5_would_0 0 rfl rfl)
theorem dX5_would_1 : decode cX5_would 1 = .ok (.iconst 0, 1) := dk_3 (dk_at dksX5_would_0 1 rfl rfl)
theorem dX5_would_2 : decode cX5_would 2 = .ok (.putfield 1, 3) := dk_181 0 1 (dk_at dksX5_would_0 2 rfl rfl)
theorem dX5_would_5 : decode cX5_would 5 = .ok (.aload_n 0, 1) := dk_42 (dk_at dksX5_would_0 5 rfl rfl)
theorem dX5_would_6 : decode cX5_would 6 = .ok (.iload_n 1, 1) := dk_27 (dk_at dksX5_would_0 6 rfl rfl)
theorem dX5_would_7 : decode cX5_would 7 = .ok (.invokevirtual 298, 3) := dk_182 1 42 (dk_at dksX5_would_0 7 rfl rfl)
theorem dX5_would_10 : decode cX5_would 10 = .ok (.ifCond .eq 33, 3) := dk_153 0 33 (dk_at dksX5_would_0 10 rfl rfl)
theorem dX5_would_13 : decode cX5_would 13 = .ok (.iload_n 2, 1) := dk_28 (dk_at dksX5_would_0 13 rfl rfl)
theorem dX5_would_14 : decode cX5_would 14 = .ok (.iconst 0, 1) := dk_3 (dk_at dksX5_would_0 14 rfl rfl)
theorem dX5_would_15 : decode cX5_would 15 = .ok (.aload_n 0, 1) := dk_42 (dk_at dksX5_would_0 15 rfl rfl)
theorem dX5_would_16 : decode cX5_would 16 = .ok (.getfield 243, 3) := dk_180 0 243 (dk_at dksX5_would_0 16 rfl rfl)
theorem dX5_would_19 : decode cX5_would 19 = .ok (.iconst 1, 1) := dk_4 (dk_at dksX5_would_0 19 rfl rfl)
theorem dX5_would_20 : decode cX5_would 20 = .ok (.isub, 1) := dk_100 (dk_at dksX5_would_0 20 rfl rfl)
theorem dX5_would_21 : decode cX5_would 21 = .ok (.invokestatic 169, 3) := dk_184 0 169 (dk_at dksX5_would_0 21 rfl rfl)
theorem dX5_would_24 : decode cX5_would 24 = .ok (.ifCond .eq 19, 3) := dk_153 0 19 (dk_at dksX5_would_1 0 rfl rfl)
theorem dX5_would_27 : decode cX5_would 27 = .ok (.aload_n 0, 1) := dk_42 (dk_at dksX5_would_1 3 rfl rfl)
theorem dX5_would_28 : decode cX5_would 28 = .ok (.iload_n 2, 1) := dk_28 (dk_at dksX5_would_1 4 rfl rfl)
theorem dX5_would_29 : decode cX5_would 29 = .ok (.iload_n 1, 1) := dk_27 (dk_at dksX5_would_1 5 rfl rfl)
theorem dX5_would_30 : decode cX5_would 30 = .ok (.invokevirtual 314, 3) := dk_182 1 58 (dk_at dksX5_would_1 6 rfl rfl)
theorem dX5_would_33 : decode cX5_would 33 = .ok (.ifCond .eq 10, 3) := dk_153 0 10 (dk_at dksX5_would_1 9 rfl rfl)
theorem dX5_would_36 : decode cX5_would 36 = .ok (.aload_n 0, 1) := dk_42 (dk_at dksX5_would_1 12 rfl rfl)
theorem dX5_would_37 : decode cX5_would 37 = .ok (.invokevirtual 380, 3) := dk_182 1 124 (dk_at dksX5_would_1 13 rfl rfl)
theorem dX5_would_40 : decode cX5_would 40 = .ok (.ifCond .ne 5, 3) := dk_154 0 5 (dk_at dksX5_would_1 16 rfl rfl)
theorem dX5_would_43 : decode cX5_would 43 = .ok (.iconst (-1), 1) := dk_2 (dk_at dksX5_would_1 19 rfl rfl)
theorem dX5_would_44 : decode cX5_would 44 = .ok (.ireturn, 1) := dk_172 (dk_at dksX5_would_1 20 rfl rfl)
theorem dX5_would_45 : decode cX5_would 45 = .ok (.aload_n 0, 1) := dk_42 (dk_at dksX5_would_1 21 rfl rfl)
theorem dX5_would_46 : decode cX5_would 46 = .ok (.bipush 6, 2) := dk_16 6 (dk_at dksX5_would_1 22 rfl rfl)
theorem dX5_would_48 : decode cX5_would 48 = .ok (.iload_n 2, 1) := dk_28 (dk_at dksX5_would_2 0 rfl rfl)
theorem dX5_would_49 : decode cX5_would 49 = .ok (.invokevirtual 386, 3) := dk_182 1 130 (dk_at dksX5_would_2 1 rfl rfl)
theorem dX5_would_52 : decode cX5_would 52 = .ok (.aload_n 0, 1) := dk_42 (dk_at dksX5_would_2 4 rfl rfl)
theorem dX5_would_53 : decode cX5_would 53 = .ok (.iload_n 1, 1) := dk_27 (dk_at dksX5_would_2 5 rfl rfl)
theorem dX5_would_54 : decode cX5_would 54 = .ok (.iload_n 2, 1) := dk_28 (dk_at dksX5_would_2 6 rfl rfl)
theorem dX5_would_55 : decode cX5_would 55 = .ok (.invokevirtual 453, 3) := dk_182 1 197 (dk_at dksX5_would_2 7 rfl rfl)
theorem dX5_would_58 : decode cX5_would 58 = .ok (.ireturn, 1) := dk_172 (dk_at dksX5_would_2 10 rfl rfl)
def dkwX5_waysWith_2 : List UInt8 := [182, 1, 179, 42, 180, 1, 155, 172]
abbrev dktX5_waysWith_2 : List UInt8 := dkwX5_waysWith_2 ++ []
def dkwX5_waysWith_1 : List UInt8 := [180, 0, 145, 42, 180, 1, 158, 16, 6, 79, 42, 89, 180, 1, 158, 4, 96, 181, 1, 158, 42, 16, 6, 27]
abbrev dktX5_waysWith_1 : List UInt8 := dkwX5_waysWith_1 ++ dktX5_waysWith_2
def dkwX5_waysWith_0 : List UInt8 := [42, 27, 3, 182, 1, 176, 42, 180, 0, 127, 16, 6, 28, 79, 42, 16, 6, 27, 182, 1, 145, 42]
abbrev dktX5_waysWith_0 : List UInt8 := dkwX5_waysWith_0 ++ dktX5_waysWith_1
theorem dksX5_waysWith_0 : cX5_waysWith.data.toList.drop 0 = dktX5_waysWith_0 := by decide +kernel
theorem dksX5_waysWith_1 : cX5_waysWith.data.toList.drop 22 = dktX5_waysWith_1 := dk_seg dksX5_waysWith_0 22 rfl rfl
theorem dksX5_waysWith_2 : cX5_waysWith.data.toList.drop 46 = dktX5_waysWith_2 := dk_seg dksX5_waysWith_1 24 rfl rfl
theorem dX5_waysWith_0 : decode cX5_waysWith 0 = .ok (.aload_n 0, 1) := dk_42 (dk_at dksX5_waysWith_0 0 rfl rfl)
theorem dX5_waysWith_1 : decode cX5_waysWith 1 = .ok (.iload_n 1, 1) := dk_27 (dk_at dksX5_waysWith_0 1 rfl rfl)
theorem dX5_waysWith_2 : decode cX5_waysWith 2 = .ok (.iconst 0, 1) := dk_3 (dk_at dksX5_waysWith_0 2 rfl rfl)
theorem dX5_waysWith_3 : decode cX5_waysWith 3 = .ok (.invokevirtual 432, 3) := dk_182 1 176 (dk_at dksX5_waysWith_0 3 rfl rfl)
theorem dX5_waysWith_6 : decode cX5_waysWith 6 = .ok (.aload_n 0, 1) := dk_42 (dk_at dksX5_waysWith_0 6 rfl rfl)
theorem dX5_waysWith_7 : decode cX5_waysWith 7 = .ok (.getfield 127, 3) := dk_180 0 127 (dk_at dksX5_waysWith_0 7 rfl rfl)
theorem dX5_waysWith_10 : decode cX5_waysWith 10 = .ok (.bipush 6, 2) := dk_16 6 (dk_at dksX5_waysWith_0 10 rfl rfl)
theorem dX5_waysWith_12 : decode cX5_waysWith 12 = .ok (.iload_n 2, 1) := dk_28 (dk_at dksX5_waysWith_0 12 rfl rfl)
theorem dX5_waysWith_13 : decode cX5_waysWith 13 = .ok (.iastore, 1) := dk_79 (dk_at dksX5_waysWith_0 13 rfl rfl)
theorem dX5_waysWith_14 : decode cX5_waysWith 14 = .ok (.aload_n 0, 1) := dk_42 (dk_at dksX5_waysWith_0 14 rfl rfl)
theorem dX5_waysWith_15 : decode cX5_waysWith 15 = .ok (.bipush 6, 2) := dk_16 6 (dk_at dksX5_waysWith_0 15 rfl rfl)
theorem dX5_waysWith_17 : decode cX5_waysWith 17 = .ok (.iload_n 1, 1) := dk_27 (dk_at dksX5_waysWith_0 17 rfl rfl)
theorem dX5_waysWith_18 : decode cX5_waysWith 18 = .ok (.invokevirtual 401, 3) := dk_182 1 145 (dk_at dksX5_waysWith_0 18 rfl rfl)
theorem dX5_waysWith_21 : decode cX5_waysWith 21 = .ok (.aload_n 0, 1) := dk_42 (dk_at dksX5_waysWith_0 21 rfl rfl)
theorem dX5_waysWith_22 : decode cX5_waysWith 22 = .ok (.getfield 145, 3) := dk_180 0 145 (dk_at dksX5_waysWith_1 0 rfl rfl)
theorem dX5_waysWith_25 : decode cX5_waysWith 25 = .ok (.aload_n 0, 1) := dk_42 (dk_at dksX5_waysWith_1 3 rfl rfl)
theorem dX5_waysWith_26 : decode cX5_waysWith 26 = .ok (.getfield 414, 3) := dk_180 1 158 (dk_at dksX5_waysWith_1 4 rfl rfl)
theorem dX5_waysWith_29 : decode cX5_waysWith 29 = .ok (.bipush 6, 2) := dk_16 6 (dk_at dksX5_waysWith_1 7 rfl rfl)
theorem dX5_waysWith_31 : decode cX5_waysWith 31 = .ok (.iastore, 1) := dk_79 (dk_at dksX5_waysWith_1 9 rfl rfl)
theorem dX5_waysWith_32 : decode cX5_waysWith 32 = .ok (.aload_n 0, 1) := dk_42 (dk_at dksX5_waysWith_1 10 rfl rfl)
theorem dX5_waysWith_33 : decode cX5_waysWith 33 = .ok (.dup, 1) := dk_89 (dk_at dksX5_waysWith_1 11 rfl rfl)
theorem dX5_waysWith_34 : decode cX5_waysWith 34 = .ok (.getfield 414, 3) := dk_180 1 158 (dk_at dksX5_waysWith_1 12 rfl rfl)
theorem dX5_waysWith_37 : decode cX5_waysWith 37 = .ok (.iconst 1, 1) := dk_4 (dk_at dksX5_waysWith_1 15 rfl rfl)
theorem dX5_waysWith_38 : decode cX5_waysWith 38 = .ok (.iadd, 1) := dk_96 (dk_at dksX5_waysWith_1 16 rfl rfl)
theorem dX5_waysWith_39 : decode cX5_waysWith 39 = .ok (.putfield 414, 3) := dk_181 1 158 (dk_at dksX5_waysWith_1 17 rfl rfl)
theorem dX5_waysWith_42 : decode cX5_waysWith 42 = .ok (.aload_n 0, 1) := dk_42 (dk_at dksX5_waysWith_1 20 rfl rfl)
theorem dX5_waysWith_43 : decode cX5_waysWith 43 = .ok (.bipush 6, 2) := dk_16 6 (dk_at dksX5_waysWith_1 21 rfl rfl)
theorem dX5_waysWith_45 : decode cX5_waysWith 45 = .ok (.iload_n 1, 1) := dk_27 (dk_at dksX5_waysWith_1 23 rfl rfl)
theorem dX5_waysWith_46 : decode cX5_waysWith 46 = .ok (.invokevirtual 435, 3) := dk_182 1 179 (dk_at dksX5_waysWith_2 0 rfl rfl)
theorem dX5_waysWith_49 : decode cX5_waysWith 49 = .ok (.aload_n 0, 1) := dk_42 (dk_at dksX5_waysWith_2 3 rfl rfl)
theorem dX5_waysWith_50 : decode cX5_waysWith 50 = .ok (.getfield 411, 3) := dk_180 1 155 (dk_at dksX5_waysWith_2 4 rfl rfl)
theorem dX5_waysWith_53 : decode cX5_waysWith 53 = .ok (.ireturn, 1) := dk_172 (dk_at dksX5_waysWith_2 7 rfl rfl)
def dkwX5_fits_4 : List UInt8 := [132, 2, 1, 132, 3, 1, 167, 255, 234, 28, 172]
abbrev dktX5_fits_4 : List UInt8 := dkwX5_fits_4 ++ []
def dkwX5_fits_3 : List UInt8 := [182, 1, 179, 3, 61, 3, 62, 29, 17, 0, 192, 162, 0, 21, 42, 180, 0, 163, 29, 51, 153, 0, 6]
abbrev dktX5_fits_3 : List UInt8 := dkwX5_fits_3 ++ dktX5_fits_4
def dkwX5_fits_2 : List UInt8 := [17, 0, 192, 162, 0, 16, 42, 180, 0, 163, 28, 3, 84, 132, 2, 1, 167, 255, 239, 42, 6, 27]
abbrev dktX5_fits_2 : List UInt8 := dkwX5_fits_2 ++ dktX5_fits_3
def dkwX5_fits_1 : List UInt8 := [16, 6, 3, 182, 1, 130, 42, 27, 3, 182, 1, 176, 42, 16, 6, 27, 182, 1, 145, 3, 61, 28]
abbrev dktX5_fits_1 : List UInt8 := dkwX5_fits_1 ++ dktX5_fits_2
def dkwX5_fits_0 : List UInt8 := [42, 3, 181, 0, 1, 42, 27, 182, 1, 42, 153, 0, 10, 42, 182, 1, 124, 154, 0, 5, 2, 172, 42]
abbrev dktX5_fits_0 : List UInt8 := dkwX5_fits_0 ++ dktX5_fits_1
theorem dksX5_fits_0 : cX5_fits.data.toList.drop 0 = dktX5_fits_0 := by decide +kernel
theorem dksX5_fits_1 : cX5_fits.data.toList.drop 23 = dktX5_fits_1 := dk_seg dksX5_fits_0 23 rfl rfl
theorem dksX5_fits_2 : cX5_fits.data.toList.drop 45 = dktX5_fits_2 := dk_seg dksX5_fits_1 22 rfl rfl
theorem dksX5_fits_3 : cX5_fits.data.toList.drop 67 = dktX5_fits_3 := dk_seg dksX5_fits_2 22 rfl rfl
theorem dksX5_fits_4 : cX5_fits.data.toList.drop 90 = dktX5_fits_4 := dk_seg dksX5_fits_3 23 rfl rfl
theorem dX5_fits_0 : decode cX5_fits 0 = .ok (.aload_n 0, 1) := dk_42 (dk_at dksX5_fits_0 0 rfl rfl)
theorem dX5_fits_1 : decode cX5_fits 1 = .ok (.iconst 0, 1) := dk_3 (dk_at dksX5_fits_0 1 rfl rfl)
theorem dX5_fits_2 : decode cX5_fits 2 = .ok (.putfield 1, 3) := dk_181 0 1 (dk_at dksX5_fits_0 2 rfl rfl)
theorem dX5_fits_5 : decode cX5_fits 5 = .ok (.aload_n 0, 1) := dk_42 (dk_at dksX5_fits_0 5 rfl rfl)
theorem dX5_fits_6 : decode cX5_fits 6 = .ok (.iload_n 1, 1) := dk_27 (dk_at dksX5_fits_0 6 rfl rfl)
theorem dX5_fits_7 : decode cX5_fits 7 = .ok (.invokevirtual 298, 3) := dk_182 1 42 (dk_at dksX5_fits_0 7 rfl rfl)
theorem dX5_fits_10 : decode cX5_fits 10 = .ok (.ifCond .eq 10, 3) := dk_153 0 10 (dk_at dksX5_fits_0 10 rfl rfl)
theorem dX5_fits_13 : decode cX5_fits 13 = .ok (.aload_n 0, 1) := dk_42 (dk_at dksX5_fits_0 13 rfl rfl)
theorem dX5_fits_14 : decode cX5_fits 14 = .ok (.invokevirtual 380, 3) := dk_182 1 124 (dk_at dksX5_fits_0 14 rfl rfl)
theorem dX5_fits_17 : decode cX5_fits 17 = .ok (.ifCond .ne 5, 3) := dk_154 0 5 (dk_at dksX5_fits_0 17 rfl rfl)
theorem dX5_fits_20 : decode cX5_fits 20 = .ok (.iconst (-1), 1) := dk_2 (dk_at dksX5_fits_0 20 rfl rfl)
theorem dX5_fits_21 : decode cX5_fits 21 = .ok (.ireturn, 1) := dk_172 (dk_at dksX5_fits_0 21 rfl rfl)
theorem dX5_fits_22 : decode cX5_fits 22 = .ok (.aload_n 0, 1) := dk_42 (dk_at dksX5_fits_0 22 rfl rfl)
theorem dX5_fits_23 : decode cX5_fits 23 = .ok (.bipush 6, 2) := dk_16 6 (dk_at dksX5_fits_1 0 rfl rfl)
theorem dX5_fits_25 : decode cX5_fits 25 = .ok (.iconst 0, 1) := dk_3 (dk_at dksX5_fits_1 2 rfl rfl)
theorem dX5_fits_26 : decode cX5_fits 26 = .ok (.invokevirtual 386, 3) := dk_182 1 130 (dk_at dksX5_fits_1 3 rfl rfl)
theorem dX5_fits_29 : decode cX5_fits 29 = .ok (.aload_n 0, 1) := dk_42 (dk_at dksX5_fits_1 6 rfl rfl)
theorem dX5_fits_30 : decode cX5_fits 30 = .ok (.iload_n 1, 1) := dk_27 (dk_at dksX5_fits_1 7 rfl rfl)
theorem dX5_fits_31 : decode cX5_fits 31 = .ok (.iconst 0, 1) := dk_3 (dk_at dksX5_fits_1 8 rfl rfl)
theorem dX5_fits_32 : decode cX5_fits 32 = .ok (.invokevirtual 432, 3) := dk_182 1 176 (dk_at dksX5_fits_1 9 rfl rfl)
theorem dX5_fits_35 : decode cX5_fits 35 = .ok (.aload_n 0, 1) := dk_42 (dk_at dksX5_fits_1 12 rfl rfl)
theorem dX5_fits_36 : decode cX5_fits 36 = .ok (.bipush 6, 2) := dk_16 6 (dk_at dksX5_fits_1 13 rfl rfl)
theorem dX5_fits_38 : decode cX5_fits 38 = .ok (.iload_n 1, 1) := dk_27 (dk_at dksX5_fits_1 15 rfl rfl)
theorem dX5_fits_39 : decode cX5_fits 39 = .ok (.invokevirtual 401, 3) := dk_182 1 145 (dk_at dksX5_fits_1 16 rfl rfl)
theorem dX5_fits_42 : decode cX5_fits 42 = .ok (.iconst 0, 1) := dk_3 (dk_at dksX5_fits_1 19 rfl rfl)
theorem dX5_fits_43 : decode cX5_fits 43 = .ok (.istore_n 2, 1) := dk_61 (dk_at dksX5_fits_1 20 rfl rfl)
theorem dX5_fits_44 : decode cX5_fits 44 = .ok (.iload_n 2, 1) := dk_28 (dk_at dksX5_fits_1 21 rfl rfl)
theorem dX5_fits_45 : decode cX5_fits 45 = .ok (.sipush 192, 3) := dk_17 0 192 (dk_at dksX5_fits_2 0 rfl rfl)
theorem dX5_fits_48 : decode cX5_fits 48 = .ok (.if_icmp .ge 16, 3) := dk_162 0 16 (dk_at dksX5_fits_2 3 rfl rfl)
theorem dX5_fits_51 : decode cX5_fits 51 = .ok (.aload_n 0, 1) := dk_42 (dk_at dksX5_fits_2 6 rfl rfl)
theorem dX5_fits_52 : decode cX5_fits 52 = .ok (.getfield 163, 3) := dk_180 0 163 (dk_at dksX5_fits_2 7 rfl rfl)
theorem dX5_fits_55 : decode cX5_fits 55 = .ok (.iload_n 2, 1) := dk_28 (dk_at dksX5_fits_2 10 rfl rfl)
theorem dX5_fits_56 : decode cX5_fits 56 = .ok (.iconst 0, 1) := dk_3 (dk_at dksX5_fits_2 11 rfl rfl)
theorem dX5_fits_57 : decode cX5_fits 57 = .ok (.bastore, 1) := dk_84 (dk_at dksX5_fits_2 12 rfl rfl)
theorem dX5_fits_58 : decode cX5_fits 58 = .ok (.iinc 2 1, 3) := dk_132 2 1 (dk_at dksX5_fits_2 13 rfl rfl)
theorem dX5_fits_61 : decode cX5_fits 61 = .ok (.goto (-17), 3) := dk_167 255 239 (dk_at dksX5_fits_2 16 rfl rfl)
theorem dX5_fits_64 : decode cX5_fits 64 = .ok (.aload_n 0, 1) := dk_42 (dk_at dksX5_fits_2 19 rfl rfl)
theorem dX5_fits_65 : decode cX5_fits 65 = .ok (.iconst 3, 1) := dk_6 (dk_at dksX5_fits_2 20 rfl rfl)
theorem dX5_fits_66 : decode cX5_fits 66 = .ok (.iload_n 1, 1) := dk_27 (dk_at dksX5_fits_2 21 rfl rfl)
theorem dX5_fits_67 : decode cX5_fits 67 = .ok (.invokevirtual 435, 3) := dk_182 1 179 (dk_at dksX5_fits_3 0 rfl rfl)
theorem dX5_fits_70 : decode cX5_fits 70 = .ok (.iconst 0, 1) := dk_3 (dk_at dksX5_fits_3 3 rfl rfl)
theorem dX5_fits_71 : decode cX5_fits 71 = .ok (.istore_n 2, 1) := dk_61 (dk_at dksX5_fits_3 4 rfl rfl)
theorem dX5_fits_72 : decode cX5_fits 72 = .ok (.iconst 0, 1) := dk_3 (dk_at dksX5_fits_3 5 rfl rfl)
theorem dX5_fits_73 : decode cX5_fits 73 = .ok (.istore_n 3, 1) := dk_62 (dk_at dksX5_fits_3 6 rfl rfl)
theorem dX5_fits_74 : decode cX5_fits 74 = .ok (.iload_n 3, 1) := dk_29 (dk_at dksX5_fits_3 7 rfl rfl)
theorem dX5_fits_75 : decode cX5_fits 75 = .ok (.sipush 192, 3) := dk_17 0 192 (dk_at dksX5_fits_3 8 rfl rfl)
theorem dX5_fits_78 : decode cX5_fits 78 = .ok (.if_icmp .ge 21, 3) := dk_162 0 21 (dk_at dksX5_fits_3 11 rfl rfl)
theorem dX5_fits_81 : decode cX5_fits 81 = .ok (.aload_n 0, 1) := dk_42 (dk_at dksX5_fits_3 14 rfl rfl)
theorem dX5_fits_82 : decode cX5_fits 82 = .ok (.getfield 163, 3) := dk_180 0 163 (dk_at dksX5_fits_3 15 rfl rfl)
theorem dX5_fits_85 : decode cX5_fits 85 = .ok (.iload_n 3, 1) := dk_29 (dk_at dksX5_fits_3 18 rfl rfl)
theorem dX5_fits_86 : decode cX5_fits 86 = .ok (.baload, 1) := dk_51 (dk_at dksX5_fits_3 19 rfl rfl)
theorem dX5_fits_87 : decode cX5_fits 87 = .ok (.ifCond .eq 6, 3) := dk_153 0 6 (dk_at dksX5_fits_3 20 rfl rfl)
theorem dX5_fits_90 : decode cX5_fits 90 = .ok (.iinc 2 1, 3) := dk_132 2 1 (dk_at dksX5_fits_4 0 rfl rfl)
theorem dX5_fits_93 : decode cX5_fits 93 = .ok (.iinc 3 1, 3) := dk_132 3 1 (dk_at dksX5_fits_4 3 rfl rfl)
theorem dX5_fits_96 : decode cX5_fits 96 = .ok (.goto (-22), 3) := dk_167 255 234 (dk_at dksX5_fits_4 6 rfl rfl)
theorem dX5_fits_99 : decode cX5_fits 99 = .ok (.iload_n 2, 1) := dk_28 (dk_at dksX5_fits_4 9 rfl rfl)
theorem dX5_fits_100 : decode cX5_fits 100 = .ok (.ireturn, 1) := dk_172 (dk_at dksX5_fits_4 10 rfl rfl)
def dkwX5_doubt_6 : List UInt8 := [167, 255, 177, 2, 172]
abbrev dktX5_doubt_6 : List UInt8 := dkwX5_doubt_6 ++ []
def dkwX5_doubt_5 : List UInt8 := [158, 0, 15, 28, 154, 0, 8, 21, 4, 167, 0, 5, 21, 5, 172, 132, 5, 1, 167, 255, 193, 132, 4, 1]
abbrev dktX5_doubt_5 : List UInt8 := dkwX5_doubt_5 ++ dktX5_doubt_6
def dkwX5_doubt_4 : List UInt8 := [153, 0, 6, 167, 0, 35, 42, 27, 21, 5, 182, 1, 176, 42, 4, 27, 182, 1, 179, 42, 180, 1, 155]
abbrev dktX5_doubt_4 : List UInt8 := dkwX5_doubt_4 ++ dktX5_doubt_5
def dkwX5_doubt_3 : List UInt8 := [54, 5, 21, 5, 29, 163, 0, 63, 21, 5, 184, 1, 200, 21, 4, 160, 0, 47, 21, 5, 29, 2, 130, 126]
abbrev dktX5_doubt_3 : List UInt8 := dkwX5_doubt_3 ++ dktX5_doubt_4
def dkwX5_doubt_2 : List UInt8 := [29, 4, 21, 4, 120, 128, 62, 132, 4, 1, 167, 255, 227, 3, 54, 4, 21, 4, 16, 6, 163, 0, 78, 3]
abbrev dktX5_doubt_2 : List UInt8 := dkwX5_doubt_2 ++ dktX5_doubt_3
def dkwX5_doubt_1 : List UInt8 := [3, 62, 3, 54, 4, 21, 4, 42, 180, 1, 127, 162, 0, 26, 42, 21, 4, 27, 182, 1, 173, 153, 0, 10]
abbrev dktX5_doubt_1 : List UInt8 := dkwX5_doubt_1 ++ dktX5_doubt_2
def dkwX5_doubt_0 : List UInt8 := [42, 3, 181, 0, 1, 42, 27, 182, 1, 42, 153, 0, 12, 28, 3, 4, 184, 0, 169, 154, 0, 5, 2, 172]
abbrev dktX5_doubt_0 : List UInt8 := dkwX5_doubt_0 ++ dktX5_doubt_1
theorem dksX5_doubt_0 : cX5_doubt.data.toList.drop 0 = dktX5_doubt_0 := by decide +kernel
theorem dksX5_doubt_1 : cX5_doubt.data.toList.drop 24 = dktX5_doubt_1 := dk_seg dksX5_doubt_0 24 rfl rfl
theorem dksX5_doubt_2 : cX5_doubt.data.toList.drop 48 = dktX5_doubt_2 := dk_seg dksX5_doubt_1 24 rfl rfl
theorem dksX5_doubt_3 : cX5_doubt.data.toList.drop 72 = dktX5_doubt_3 := dk_seg dksX5_doubt_2 24 rfl rfl
theorem dksX5_doubt_4 : cX5_doubt.data.toList.drop 96 = dktX5_doubt_4 := dk_seg dksX5_doubt_3 24 rfl rfl
theorem dksX5_doubt_5 : cX5_doubt.data.toList.drop 119 = dktX5_doubt_5 := dk_seg dksX5_doubt_4 23 rfl rfl
theorem dksX5_doubt_6 : cX5_doubt.data.toList.drop 143 = dktX5_doubt_6 := dk_seg dksX5_doubt_5 24 rfl rfl
theorem dX5_doubt_0 : decode cX5_doubt 0 = .ok (.aload_n 0, 1) := dk_42 (dk_at dksX5_doubt_0 0 rfl rfl)
theorem dX5_doubt_1 : decode cX5_doubt 1 = .ok (.iconst 0, 1) := dk_3 (dk_at dksX5_doubt_0 1 rfl rfl)
theorem dX5_doubt_2 : decode cX5_doubt 2 = .ok (.putfield 1, 3) := dk_181 0 1 (dk_at dksX5_doubt_0 2 rfl rfl)
theorem dX5_doubt_5 : decode cX5_doubt 5 = .ok (.aload_n 0, 1) := dk_42 (dk_at dksX5_doubt_0 5 rfl rfl)
theorem dX5_doubt_6 : decode cX5_doubt 6 = .ok (.iload_n 1, 1) := dk_27 (dk_at dksX5_doubt_0 6 rfl rfl)
theorem dX5_doubt_7 : decode cX5_doubt 7 = .ok (.invokevirtual 298, 3) := dk_182 1 42 (dk_at dksX5_doubt_0 7 rfl rfl)
theorem dX5_doubt_10 : decode cX5_doubt 10 = .ok (.ifCond .eq 12, 3) := dk_153 0 12 (dk_at dksX5_doubt_0 10 rfl rfl)
theorem dX5_doubt_13 : decode cX5_doubt 13 = .ok (.iload_n 2, 1) := dk_28 (dk_at dksX5_doubt_0 13 rfl rfl)
theorem dX5_doubt_14 : decode cX5_doubt 14 = .ok (.iconst 0, 1) := dk_3 (dk_at dksX5_doubt_0 14 rfl rfl)
theorem dX5_doubt_15 : decode cX5_doubt 15 = .ok (.iconst 1, 1) := dk_4 (dk_at dksX5_doubt_0 15 rfl rfl)
theorem dX5_doubt_16 : decode cX5_doubt 16 = .ok (.invokestatic 169, 3) := dk_184 0 169 (dk_at dksX5_doubt_0 16 rfl rfl)
theorem dX5_doubt_19 : decode cX5_doubt 19 = .ok (.ifCond .ne 5, 3) := dk_154 0 5 (dk_at dksX5_doubt_0 19 rfl rfl)
theorem dX5_doubt_22 : decode cX5_doubt 22 = .ok (.iconst (-1), 1) := dk_2 (dk_at dksX5_doubt_0 22 rfl rfl)
theorem dX5_doubt_23 : decode cX5_doubt 23 = .ok (.ireturn, 1) := dk_172 (dk_at dksX5_doubt_0 23 rfl rfl)
theorem dX5_doubt_24 : decode cX5_doubt 24 = .ok (.iconst 0, 1) := dk_3 (dk_at dksX5_doubt_1 0 rfl rfl)
theorem dX5_doubt_25 : decode cX5_doubt 25 = .ok (.istore_n 3, 1) := dk_62 (dk_at dksX5_doubt_1 1 rfl rfl)
theorem dX5_doubt_26 : decode cX5_doubt 26 = .ok (.iconst 0, 1) := dk_3 (dk_at dksX5_doubt_1 2 rfl rfl)
theorem dX5_doubt_27 : decode cX5_doubt 27 = .ok (.istore 4, 2) := dk_54 4 (dk_at dksX5_doubt_1 3 rfl rfl)
theorem dX5_doubt_29 : decode cX5_doubt 29 = .ok (.iload 4, 2) := dk_21 4 (dk_at dksX5_doubt_1 5 rfl rfl)
theorem dX5_doubt_31 : decode cX5_doubt 31 = .ok (.aload_n 0, 1) := dk_42 (dk_at dksX5_doubt_1 7 rfl rfl)
theorem dX5_doubt_32 : decode cX5_doubt 32 = .ok (.getfield 383, 3) := dk_180 1 127 (dk_at dksX5_doubt_1 8 rfl rfl)
theorem dX5_doubt_35 : decode cX5_doubt 35 = .ok (.if_icmp .ge 26, 3) := dk_162 0 26 (dk_at dksX5_doubt_1 11 rfl rfl)
theorem dX5_doubt_38 : decode cX5_doubt 38 = .ok (.aload_n 0, 1) := dk_42 (dk_at dksX5_doubt_1 14 rfl rfl)
theorem dX5_doubt_39 : decode cX5_doubt 39 = .ok (.iload 4, 2) := dk_21 4 (dk_at dksX5_doubt_1 15 rfl rfl)
theorem dX5_doubt_41 : decode cX5_doubt 41 = .ok (.iload_n 1, 1) := dk_27 (dk_at dksX5_doubt_1 17 rfl rfl)
theorem dX5_doubt_42 : decode cX5_doubt 42 = .ok (.invokevirtual 429, 3) := dk_182 1 173 (dk_at dksX5_doubt_1 18 rfl rfl)
theorem dX5_doubt_45 : decode cX5_doubt 45 = .ok (.ifCond .eq 10, 3) := dk_153 0 10 (dk_at dksX5_doubt_1 21 rfl rfl)
theorem dX5_doubt_48 : decode cX5_doubt 48 = .ok (.iload_n 3, 1) := dk_29 (dk_at dksX5_doubt_2 0 rfl rfl)
theorem dX5_doubt_49 : decode cX5_doubt 49 = .ok (.iconst 1, 1) := dk_4 (dk_at dksX5_doubt_2 1 rfl rfl)
theorem dX5_doubt_50 : decode cX5_doubt 50 = .ok (.iload 4, 2) := dk_21 4 (dk_at dksX5_doubt_2 2 rfl rfl)
theorem dX5_doubt_52 : decode cX5_doubt 52 = .ok (.ishl, 1) := dk_120 (dk_at dksX5_doubt_2 4 rfl rfl)
theorem dX5_doubt_53 : decode cX5_doubt 53 = .ok (.ior, 1) := dk_128 (dk_at dksX5_doubt_2 5 rfl rfl)
theorem dX5_doubt_54 : decode cX5_doubt 54 = .ok (.istore_n 3, 1) := dk_62 (dk_at dksX5_doubt_2 6 rfl rfl)
theorem dX5_doubt_55 : decode cX5_doubt 55 = .ok (.iinc 4 1, 3) := dk_132 4 1 (dk_at dksX5_doubt_2 7 rfl rfl)
theorem dX5_doubt_58 : decode cX5_doubt 58 = .ok (.goto (-29), 3) := dk_167 255 227 (dk_at dksX5_doubt_2 10 rfl rfl)
theorem dX5_doubt_61 : decode cX5_doubt 61 = .ok (.iconst 0, 1) := dk_3 (dk_at dksX5_doubt_2 13 rfl rfl)
theorem dX5_doubt_62 : decode cX5_doubt 62 = .ok (.istore 4, 2) := dk_54 4 (dk_at dksX5_doubt_2 14 rfl rfl)
theorem dX5_doubt_64 : decode cX5_doubt 64 = .ok (.iload 4, 2) := dk_21 4 (dk_at dksX5_doubt_2 16 rfl rfl)
theorem dX5_doubt_66 : decode cX5_doubt 66 = .ok (.bipush 6, 2) := dk_16 6 (dk_at dksX5_doubt_2 18 rfl rfl)
theorem dX5_doubt_68 : decode cX5_doubt 68 = .ok (.if_icmp .gt 78, 3) := dk_163 0 78 (dk_at dksX5_doubt_2 20 rfl rfl)
theorem dX5_doubt_71 : decode cX5_doubt 71 = .ok (.iconst 0, 1) := dk_3 (dk_at dksX5_doubt_2 23 rfl rfl)
theorem dX5_doubt_72 : decode cX5_doubt 72 = .ok (.istore 5, 2) := dk_54 5 (dk_at dksX5_doubt_3 0 rfl rfl)
theorem dX5_doubt_74 : decode cX5_doubt 74 = .ok (.iload 5, 2) := dk_21 5 (dk_at dksX5_doubt_3 2 rfl rfl)
theorem dX5_doubt_76 : decode cX5_doubt 76 = .ok (.iload_n 3, 1) := dk_29 (dk_at dksX5_doubt_3 4 rfl rfl)
theorem dX5_doubt_77 : decode cX5_doubt 77 = .ok (.if_icmp .gt 63, 3) := dk_163 0 63 (dk_at dksX5_doubt_3 5 rfl rfl)
theorem dX5_doubt_80 : decode cX5_doubt 80 = .ok (.iload 5, 2) := dk_21 5 (dk_at dksX5_doubt_3 8 rfl rfl)
theorem dX5_doubt_82 : decode cX5_doubt 82 = .ok (.invokestatic 456, 3) := dk_184 1 200 (dk_at dksX5_doubt_3 10 rfl rfl)
theorem dX5_doubt_85 : decode cX5_doubt 85 = .ok (.iload 4, 2) := dk_21 4 (dk_at dksX5_doubt_3 13 rfl rfl)
theorem dX5_doubt_87 : decode cX5_doubt 87 = .ok (.if_icmp .ne 47, 3) := dk_160 0 47 (dk_at dksX5_doubt_3 15 rfl rfl)
theorem dX5_doubt_90 : decode cX5_doubt 90 = .ok (.iload 5, 2) := dk_21 5 (dk_at dksX5_doubt_3 18 rfl rfl)
theorem dX5_doubt_92 : decode cX5_doubt 92 = .ok (.iload_n 3, 1) := dk_29 (dk_at dksX5_doubt_3 20 rfl rfl)
theorem dX5_doubt_93 : decode cX5_doubt 93 = .ok (.iconst (-1), 1) := dk_2 (dk_at dksX5_doubt_3 21 rfl rfl)
theorem dX5_doubt_94 : decode cX5_doubt 94 = .ok (.ixor, 1) := dk_130 (dk_at dksX5_doubt_3 22 rfl rfl)
theorem dX5_doubt_95 : decode cX5_doubt 95 = .ok (.iand, 1) := dk_126 (dk_at dksX5_doubt_3 23 rfl rfl)
theorem dX5_doubt_96 : decode cX5_doubt 96 = .ok (.ifCond .eq 6, 3) := dk_153 0 6 (dk_at dksX5_doubt_4 0 rfl rfl)
theorem dX5_doubt_99 : decode cX5_doubt 99 = .ok (.goto 35, 3) := dk_167 0 35 (dk_at dksX5_doubt_4 3 rfl rfl)
theorem dX5_doubt_102 : decode cX5_doubt 102 = .ok (.aload_n 0, 1) := dk_42 (dk_at dksX5_doubt_4 6 rfl rfl)
theorem dX5_doubt_103 : decode cX5_doubt 103 = .ok (.iload_n 1, 1) := dk_27 (dk_at dksX5_doubt_4 7 rfl rfl)
theorem dX5_doubt_104 : decode cX5_doubt 104 = .ok (.iload 5, 2) := dk_21 5 (dk_at dksX5_doubt_4 8 rfl rfl)
theorem dX5_doubt_106 : decode cX5_doubt 106 = .ok (.invokevirtual 432, 3) := dk_182 1 176 (dk_at dksX5_doubt_4 10 rfl rfl)
theorem dX5_doubt_109 : decode cX5_doubt 109 = .ok (.aload_n 0, 1) := dk_42 (dk_at dksX5_doubt_4 13 rfl rfl)
theorem dX5_doubt_110 : decode cX5_doubt 110 = .ok (.iconst 1, 1) := dk_4 (dk_at dksX5_doubt_4 14 rfl rfl)
theorem dX5_doubt_111 : decode cX5_doubt 111 = .ok (.iload_n 1, 1) := dk_27 (dk_at dksX5_doubt_4 15 rfl rfl)
theorem dX5_doubt_112 : decode cX5_doubt 112 = .ok (.invokevirtual 435, 3) := dk_182 1 179 (dk_at dksX5_doubt_4 16 rfl rfl)
theorem dX5_doubt_115 : decode cX5_doubt 115 = .ok (.aload_n 0, 1) := dk_42 (dk_at dksX5_doubt_4 19 rfl rfl)
theorem dX5_doubt_116 : decode cX5_doubt 116 = .ok (.getfield 411, 3) := dk_180 1 155 (dk_at dksX5_doubt_4 20 rfl rfl)
theorem dX5_doubt_119 : decode cX5_doubt 119 = .ok (.ifCond .le 15, 3) := dk_158 0 15 (dk_at dksX5_doubt_5 0 rfl rfl)
theorem dX5_doubt_122 : decode cX5_doubt 122 = .ok (.iload_n 2, 1) := dk_28 (dk_at dksX5_doubt_5 3 rfl rfl)
theorem dX5_doubt_123 : decode cX5_doubt 123 = .ok (.ifCond .ne 8, 3) := dk_154 0 8 (dk_at dksX5_doubt_5 4 rfl rfl)
theorem dX5_doubt_126 : decode cX5_doubt 126 = .ok (.iload 4, 2) := dk_21 4 (dk_at dksX5_doubt_5 7 rfl rfl)
theorem dX5_doubt_128 : decode cX5_doubt 128 = .ok (.goto 5, 3) := dk_167 0 5 (dk_at dksX5_doubt_5 9 rfl rfl)
theorem dX5_doubt_131 : decode cX5_doubt 131 = .ok (.iload 5, 2) := dk_21 5 (dk_at dksX5_doubt_5 12 rfl rfl)
theorem dX5_doubt_133 : decode cX5_doubt 133 = .ok (.ireturn, 1) := dk_172 (dk_at dksX5_doubt_5 14 rfl rfl)
theorem dX5_doubt_134 : decode cX5_doubt 134 = .ok (.iinc 5 1, 3) := dk_132 5 1 (dk_at dksX5_doubt_5 15 rfl rfl)
theorem dX5_doubt_137 : decode cX5_doubt 137 = .ok (.goto (-63), 3) := dk_167 255 193 (dk_at dksX5_doubt_5 18 rfl rfl)
theorem dX5_doubt_140 : decode cX5_doubt 140 = .ok (.iinc 4 1, 3) := dk_132 4 1 (dk_at dksX5_doubt_5 21 rfl rfl)
theorem dX5_doubt_143 : decode cX5_doubt 143 = .ok (.goto (-79), 3) := dk_167 255 177 (dk_at dksX5_doubt_6 0 rfl rfl)
theorem dX5_doubt_146 : decode cX5_doubt 146 = .ok (.iconst (-1), 1) := dk_2 (dk_at dksX5_doubt_6 3 rfl rfl)
theorem dX5_doubt_147 : decode cX5_doubt 147 = .ok (.ireturn, 1) := dk_172 (dk_at dksX5_doubt_6 4 rfl rfl)
def dkwX5_bits_1 : List UInt8 := [27, 172]
abbrev dktX5_bits_1 : List UInt8 := dkwX5_bits_1 ++ []
def dkwX5_bits_0 : List UInt8 := [3, 60, 3, 61, 28, 16, 6, 162, 0, 17, 27, 26, 28, 122, 4, 126, 96, 60, 132, 2, 1, 167, 255, 239]
abbrev dktX5_bits_0 : List UInt8 := dkwX5_bits_0 ++ dktX5_bits_1
theorem dksX5_bits_0 : cX5_bits.data.toList.drop 0 = dktX5_bits_0 := by decide +kernel
theorem dksX5_bits_1 : cX5_bits.data.toList.drop 24 = dktX5_bits_1 := dk_seg dksX5_bits_0 24 rfl rfl
theorem dX5_bits_0 : decode cX5_bits 0 = .ok (.iconst 0, 1) := dk_3 (dk_at dksX5_bits_0 0 rfl rfl)
theorem dX5_bits_1 : decode cX5_bits 1 = .ok (.istore_n 1, 1) := dk_60 (dk_at dksX5_bits_0 1 rfl rfl)
theorem dX5_bits_2 : decode cX5_bits 2 = .ok (.iconst 0, 1) := dk_3 (dk_at dksX5_bits_0 2 rfl rfl)
theorem dX5_bits_3 : decode cX5_bits 3 = .ok (.istore_n 2, 1) := dk_61 (dk_at dksX5_bits_0 3 rfl rfl)
theorem dX5_bits_4 : decode cX5_bits 4 = .ok (.iload_n 2, 1) := dk_28 (dk_at dksX5_bits_0 4 rfl rfl)
theorem dX5_bits_5 : decode cX5_bits 5 = .ok (.bipush 6, 2) := dk_16 6 (dk_at dksX5_bits_0 5 rfl rfl)
theorem dX5_bits_7 : decode cX5_bits 7 = .ok (.if_icmp .ge 17, 3) := dk_162 0 17 (dk_at dksX5_bits_0 7 rfl rfl)
theorem dX5_bits_10 : decode cX5_bits 10 = .ok (.iload_n 1, 1) := dk_27 (dk_at dksX5_bits_0 10 rfl rfl)
theorem dX5_bits_11 : decode cX5_bits 11 = .ok (.iload_n 0, 1) := dk_26 (dk_at dksX5_bits_0 11 rfl rfl)
theorem dX5_bits_12 : decode cX5_bits 12 = .ok (.iload_n 2, 1) := dk_28 (dk_at dksX5_bits_0 12 rfl rfl)
theorem dX5_bits_13 : decode cX5_bits 13 = .ok (.ishr, 1) := dk_122 (dk_at dksX5_bits_0 13 rfl rfl)
theorem dX5_bits_14 : decode cX5_bits 14 = .ok (.iconst 1, 1) := dk_4 (dk_at dksX5_bits_0 14 rfl rfl)
theorem dX5_bits_15 : decode cX5_bits 15 = .ok (.iand, 1) := dk_126 (dk_at dksX5_bits_0 15 rfl rfl)
theorem dX5_bits_16 : decode cX5_bits 16 = .ok (.iadd, 1) := dk_96 (dk_at dksX5_bits_0 16 rfl rfl)
theorem dX5_bits_17 : decode cX5_bits 17 = .ok (.istore_n 1, 1) := dk_60 (dk_at dksX5_bits_0 17 rfl rfl)
theorem dX5_bits_18 : decode cX5_bits 18 = .ok (.iinc 2 1, 3) := dk_132 2 1 (dk_at dksX5_bits_0 18 rfl rfl)
theorem dX5_bits_21 : decode cX5_bits 21 = .ok (.goto (-17), 3) := dk_167 255 239 (dk_at dksX5_bits_0 21 rfl rfl)
theorem dX5_bits_24 : decode cX5_bits 24 = .ok (.iload_n 1, 1) := dk_27 (dk_at dksX5_bits_1 0 rfl rfl)
theorem dX5_bits_25 : decode cX5_bits 25 = .ok (.ireturn, 1) := dk_172 (dk_at dksX5_bits_1 1 rfl rfl)
def dkwX5_could_4 : List UInt8 := [167, 0, 5, 21, 7, 172, 132, 5, 255, 132, 6, 1, 167, 255, 196, 2, 172]
abbrev dktX5_could_4 : List UInt8 := dkwX5_could_4 ++ []
def dkwX5_could_3 : List UInt8 := [96, 46, 54, 7, 21, 7, 154, 0, 6, 167, 0, 24, 21, 5, 154, 0, 16, 21, 4, 154, 0, 8, 21, 6]
abbrev dktX5_could_3 : List UInt8 := dkwX5_could_3 ++ dktX5_could_4
def dkwX5_could_2 : List UInt8 := [21, 6, 17, 0, 135, 162, 0, 58, 42, 180, 0, 160, 17, 0, 136, 42, 180, 0, 72, 28, 46, 104, 21, 6]
abbrev dktX5_could_2 : List UInt8 := dkwX5_could_2 ++ dktX5_could_3
def dkwX5_could_1 : List UInt8 := [21, 4, 3, 4, 184, 0, 169, 154, 0, 5, 2, 172, 42, 27, 182, 1, 182, 29, 54, 5, 3, 54, 6]
abbrev dktX5_could_1 : List UInt8 := dkwX5_could_1 ++ dktX5_could_2
def dkwX5_could_0 : List UInt8 := [42, 3, 181, 0, 1, 42, 27, 182, 1, 42, 153, 0, 24, 28, 184, 1, 32, 153, 0, 17, 29, 155, 0, 13]
abbrev dktX5_could_0 : List UInt8 := dkwX5_could_0 ++ dktX5_could_1
theorem dksX5_could_0 : cX5_could.data.toList.drop 0 = dktX5_could_0 := by decide +kernel
theorem dksX5_could_1 : cX5_could.data.toList.drop 24 = dktX5_could_1 := dk_seg dksX5_could_0 24 rfl rfl
theorem dksX5_could_2 : cX5_could.data.toList.drop 47 = dktX5_could_2 := dk_seg dksX5_could_1 23 rfl rfl
theorem dksX5_could_3 : cX5_could.data.toList.drop 71 = dktX5_could_3 := dk_seg dksX5_could_2 24 rfl rfl
theorem dksX5_could_4 : cX5_could.data.toList.drop 95 = dktX5_could_4 := dk_seg dksX5_could_3 24 rfl rfl
theorem dX5_could_0 : decode cX5_could 0 = .ok (.aload_n 0, 1) := dk_42 (dk_at dksX5_could_0 0 rfl rfl)
theorem dX5_could_1 : decode cX5_could 1 = .ok (.iconst 0, 1) := dk_3 (dk_at dksX5_could_0 1 rfl rfl)
theorem dX5_could_2 : decode cX5_could 2 = .ok (.putfield 1, 3) := dk_181 0 1 (dk_at dksX5_could_0 2 rfl rfl)
theorem dX5_could_5 : decode cX5_could 5 = .ok (.aload_n 0, 1) := dk_42 (dk_at dksX5_could_0 5 rfl rfl)
theorem dX5_could_6 : decode cX5_could 6 = .ok (.iload_n 1, 1) := dk_27 (dk_at dksX5_could_0 6 rfl rfl)
theorem dX5_could_7 : decode cX5_could 7 = .ok (.invokevirtual 298, 3) := dk_182 1 42 (dk_at dksX5_could_0 7 rfl rfl)
theorem dX5_could_10 : decode cX5_could 10 = .ok (.ifCond .eq 24, 3) := dk_153 0 24 (dk_at dksX5_could_0 10 rfl rfl)
theorem dX5_could_13 : decode cX5_could 13 = .ok (.iload_n 2, 1) := dk_28 (dk_at dksX5_could_0 13 rfl rfl)
theorem dX5_could_14 : decode cX5_could 14 = .ok (.invokestatic 288, 3) := dk_184 1 32 (dk_at dksX5_could_0 14 rfl rfl)
theorem dX5_could_17 : decode cX5_could 17 = .ok (.ifCond .eq 17, 3) := dk_153 0 17 (dk_at dksX5_could_0 17 rfl rfl)
theorem dX5_could_20 : decode cX5_could 20 = .ok (.iload_n 3, 1) := dk_29 (dk_at dksX5_could_0 20 rfl rfl)
theorem dX5_could_21 : decode cX5_could 21 = .ok (.ifCond .lt 13, 3) := dk_155 0 13 (dk_at dksX5_could_0 21 rfl rfl)
theorem dX5_could_24 : decode cX5_could 24 = .ok (.iload 4, 2) := dk_21 4 (dk_at dksX5_could_1 0 rfl rfl)
theorem dX5_could_26 : decode cX5_could 26 = .ok (.iconst 0, 1) := dk_3 (dk_at dksX5_could_1 2 rfl rfl)
theorem dX5_could_27 : decode cX5_could 27 = .ok (.iconst 1, 1) := dk_4 (dk_at dksX5_could_1 3 rfl rfl)
theorem dX5_could_28 : decode cX5_could 28 = .ok (.invokestatic 169, 3) := dk_184 0 169 (dk_at dksX5_could_1 4 rfl rfl)
theorem dX5_could_31 : decode cX5_could 31 = .ok (.ifCond .ne 5, 3) := dk_154 0 5 (dk_at dksX5_could_1 7 rfl rfl)
theorem dX5_could_34 : decode cX5_could 34 = .ok (.iconst (-1), 1) := dk_2 (dk_at dksX5_could_1 10 rfl rfl)
theorem dX5_could_35 : decode cX5_could 35 = .ok (.ireturn, 1) := dk_172 (dk_at dksX5_could_1 11 rfl rfl)
theorem dX5_could_36 : decode cX5_could 36 = .ok (.aload_n 0, 1) := dk_42 (dk_at dksX5_could_1 12 rfl rfl)
theorem dX5_could_37 : decode cX5_could 37 = .ok (.iload_n 1, 1) := dk_27 (dk_at dksX5_could_1 13 rfl rfl)
theorem dX5_could_38 : decode cX5_could 38 = .ok (.invokevirtual 438, 3) := dk_182 1 182 (dk_at dksX5_could_1 14 rfl rfl)
theorem dX5_could_41 : decode cX5_could 41 = .ok (.iload_n 3, 1) := dk_29 (dk_at dksX5_could_1 17 rfl rfl)
theorem dX5_could_42 : decode cX5_could 42 = .ok (.istore 5, 2) := dk_54 5 (dk_at dksX5_could_1 18 rfl rfl)
theorem dX5_could_44 : decode cX5_could 44 = .ok (.iconst 0, 1) := dk_3 (dk_at dksX5_could_1 20 rfl rfl)
theorem dX5_could_45 : decode cX5_could 45 = .ok (.istore 6, 2) := dk_54 6 (dk_at dksX5_could_1 21 rfl rfl)
theorem dX5_could_47 : decode cX5_could 47 = .ok (.iload 6, 2) := dk_21 6 (dk_at dksX5_could_2 0 rfl rfl)
theorem dX5_could_49 : decode cX5_could 49 = .ok (.sipush 135, 3) := dk_17 0 135 (dk_at dksX5_could_2 2 rfl rfl)
theorem dX5_could_52 : decode cX5_could 52 = .ok (.if_icmp .ge 58, 3) := dk_162 0 58 (dk_at dksX5_could_2 5 rfl rfl)
theorem dX5_could_55 : decode cX5_could 55 = .ok (.aload_n 0, 1) := dk_42 (dk_at dksX5_could_2 8 rfl rfl)
theorem dX5_could_56 : decode cX5_could 56 = .ok (.getfield 160, 3) := dk_180 0 160 (dk_at dksX5_could_2 9 rfl rfl)
theorem dX5_could_59 : decode cX5_could 59 = .ok (.sipush 136, 3) := dk_17 0 136 (dk_at dksX5_could_2 12 rfl rfl)
theorem dX5_could_62 : decode cX5_could 62 = .ok (.aload_n 0, 1) := dk_42 (dk_at dksX5_could_2 15 rfl rfl)
theorem dX5_could_63 : decode cX5_could 63 = .ok (.getfield 72, 3) := dk_180 0 72 (dk_at dksX5_could_2 16 rfl rfl)
theorem dX5_could_66 : decode cX5_could 66 = .ok (.iload_n 2, 1) := dk_28 (dk_at dksX5_could_2 19 rfl rfl)
theorem dX5_could_67 : decode cX5_could 67 = .ok (.iaload, 1) := dk_46 (dk_at dksX5_could_2 20 rfl rfl)
theorem dX5_could_68 : decode cX5_could 68 = .ok (.imul, 1) := dk_104 (dk_at dksX5_could_2 21 rfl rfl)
theorem dX5_could_69 : decode cX5_could 69 = .ok (.iload 6, 2) := dk_21 6 (dk_at dksX5_could_2 22 rfl rfl)
theorem dX5_could_71 : decode cX5_could 71 = .ok (.iadd, 1) := dk_96 (dk_at dksX5_could_3 0 rfl rfl)
theorem dX5_could_72 : decode cX5_could 72 = .ok (.iaload, 1) := dk_46 (dk_at dksX5_could_3 1 rfl rfl)
theorem dX5_could_73 : decode cX5_could 73 = .ok (.istore 7, 2) := dk_54 7 (dk_at dksX5_could_3 2 rfl rfl)
theorem dX5_could_75 : decode cX5_could 75 = .ok (.iload 7, 2) := dk_21 7 (dk_at dksX5_could_3 4 rfl rfl)
theorem dX5_could_77 : decode cX5_could 77 = .ok (.ifCond .ne 6, 3) := dk_154 0 6 (dk_at dksX5_could_3 6 rfl rfl)
theorem dX5_could_80 : decode cX5_could 80 = .ok (.goto 24, 3) := dk_167 0 24 (dk_at dksX5_could_3 9 rfl rfl)
theorem dX5_could_83 : decode cX5_could 83 = .ok (.iload 5, 2) := dk_21 5 (dk_at dksX5_could_3 12 rfl rfl)
theorem dX5_could_85 : decode cX5_could 85 = .ok (.ifCond .ne 16, 3) := dk_154 0 16 (dk_at dksX5_could_3 14 rfl rfl)
theorem dX5_could_88 : decode cX5_could 88 = .ok (.iload 4, 2) := dk_21 4 (dk_at dksX5_could_3 17 rfl rfl)
theorem dX5_could_90 : decode cX5_could 90 = .ok (.ifCond .ne 8, 3) := dk_154 0 8 (dk_at dksX5_could_3 19 rfl rfl)
theorem dX5_could_93 : decode cX5_could 93 = .ok (.iload 6, 2) := dk_21 6 (dk_at dksX5_could_3 22 rfl rfl)
theorem dX5_could_95 : decode cX5_could 95 = .ok (.goto 5, 3) := dk_167 0 5 (dk_at dksX5_could_4 0 rfl rfl)
theorem dX5_could_98 : decode cX5_could 98 = .ok (.iload 7, 2) := dk_21 7 (dk_at dksX5_could_4 3 rfl rfl)
theorem dX5_could_100 : decode cX5_could 100 = .ok (.ireturn, 1) := dk_172 (dk_at dksX5_could_4 5 rfl rfl)
theorem dX5_could_101 : decode cX5_could 101 = .ok (.iinc 5 (-1), 3) := dk_132 5 255 (dk_at dksX5_could_4 6 rfl rfl)
theorem dX5_could_104 : decode cX5_could 104 = .ok (.iinc 6 1, 3) := dk_132 6 1 (dk_at dksX5_could_4 9 rfl rfl)
theorem dX5_could_107 : decode cX5_could 107 = .ok (.goto (-60), 3) := dk_167 255 196 (dk_at dksX5_could_4 12 rfl rfl)
theorem dX5_could_110 : decode cX5_could 110 = .ok (.iconst (-1), 1) := dk_2 (dk_at dksX5_could_4 15 rfl rfl)
theorem dX5_could_111 : decode cX5_could 111 = .ok (.ireturn, 1) := dk_172 (dk_at dksX5_could_4 16 rfl rfl)
def dkwX5_inGrid_3 : List UInt8 := [167, 255, 219, 2, 172]
abbrev dktX5_inGrid_3 : List UInt8 := dkwX5_inGrid_3 ++ []
def dkwX5_inGrid_2 : List UInt8 := [180, 0, 160, 17, 0, 136, 29, 104, 28, 96, 46, 42, 180, 1, 155, 160, 0, 5, 29, 172, 132, 3, 1]
abbrev dktX5_inGrid_2 : List UInt8 := dkwX5_inGrid_2 ++ dktX5_inGrid_3
def dkwX5_inGrid_1 : List UInt8 := [2, 172, 42, 27, 182, 1, 182, 3, 62, 29, 16, 40, 162, 0, 37, 42, 180, 1, 155, 158, 0, 30, 42]
abbrev dktX5_inGrid_1 : List UInt8 := dkwX5_inGrid_1 ++ dktX5_inGrid_2
def dkwX5_inGrid_0 : List UInt8 := [42, 3, 181, 0, 1, 42, 27, 182, 1, 42, 153, 0, 14, 28, 3, 17, 0, 134, 184, 0, 169, 154, 0, 5]
abbrev dktX5_inGrid_0 : List UInt8 := dkwX5_inGrid_0 ++ dktX5_inGrid_1
theorem dksX5_inGrid_0 : cX5_inGrid.data.toList.drop 0 = dktX5_inGrid_0 := by decide +kernel
theorem dksX5_inGrid_1 : cX5_inGrid.data.toList.drop 24 = dktX5_inGrid_1 := dk_seg dksX5_inGrid_0 24 rfl rfl
theorem dksX5_inGrid_2 : cX5_inGrid.data.toList.drop 47 = dktX5_inGrid_2 := dk_seg dksX5_inGrid_1 23 rfl rfl
theorem dksX5_inGrid_3 : cX5_inGrid.data.toList.drop 70 = dktX5_inGrid_3 := dk_seg dksX5_inGrid_2 23 rfl rfl
theorem dX5_inGrid_0 : decode cX5_inGrid 0 = .ok (.aload_n 0, 1) := dk_42 (dk_at dksX5_inGrid_0 0 rfl rfl)
theorem dX5_inGrid_1 : decode cX5_inGrid 1 = .ok (.iconst 0, 1) := dk_3 (dk_at dksX5_inGrid_0 1 rfl rfl)
theorem dX5_inGrid_2 : decode cX5_inGrid 2 = .ok (.putfield 1, 3) := dk_181 0 1 (dk_at dksX5_inGrid_0 2 rfl rfl)
theorem dX5_inGrid_5 : decode cX5_inGrid 5 = .ok (.aload_n 0, 1) := dk_42 (dk_at dksX5_inGrid_0 5 rfl rfl)
theorem dX5_inGrid_6 : decode cX5_inGrid 6 = .ok (.iload_n 1, 1) := dk_27 (dk_at dksX5_inGrid_0 6 rfl rfl)
theorem dX5_inGrid_7 : decode cX5_inGrid 7 = .ok (.invokevirtual 298, 3) := dk_182 1 42 (dk_at dksX5_inGrid_0 7 rfl rfl)
theorem dX5_inGrid_10 : decode cX5_inGrid 10 = .ok (.ifCond .eq 14, 3) := dk_153 0 14 (dk_at dksX5_inGrid_0 10 rfl rfl)
theorem dX5_inGrid_13 : decode cX5_inGrid 13 = .ok (.iload_n 2, 1) := dk_28 (dk_at dksX5_inGrid_0 13 rfl rfl)
theorem dX5_inGrid_14 : decode cX5_inGrid 14 = .ok (.iconst 0, 1) := dk_3 (dk_at dksX5_inGrid_0 14 rfl rfl)
theorem dX5_inGrid_15 : decode cX5_inGrid 15 = .ok (.sipush 134, 3) := dk_17 0 134 (dk_at dksX5_inGrid_0 15 rfl rfl)
theorem dX5_inGrid_18 : decode cX5_inGrid 18 = .ok (.invokestatic 169, 3) := dk_184 0 169 (dk_at dksX5_inGrid_0 18 rfl rfl)
theorem dX5_inGrid_21 : decode cX5_inGrid 21 = .ok (.ifCond .ne 5, 3) := dk_154 0 5 (dk_at dksX5_inGrid_0 21 rfl rfl)
theorem dX5_inGrid_24 : decode cX5_inGrid 24 = .ok (.iconst (-1), 1) := dk_2 (dk_at dksX5_inGrid_1 0 rfl rfl)
theorem dX5_inGrid_25 : decode cX5_inGrid 25 = .ok (.ireturn, 1) := dk_172 (dk_at dksX5_inGrid_1 1 rfl rfl)
theorem dX5_inGrid_26 : decode cX5_inGrid 26 = .ok (.aload_n 0, 1) := dk_42 (dk_at dksX5_inGrid_1 2 rfl rfl)
theorem dX5_inGrid_27 : decode cX5_inGrid 27 = .ok (.iload_n 1, 1) := dk_27 (dk_at dksX5_inGrid_1 3 rfl rfl)
theorem dX5_inGrid_28 : decode cX5_inGrid 28 = .ok (.invokevirtual 438, 3) := dk_182 1 182 (dk_at dksX5_inGrid_1 4 rfl rfl)
theorem dX5_inGrid_31 : decode cX5_inGrid 31 = .ok (.iconst 0, 1) := dk_3 (dk_at dksX5_inGrid_1 7 rfl rfl)
theorem dX5_inGrid_32 : decode cX5_inGrid 32 = .ok (.istore_n 3, 1) := dk_62 (dk_at dksX5_inGrid_1 8 rfl rfl)
theorem dX5_inGrid_33 : decode cX5_inGrid 33 = .ok (.iload_n 3, 1) := dk_29 (dk_at dksX5_inGrid_1 9 rfl rfl)
theorem dX5_inGrid_34 : decode cX5_inGrid 34 = .ok (.bipush 40, 2) := dk_16 40 (dk_at dksX5_inGrid_1 10 rfl rfl)
theorem dX5_inGrid_36 : decode cX5_inGrid 36 = .ok (.if_icmp .ge 37, 3) := dk_162 0 37 (dk_at dksX5_inGrid_1 12 rfl rfl)
theorem dX5_inGrid_39 : decode cX5_inGrid 39 = .ok (.aload_n 0, 1) := dk_42 (dk_at dksX5_inGrid_1 15 rfl rfl)
theorem dX5_inGrid_40 : decode cX5_inGrid 40 = .ok (.getfield 411, 3) := dk_180 1 155 (dk_at dksX5_inGrid_1 16 rfl rfl)
theorem dX5_inGrid_43 : decode cX5_inGrid 43 = .ok (.ifCond .le 30, 3) := dk_158 0 30 (dk_at dksX5_inGrid_1 19 rfl rfl)
theorem dX5_inGrid_46 : decode cX5_inGrid 46 = .ok (.aload_n 0, 1) := dk_42 (dk_at dksX5_inGrid_1 22 rfl rfl)
theorem dX5_inGrid_47 : decode cX5_inGrid 47 = .ok (.getfield 160, 3) := dk_180 0 160 (dk_at dksX5_inGrid_2 0 rfl rfl)
theorem dX5_inGrid_50 : decode cX5_inGrid 50 = .ok (.sipush 136, 3) := dk_17 0 136 (dk_at dksX5_inGrid_2 3 rfl rfl)
theorem dX5_inGrid_53 : decode cX5_inGrid 53 = .ok (.iload_n 3, 1) := dk_29 (dk_at dksX5_inGrid_2 6 rfl rfl)
theorem dX5_inGrid_54 : decode cX5_inGrid 54 = .ok (.imul, 1) := dk_104 (dk_at dksX5_inGrid_2 7 rfl rfl)
theorem dX5_inGrid_55 : decode cX5_inGrid 55 = .ok (.iload_n 2, 1) := dk_28 (dk_at dksX5_inGrid_2 8 rfl rfl)
theorem dX5_inGrid_56 : decode cX5_inGrid 56 = .ok (.iadd, 1) := dk_96 (dk_at dksX5_inGrid_2 9 rfl rfl)
theorem dX5_inGrid_57 : decode cX5_inGrid 57 = .ok (.iaload, 1) := dk_46 (dk_at dksX5_inGrid_2 10 rfl rfl)
theorem dX5_inGrid_58 : decode cX5_inGrid 58 = .ok (.aload_n 0, 1) := dk_42 (dk_at dksX5_inGrid_2 11 rfl rfl)
theorem dX5_inGrid_59 : decode cX5_inGrid 59 = .ok (.getfield 411, 3) := dk_180 1 155 (dk_at dksX5_inGrid_2 12 rfl rfl)
theorem dX5_inGrid_62 : decode cX5_inGrid 62 = .ok (.if_icmp .ne 5, 3) := dk_160 0 5 (dk_at dksX5_inGrid_2 15 rfl rfl)
theorem dX5_inGrid_65 : decode cX5_inGrid 65 = .ok (.iload_n 3, 1) := dk_29 (dk_at dksX5_inGrid_2 18 rfl rfl)
theorem dX5_inGrid_66 : decode cX5_inGrid 66 = .ok (.ireturn, 1) := dk_172 (dk_at dksX5_inGrid_2 19 rfl rfl)
theorem dX5_inGrid_67 : decode cX5_inGrid 67 = .ok (.iinc 3 1, 3) := dk_132 3 1 (dk_at dksX5_inGrid_2 20 rfl rfl)
theorem dX5_inGrid_70 : decode cX5_inGrid 70 = .ok (.goto (-37), 3) := dk_167 255 219 (dk_at dksX5_inGrid_3 0 rfl rfl)
theorem dX5_inGrid_73 : decode cX5_inGrid 73 = .ok (.iconst (-1), 1) := dk_2 (dk_at dksX5_inGrid_3 3 rfl rfl)
theorem dX5_inGrid_74 : decode cX5_inGrid 74 = .ok (.ireturn, 1) := dk_172 (dk_at dksX5_inGrid_3 4 rfl rfl)
def dkwX5_where_4 : List UInt8 := [132, 4, 1, 167, 255, 197, 28, 172]
abbrev dktX5_where_4 : List UInt8 := dkwX5_where_4 ++ []
def dkwX5_where_3 : List UInt8 := [153, 0, 23, 28, 2, 159, 0, 12, 21, 5, 29, 161, 0, 6, 167, 0, 9, 21, 4, 61, 21, 5, 62]
abbrev dktX5_where_3 : List UInt8 := dkwX5_where_3 ++ dktX5_where_4
def dkwX5_where_2 : List UInt8 := [21, 4, 27, 182, 1, 58, 154, 0, 6, 167, 0, 37, 42, 27, 21, 4, 182, 1, 197, 54, 5, 21, 5]
abbrev dktX5_where_2 : List UInt8 := dkwX5_where_2 ++ dktX5_where_3
def dkwX5_where_1 : List UInt8 := [16, 6, 3, 182, 1, 130, 2, 61, 3, 62, 3, 54, 4, 21, 4, 42, 180, 0, 243, 162, 0, 56, 42]
abbrev dktX5_where_1 : List UInt8 := dkwX5_where_1 ++ dktX5_where_2
def dkwX5_where_0 : List UInt8 := [42, 3, 181, 0, 1, 42, 27, 182, 1, 42, 153, 0, 10, 42, 182, 1, 124, 154, 0, 5, 2, 172, 42]
abbrev dktX5_where_0 : List UInt8 := dkwX5_where_0 ++ dktX5_where_1
theorem dksX5_where_0 : cX5_where.data.toList.drop 0 = dktX5_where_0 := by decide +kernel
theorem dksX5_where_1 : cX5_where.data.toList.drop 23 = dktX5_where_1 := dk_seg dksX5_where_0 23 rfl rfl
theorem dksX5_where_2 : cX5_where.data.toList.drop 46 = dktX5_where_2 := dk_seg dksX5_where_1 23 rfl rfl
theorem dksX5_where_3 : cX5_where.data.toList.drop 69 = dktX5_where_3 := dk_seg dksX5_where_2 23 rfl rfl
theorem dksX5_where_4 : cX5_where.data.toList.drop 92 = dktX5_where_4 := dk_seg dksX5_where_3 23 rfl rfl
theorem dX5_where_0 : decode cX5_where 0 = .ok (.aload_n 0, 1) := dk_42 (dk_at dksX5_where_0 0 rfl rfl)
theorem dX5_where_1 : decode cX5_where 1 = .ok (.iconst 0, 1) := dk_3 (dk_at dksX5_where_0 1 rfl rfl)
theorem dX5_where_2 : decode cX5_where 2 = .ok (.putfield 1, 3) := dk_181 0 1 (dk_at dksX5_where_0 2 rfl rfl)
theorem dX5_where_5 : decode cX5_where 5 = .ok (.aload_n 0, 1) := dk_42 (dk_at dksX5_where_0 5 rfl rfl)
theorem dX5_where_6 : decode cX5_where 6 = .ok (.iload_n 1, 1) := dk_27 (dk_at dksX5_where_0 6 rfl rfl)
theorem dX5_where_7 : decode cX5_where 7 = .ok (.invokevirtual 298, 3) := dk_182 1 42 (dk_at dksX5_where_0 7 rfl rfl)
theorem dX5_where_10 : decode cX5_where 10 = .ok (.ifCond .eq 10, 3) := dk_153 0 10 (dk_at dksX5_where_0 10 rfl rfl)
theorem dX5_where_13 : decode cX5_where 13 = .ok (.aload_n 0, 1) := dk_42 (dk_at dksX5_where_0 13 rfl rfl)
theorem dX5_where_14 : decode cX5_where 14 = .ok (.invokevirtual 380, 3) := dk_182 1 124 (dk_at dksX5_where_0 14 rfl rfl)
theorem dX5_where_17 : decode cX5_where 17 = .ok (.ifCond .ne 5, 3) := dk_154 0 5 (dk_at dksX5_where_0 17 rfl rfl)
theorem dX5_where_20 : decode cX5_where 20 = .ok (.iconst (-1), 1) := dk_2 (dk_at dksX5_where_0 20 rfl rfl)
theorem dX5_where_21 : decode cX5_where 21 = .ok (.ireturn, 1) := dk_172 (dk_at dksX5_where_0 21 rfl rfl)
theorem dX5_where_22 : decode cX5_where 22 = .ok (.aload_n 0, 1) := dk_42 (dk_at dksX5_where_0 22 rfl rfl)
theorem dX5_where_23 : decode cX5_where 23 = .ok (.bipush 6, 2) := dk_16 6 (dk_at dksX5_where_1 0 rfl rfl)
theorem dX5_where_25 : decode cX5_where 25 = .ok (.iconst 0, 1) := dk_3 (dk_at dksX5_where_1 2 rfl rfl)
theorem dX5_where_26 : decode cX5_where 26 = .ok (.invokevirtual 386, 3) := dk_182 1 130 (dk_at dksX5_where_1 3 rfl rfl)
theorem dX5_where_29 : decode cX5_where 29 = .ok (.iconst (-1), 1) := dk_2 (dk_at dksX5_where_1 6 rfl rfl)
theorem dX5_where_30 : decode cX5_where 30 = .ok (.istore_n 2, 1) := dk_61 (dk_at dksX5_where_1 7 rfl rfl)
theorem dX5_where_31 : decode cX5_where 31 = .ok (.iconst 0, 1) := dk_3 (dk_at dksX5_where_1 8 rfl rfl)
theorem dX5_where_32 : decode cX5_where 32 = .ok (.istore_n 3, 1) := dk_62 (dk_at dksX5_where_1 9 rfl rfl)
theorem dX5_where_33 : decode cX5_where 33 = .ok (.iconst 0, 1) := dk_3 (dk_at dksX5_where_1 10 rfl rfl)
theorem dX5_where_34 : decode cX5_where 34 = .ok (.istore 4, 2) := dk_54 4 (dk_at dksX5_where_1 11 rfl rfl)
theorem dX5_where_36 : decode cX5_where 36 = .ok (.iload 4, 2) := dk_21 4 (dk_at dksX5_where_1 13 rfl rfl)
theorem dX5_where_38 : decode cX5_where 38 = .ok (.aload_n 0, 1) := dk_42 (dk_at dksX5_where_1 15 rfl rfl)
theorem dX5_where_39 : decode cX5_where 39 = .ok (.getfield 243, 3) := dk_180 0 243 (dk_at dksX5_where_1 16 rfl rfl)
theorem dX5_where_42 : decode cX5_where 42 = .ok (.if_icmp .ge 56, 3) := dk_162 0 56 (dk_at dksX5_where_1 19 rfl rfl)
theorem dX5_where_45 : decode cX5_where 45 = .ok (.aload_n 0, 1) := dk_42 (dk_at dksX5_where_1 22 rfl rfl)
theorem dX5_where_46 : decode cX5_where 46 = .ok (.iload 4, 2) := dk_21 4 (dk_at dksX5_where_2 0 rfl rfl)
theorem dX5_where_48 : decode cX5_where 48 = .ok (.iload_n 1, 1) := dk_27 (dk_at dksX5_where_2 2 rfl rfl)
theorem dX5_where_49 : decode cX5_where 49 = .ok (.invokevirtual 314, 3) := dk_182 1 58 (dk_at dksX5_where_2 3 rfl rfl)
theorem dX5_where_52 : decode cX5_where 52 = .ok (.ifCond .ne 6, 3) := dk_154 0 6 (dk_at dksX5_where_2 6 rfl rfl)
theorem dX5_where_55 : decode cX5_where 55 = .ok (.goto 37, 3) := dk_167 0 37 (dk_at dksX5_where_2 9 rfl rfl)
theorem dX5_where_58 : decode cX5_where 58 = .ok (.aload_n 0, 1) := dk_42 (dk_at dksX5_where_2 12 rfl rfl)
theorem dX5_where_59 : decode cX5_where 59 = .ok (.iload_n 1, 1) := dk_27 (dk_at dksX5_where_2 13 rfl rfl)
theorem dX5_where_60 : decode cX5_where 60 = .ok (.iload 4, 2) := dk_21 4 (dk_at dksX5_where_2 14 rfl rfl)
theorem dX5_where_62 : decode cX5_where 62 = .ok (.invokevirtual 453, 3) := dk_182 1 197 (dk_at dksX5_where_2 16 rfl rfl)
theorem dX5_where_65 : decode cX5_where 65 = .ok (.istore 5, 2) := dk_54 5 (dk_at dksX5_where_2 19 rfl rfl)
theorem dX5_where_67 : decode cX5_where 67 = .ok (.iload 5, 2) := dk_21 5 (dk_at dksX5_where_2 21 rfl rfl)
theorem dX5_where_69 : decode cX5_where 69 = .ok (.ifCond .eq 23, 3) := dk_153 0 23 (dk_at dksX5_where_3 0 rfl rfl)
theorem dX5_where_72 : decode cX5_where 72 = .ok (.iload_n 2, 1) := dk_28 (dk_at dksX5_where_3 3 rfl rfl)
theorem dX5_where_73 : decode cX5_where 73 = .ok (.iconst (-1), 1) := dk_2 (dk_at dksX5_where_3 4 rfl rfl)
theorem dX5_where_74 : decode cX5_where 74 = .ok (.if_icmp .eq 12, 3) := dk_159 0 12 (dk_at dksX5_where_3 5 rfl rfl)
theorem dX5_where_77 : decode cX5_where 77 = .ok (.iload 5, 2) := dk_21 5 (dk_at dksX5_where_3 8 rfl rfl)
theorem dX5_where_79 : decode cX5_where 79 = .ok (.iload_n 3, 1) := dk_29 (dk_at dksX5_where_3 10 rfl rfl)
theorem dX5_where_80 : decode cX5_where 80 = .ok (.if_icmp .lt 6, 3) := dk_161 0 6 (dk_at dksX5_where_3 11 rfl rfl)
theorem dX5_where_83 : decode cX5_where 83 = .ok (.goto 9, 3) := dk_167 0 9 (dk_at dksX5_where_3 14 rfl rfl)
theorem dX5_where_86 : decode cX5_where 86 = .ok (.iload 4, 2) := dk_21 4 (dk_at dksX5_where_3 17 rfl rfl)
theorem dX5_where_88 : decode cX5_where 88 = .ok (.istore_n 2, 1) := dk_61 (dk_at dksX5_where_3 19 rfl rfl)
theorem dX5_where_89 : decode cX5_where 89 = .ok (.iload 5, 2) := dk_21 5 (dk_at dksX5_where_3 20 rfl rfl)
theorem dX5_where_91 : decode cX5_where 91 = .ok (.istore_n 3, 1) := dk_62 (dk_at dksX5_where_3 22 rfl rfl)
theorem dX5_where_92 : decode cX5_where 92 = .ok (.iinc 4 1, 3) := dk_132 4 1 (dk_at dksX5_where_4 0 rfl rfl)
theorem dX5_where_95 : decode cX5_where 95 = .ok (.goto (-59), 3) := dk_167 255 197 (dk_at dksX5_where_4 3 rfl rfl)
theorem dX5_where_98 : decode cX5_where 98 = .ok (.iload_n 2, 1) := dk_28 (dk_at dksX5_where_4 6 rfl rfl)
theorem dX5_where_99 : decode cX5_where 99 = .ok (.ireturn, 1) := dk_172 (dk_at dksX5_where_4 7 rfl rfl)
def dkwX5_often_2 : List UInt8 := [182, 1, 203, 172]
abbrev dktX5_often_2 : List UInt8 := dkwX5_often_2 ++ []
def dkwX5_often_1 : List UInt8 := [184, 0, 169, 154, 0, 5, 2, 172, 42, 28, 182, 1, 45, 42, 42, 180, 0, 72, 27, 46, 28, 29]
abbrev dktX5_often_1 : List UInt8 := dkwX5_often_1 ++ dktX5_often_2
def dkwX5_often_0 : List UInt8 := [42, 3, 181, 0, 1, 27, 184, 1, 32, 153, 0, 20, 42, 28, 182, 1, 42, 153, 0, 12, 29, 3, 7]
abbrev dktX5_often_0 : List UInt8 := dkwX5_often_0 ++ dktX5_often_1
theorem dksX5_often_0 : cX5_often.data.toList.drop 0 = dktX5_often_0 := by decide +kernel
theorem dksX5_often_1 : cX5_often.data.toList.drop 23 = dktX5_often_1 := dk_seg dksX5_often_0 23 rfl rfl
theorem dksX5_often_2 : cX5_often.data.toList.drop 45 = dktX5_often_2 := dk_seg dksX5_often_1 22 rfl rfl
theorem dX5_often_0 : decode cX5_often 0 = .ok (.aload_n 0, 1) := dk_42 (dk_at dksX5_often_0 0 rfl rfl)
theorem dX5_often_1 : decode cX5_often 1 = .ok (.iconst 0, 1) := dk_3 (dk_at dksX5_often_0 1 rfl rfl)
theorem dX5_often_2 : decode cX5_often 2 = .ok (.putfield 1, 3) := dk_181 0 1 (dk_at dksX5_often_0 2 rfl rfl)
theorem dX5_often_5 : decode cX5_often 5 = .ok (.iload_n 1, 1) := dk_27 (dk_at dksX5_often_0 5 rfl rfl)
theorem dX5_often_6 : decode cX5_often 6 = .ok (.invokestatic 288, 3) := dk_184 1 32 (dk_at dksX5_often_0 6 rfl rfl)
theorem dX5_often_9 : decode cX5_often 9 = .ok (.ifCond .eq 20, 3) := dk_153 0 20 (dk_at dksX5_often_0 9 rfl rfl)
theorem dX5_often_12 : decode cX5_often 12 = .ok (.aload_n 0, 1) := dk_42 (dk_at dksX5_often_0 12 rfl rfl)
theorem dX5_often_13 : decode cX5_often 13 = .ok (.iload_n 2, 1) := dk_28 (dk_at dksX5_often_0 13 rfl rfl)
theorem dX5_often_14 : decode cX5_often 14 = .ok (.invokevirtual 298, 3) := dk_182 1 42 (dk_at dksX5_often_0 14 rfl rfl)
theorem dX5_often_17 : decode cX5_often 17 = .ok (.ifCond .eq 12, 3) := dk_153 0 12 (dk_at dksX5_often_0 17 rfl rfl)
theorem dX5_often_20 : decode cX5_often 20 = .ok (.iload_n 3, 1) := dk_29 (dk_at dksX5_often_0 20 rfl rfl)
theorem dX5_often_21 : decode cX5_often 21 = .ok (.iconst 0, 1) := dk_3 (dk_at dksX5_often_0 21 rfl rfl)
theorem dX5_often_22 : decode cX5_often 22 = .ok (.iconst 4, 1) := dk_7 (dk_at dksX5_often_0 22 rfl rfl)
theorem dX5_often_23 : decode cX5_often 23 = .ok (.invokestatic 169, 3) := dk_184 0 169 (dk_at dksX5_often_1 0 rfl rfl)
theorem dX5_often_26 : decode cX5_often 26 = .ok (.ifCond .ne 5, 3) := dk_154 0 5 (dk_at dksX5_often_1 3 rfl rfl)
theorem dX5_often_29 : decode cX5_often 29 = .ok (.iconst (-1), 1) := dk_2 (dk_at dksX5_often_1 6 rfl rfl)
theorem dX5_often_30 : decode cX5_often 30 = .ok (.ireturn, 1) := dk_172 (dk_at dksX5_often_1 7 rfl rfl)
theorem dX5_often_31 : decode cX5_often 31 = .ok (.aload_n 0, 1) := dk_42 (dk_at dksX5_often_1 8 rfl rfl)
theorem dX5_often_32 : decode cX5_often 32 = .ok (.iload_n 2, 1) := dk_28 (dk_at dksX5_often_1 9 rfl rfl)
theorem dX5_often_33 : decode cX5_often 33 = .ok (.invokevirtual 301, 3) := dk_182 1 45 (dk_at dksX5_often_1 10 rfl rfl)
theorem dX5_often_36 : decode cX5_often 36 = .ok (.aload_n 0, 1) := dk_42 (dk_at dksX5_often_1 13 rfl rfl)
theorem dX5_often_37 : decode cX5_often 37 = .ok (.aload_n 0, 1) := dk_42 (dk_at dksX5_often_1 14 rfl rfl)
theorem dX5_often_38 : decode cX5_often 38 = .ok (.getfield 72, 3) := dk_180 0 72 (dk_at dksX5_often_1 15 rfl rfl)
theorem dX5_often_41 : decode cX5_often 41 = .ok (.iload_n 1, 1) := dk_27 (dk_at dksX5_often_1 18 rfl rfl)
theorem dX5_often_42 : decode cX5_often 42 = .ok (.iaload, 1) := dk_46 (dk_at dksX5_often_1 19 rfl rfl)
theorem dX5_often_43 : decode cX5_often 43 = .ok (.iload_n 2, 1) := dk_28 (dk_at dksX5_often_1 20 rfl rfl)
theorem dX5_often_44 : decode cX5_often 44 = .ok (.iload_n 3, 1) := dk_29 (dk_at dksX5_often_1 21 rfl rfl)
theorem dX5_often_45 : decode cX5_often 45 = .ok (.invokevirtual 459, 3) := dk_182 1 203 (dk_at dksX5_often_2 0 rfl rfl)
theorem dX5_often_48 : decode cX5_often 48 = .ok (.ireturn, 1) := dk_172 (dk_at dksX5_often_2 3 rfl rfl)
def dkwX5_oftenOf_7 : List UInt8 := [132, 6, 1, 167, 255, 147, 132, 5, 1, 167, 255, 92, 21, 4, 172]
abbrev dktX5_oftenOf_7 : List UInt8 := dkwX5_oftenOf_7 ++ []
def dkwX5_oftenOf_6 : List UInt8 := [160, 0, 7, 4, 167, 0, 4, 6, 54, 8, 29, 7, 159, 0, 9, 21, 8, 29, 160, 0, 6, 132, 4, 1]
abbrev dktX5_oftenOf_6 : List UInt8 := dkwX5_oftenOf_6 ++ dktX5_oftenOf_7
def dkwX5_oftenOf_5 : List UInt8 := [167, 0, 31, 21, 6, 154, 0, 7, 3, 167, 0, 22, 21, 6, 42, 180, 0, 23, 21, 5, 46, 4, 100]
abbrev dktX5_oftenOf_5 : List UInt8 := dkwX5_oftenOf_5 ++ dktX5_oftenOf_6
def dkwX5_oftenOf_4 : List UInt8 := [21, 7, 46, 27, 159, 0, 6, 167, 0, 62, 42, 180, 0, 23, 21, 5, 46, 4, 160, 0, 7, 5]
abbrev dktX5_oftenOf_4 : List UInt8 := dkwX5_oftenOf_4 ++ dktX5_oftenOf_5
def dkwX5_oftenOf_3 : List UInt8 := [180, 0, 26, 16, 6, 21, 5, 104, 21, 6, 96, 46, 54, 7, 21, 7, 2, 159, 0, 76, 42, 180, 0, 72]
abbrev dktX5_oftenOf_3 : List UInt8 := dkwX5_oftenOf_3 ++ dktX5_oftenOf_4
def dkwX5_oftenOf_2 : List UInt8 := [154, 0, 6, 167, 0, 118, 3, 54, 6, 21, 6, 42, 180, 0, 23, 21, 5, 46, 162, 0, 103, 42]
abbrev dktX5_oftenOf_2 : List UInt8 := dkwX5_oftenOf_2 ++ dktX5_oftenOf_3
def dkwX5_oftenOf_1 : List UInt8 := [180, 0, 20, 21, 5, 16, 8, 108, 46, 162, 0, 134, 42, 21, 5, 16, 8, 108, 28, 182, 1, 58]
abbrev dktX5_oftenOf_1 : List UInt8 := dkwX5_oftenOf_1 ++ dktX5_oftenOf_2
def dkwX5_oftenOf_0 : List UInt8 := [3, 54, 4, 3, 54, 5, 21, 5, 16, 8, 42, 180, 0, 243, 104, 162, 0, 158, 21, 5, 16, 8, 112, 42]
abbrev dktX5_oftenOf_0 : List UInt8 := dkwX5_oftenOf_0 ++ dktX5_oftenOf_1
theorem dksX5_oftenOf_0 : cX5_oftenOf.data.toList.drop 0 = dktX5_oftenOf_0 := by decide +kernel
theorem dksX5_oftenOf_1 : cX5_oftenOf.data.toList.drop 24 = dktX5_oftenOf_1 := dk_seg dksX5_oftenOf_0 24 rfl rfl
theorem dksX5_oftenOf_2 : cX5_oftenOf.data.toList.drop 46 = dktX5_oftenOf_2 := dk_seg dksX5_oftenOf_1 22 rfl rfl
theorem dksX5_oftenOf_3 : cX5_oftenOf.data.toList.drop 68 = dktX5_oftenOf_3 := dk_seg dksX5_oftenOf_2 22 rfl rfl
theorem dksX5_oftenOf_4 : cX5_oftenOf.data.toList.drop 92 = dktX5_oftenOf_4 := dk_seg dksX5_oftenOf_3 24 rfl rfl
theorem dksX5_oftenOf_5 : cX5_oftenOf.data.toList.drop 114 = dktX5_oftenOf_5 := dk_seg dksX5_oftenOf_4 22 rfl rfl
theorem dksX5_oftenOf_6 : cX5_oftenOf.data.toList.drop 137 = dktX5_oftenOf_6 := dk_seg dksX5_oftenOf_5 23 rfl rfl
theorem dksX5_oftenOf_7 : cX5_oftenOf.data.toList.drop 161 = dktX5_oftenOf_7 := dk_seg dksX5_oftenOf_6 24 rfl rfl
theorem dX5_oftenOf_0 : decode cX5_oftenOf 0 = .ok (.iconst 0, 1) := dk_3 (dk_at dksX5_oftenOf_0 0 rfl rfl)
theorem dX5_oftenOf_1 : decode cX5_oftenOf 1 = .ok (.istore 4, 2) := dk_54 4 (dk_at dksX5_oftenOf_0 1 rfl rfl)
theorem dX5_oftenOf_3 : decode cX5_oftenOf 3 = .ok (.iconst 0, 1) := dk_3 (dk_at dksX5_oftenOf_0 3 rfl rfl)
theorem dX5_oftenOf_4 : decode cX5_oftenOf 4 = .ok (.istore 5, 2) := dk_54 5 (dk_at dksX5_oftenOf_0 4 rfl rfl)
theorem dX5_oftenOf_6 : decode cX5_oftenOf 6 = .ok (.iload 5, 2) := dk_21 5 (dk_at dksX5_oftenOf_0 6 rfl rfl)
theorem dX5_oftenOf_8 : decode cX5_oftenOf 8 = .ok (.bipush 8, 2) := dk_16 8 (dk_at dksX5_oftenOf_0 8 rfl rfl)
theorem dX5_oftenOf_10 : decode cX5_oftenOf 10 = .ok (.aload_n 0, 1) := dk_42 (dk_at dksX5_oftenOf_0 10 rfl rfl)
theorem dX5_oftenOf_11 : decode cX5_oftenOf 11 = .ok (.getfield 243, 3) := dk_180 0 243 (dk_at dksX5_oftenOf_0 11 rfl rfl)
theorem dX5_oftenOf_14 : decode cX5_oftenOf 14 = .ok (.imul, 1) := dk_104 (dk_at dksX5_oftenOf_0 14 rfl rfl)
theorem dX5_oftenOf_15 : decode cX5_oftenOf 15 = .ok (.if_icmp .ge 158, 3) := dk_162 0 158 (dk_at dksX5_oftenOf_0 15 rfl rfl)
theorem dX5_oftenOf_18 : decode cX5_oftenOf 18 = .ok (.iload 5, 2) := dk_21 5 (dk_at dksX5_oftenOf_0 18 rfl rfl)
theorem dX5_oftenOf_20 : decode cX5_oftenOf 20 = .ok (.bipush 8, 2) := dk_16 8 (dk_at dksX5_oftenOf_0 20 rfl rfl)
theorem dX5_oftenOf_22 : decode cX5_oftenOf 22 = .ok (.irem, 1) := dk_112 (dk_at dksX5_oftenOf_0 22 rfl rfl)
theorem dX5_oftenOf_23 : decode cX5_oftenOf 23 = .ok (.aload_n 0, 1) := dk_42 (dk_at dksX5_oftenOf_0 23 rfl rfl)
theorem dX5_oftenOf_24 : decode cX5_oftenOf 24 = .ok (.getfield 20, 3) := dk_180 0 20 (dk_at dksX5_oftenOf_1 0 rfl rfl)
theorem dX5_oftenOf_27 : decode cX5_oftenOf 27 = .ok (.iload 5, 2) := dk_21 5 (dk_at dksX5_oftenOf_1 3 rfl rfl)
theorem dX5_oftenOf_29 : decode cX5_oftenOf 29 = .ok (.bipush 8, 2) := dk_16 8 (dk_at dksX5_oftenOf_1 5 rfl rfl)
theorem dX5_oftenOf_31 : decode cX5_oftenOf 31 = .ok (.idiv, 1) := dk_108 (dk_at dksX5_oftenOf_1 7 rfl rfl)
theorem dX5_oftenOf_32 : decode cX5_oftenOf 32 = .ok (.iaload, 1) := dk_46 (dk_at dksX5_oftenOf_1 8 rfl rfl)
theorem dX5_oftenOf_33 : decode cX5_oftenOf 33 = .ok (.if_icmp .ge 134, 3) := dk_162 0 134 (dk_at dksX5_oftenOf_1 9 rfl rfl)
theorem dX5_oftenOf_36 : decode cX5_oftenOf 36 = .ok (.aload_n 0, 1) := dk_42 (dk_at dksX5_oftenOf_1 12 rfl rfl)
theorem dX5_oftenOf_37 : decode cX5_oftenOf 37 = .ok (.iload 5, 2) := dk_21 5 (dk_at dksX5_oftenOf_1 13 rfl rfl)
theorem dX5_oftenOf_39 : decode cX5_oftenOf 39 = .ok (.bipush 8, 2) := dk_16 8 (dk_at dksX5_oftenOf_1 15 rfl rfl)
theorem dX5_oftenOf_41 : decode cX5_oftenOf 41 = .ok (.idiv, 1) := dk_108 (dk_at dksX5_oftenOf_1 17 rfl rfl)
theorem dX5_oftenOf_42 : decode cX5_oftenOf 42 = .ok (.iload_n 2, 1) := dk_28 (dk_at dksX5_oftenOf_1 18 rfl rfl)
theorem dX5_oftenOf_43 : decode cX5_oftenOf 43 = .ok (.invokevirtual 314, 3) := dk_182 1 58 (dk_at dksX5_oftenOf_1 19 rfl rfl)
theorem dX5_oftenOf_46 : decode cX5_oftenOf 46 = .ok (.ifCond .ne 6, 3) := dk_154 0 6 (dk_at dksX5_oftenOf_2 0 rfl rfl)
theorem dX5_oftenOf_49 : decode cX5_oftenOf 49 = .ok (.goto 118, 3) := dk_167 0 118 (dk_at dksX5_oftenOf_2 3 rfl rfl)
theorem dX5_oftenOf_52 : decode cX5_oftenOf 52 = .ok (.iconst 0, 1) := dk_3 (dk_at dksX5_oftenOf_2 6 rfl rfl)
theorem dX5_oftenOf_53 : decode cX5_oftenOf 53 = .ok (.istore 6, 2) := dk_54 6 (dk_at dksX5_oftenOf_2 7 rfl rfl)
theorem dX5_oftenOf_55 : decode cX5_oftenOf 55 = .ok (.iload 6, 2) := dk_21 6 (dk_at dksX5_oftenOf_2 9 rfl rfl)
theorem dX5_oftenOf_57 : decode cX5_oftenOf 57 = .ok (.aload_n 0, 1) := dk_42 (dk_at dksX5_oftenOf_2 11 rfl rfl)
theorem dX5_oftenOf_58 : decode cX5_oftenOf 58 = .ok (.getfield 23, 3) := dk_180 0 23 (dk_at dksX5_oftenOf_2 12 rfl rfl)
theorem dX5_oftenOf_61 : decode cX5_oftenOf 61 = .ok (.iload 5, 2) := dk_21 5 (dk_at dksX5_oftenOf_2 15 rfl rfl)
theorem dX5_oftenOf_63 : decode cX5_oftenOf 63 = .ok (.iaload, 1) := dk_46 (dk_at dksX5_oftenOf_2 17 rfl rfl)
theorem dX5_oftenOf_64 : decode cX5_oftenOf 64 = .ok (.if_icmp .ge 103, 3) := dk_162 0 103 (dk_at dksX5_oftenOf_2 18 rfl rfl)
theorem dX5_oftenOf_67 : decode cX5_oftenOf 67 = .ok (.aload_n 0, 1) := dk_42 (dk_at dksX5_oftenOf_2 21 rfl rfl)
theorem dX5_oftenOf_68 : decode cX5_oftenOf 68 = .ok (.getfield 26, 3) := dk_180 0 26 (dk_at dksX5_oftenOf_3 0 rfl rfl)
theorem dX5_oftenOf_71 : decode cX5_oftenOf 71 = .ok (.bipush 6, 2) := dk_16 6 (dk_at dksX5_oftenOf_3 3 rfl rfl)
theorem dX5_oftenOf_73 : decode cX5_oftenOf 73 = .ok (.iload 5, 2) := dk_21 5 (dk_at dksX5_oftenOf_3 5 rfl rfl)
theorem dX5_oftenOf_75 : decode cX5_oftenOf 75 = .ok (.imul, 1) := dk_104 (dk_at dksX5_oftenOf_3 7 rfl rfl)
theorem dX5_oftenOf_76 : decode cX5_oftenOf 76 = .ok (.iload 6, 2) := dk_21 6 (dk_at dksX5_oftenOf_3 8 rfl rfl)
theorem dX5_oftenOf_78 : decode cX5_oftenOf 78 = .ok (.iadd, 1) := dk_96 (dk_at dksX5_oftenOf_3 10 rfl rfl)
theorem dX5_oftenOf_79 : decode cX5_oftenOf 79 = .ok (.iaload, 1) := dk_46 (dk_at dksX5_oftenOf_3 11 rfl rfl)
theorem dX5_oftenOf_80 : decode cX5_oftenOf 80 = .ok (.istore 7, 2) := dk_54 7 (dk_at dksX5_oftenOf_3 12 rfl rfl)
theorem dX5_oftenOf_82 : decode cX5_oftenOf 82 = .ok (.iload 7, 2) := dk_21 7 (dk_at dksX5_oftenOf_3 14 rfl rfl)
theorem dX5_oftenOf_84 : decode cX5_oftenOf 84 = .ok (.iconst (-1), 1) := dk_2 (dk_at dksX5_oftenOf_3 16 rfl rfl)
theorem dX5_oftenOf_85 : decode cX5_oftenOf 85 = .ok (.if_icmp .eq 76, 3) := dk_159 0 76 (dk_at dksX5_oftenOf_3 17 rfl rfl)
theorem dX5_oftenOf_88 : decode cX5_oftenOf 88 = .ok (.aload_n 0, 1) := dk_42 (dk_at dksX5_oftenOf_3 20 rfl rfl)
theorem dX5_oftenOf_89 : decode cX5_oftenOf 89 = .ok (.getfield 72, 3) := dk_180 0 72 (dk_at dksX5_oftenOf_3 21 rfl rfl)
theorem dX5_oftenOf_92 : decode cX5_oftenOf 92 = .ok (.iload 7, 2) := dk_21 7 (dk_at dksX5_oftenOf_4 0 rfl rfl)
theorem dX5_oftenOf_94 : decode cX5_oftenOf 94 = .ok (.iaload, 1) := dk_46 (dk_at dksX5_oftenOf_4 2 rfl rfl)
theorem dX5_oftenOf_95 : decode cX5_oftenOf 95 = .ok (.iload_n 1, 1) := dk_27 (dk_at dksX5_oftenOf_4 3 rfl rfl)
theorem dX5_oftenOf_96 : decode cX5_oftenOf 96 = .ok (.if_icmp .eq 6, 3) := dk_159 0 6 (dk_at dksX5_oftenOf_4 4 rfl rfl)
theorem dX5_oftenOf_99 : decode cX5_oftenOf 99 = .ok (.goto 62, 3) := dk_167 0 62 (dk_at dksX5_oftenOf_4 7 rfl rfl)
theorem dX5_oftenOf_102 : decode cX5_oftenOf 102 = .ok (.aload_n 0, 1) := dk_42 (dk_at dksX5_oftenOf_4 10 rfl rfl)
theorem dX5_oftenOf_103 : decode cX5_oftenOf 103 = .ok (.getfield 23, 3) := dk_180 0 23 (dk_at dksX5_oftenOf_4 11 rfl rfl)
theorem dX5_oftenOf_106 : decode cX5_oftenOf 106 = .ok (.iload 5, 2) := dk_21 5 (dk_at dksX5_oftenOf_4 14 rfl rfl)
theorem dX5_oftenOf_108 : decode cX5_oftenOf 108 = .ok (.iaload, 1) := dk_46 (dk_at dksX5_oftenOf_4 16 rfl rfl)
theorem dX5_oftenOf_109 : decode cX5_oftenOf 109 = .ok (.iconst 1, 1) := dk_4 (dk_at dksX5_oftenOf_4 17 rfl rfl)
theorem dX5_oftenOf_110 : decode cX5_oftenOf 110 = .ok (.if_icmp .ne 7, 3) := dk_160 0 7 (dk_at dksX5_oftenOf_4 18 rfl rfl)
theorem dX5_oftenOf_113 : decode cX5_oftenOf 113 = .ok (.iconst 2, 1) := dk_5 (dk_at dksX5_oftenOf_4 21 rfl rfl)
theorem dX5_oftenOf_114 : decode cX5_oftenOf 114 = .ok (.goto 31, 3) := dk_167 0 31 (dk_at dksX5_oftenOf_5 0 rfl rfl)
theorem dX5_oftenOf_117 : decode cX5_oftenOf 117 = .ok (.iload 6, 2) := dk_21 6 (dk_at dksX5_oftenOf_5 3 rfl rfl)
theorem dX5_oftenOf_119 : decode cX5_oftenOf 119 = .ok (.ifCond .ne 7, 3) := dk_154 0 7 (dk_at dksX5_oftenOf_5 5 rfl rfl)
theorem dX5_oftenOf_122 : decode cX5_oftenOf 122 = .ok (.iconst 0, 1) := dk_3 (dk_at dksX5_oftenOf_5 8 rfl rfl)
theorem dX5_oftenOf_123 : decode cX5_oftenOf 123 = .ok (.goto 22, 3) := dk_167 0 22 (dk_at dksX5_oftenOf_5 9 rfl rfl)
theorem dX5_oftenOf_126 : decode cX5_oftenOf 126 = .ok (.iload 6, 2) := dk_21 6 (dk_at dksX5_oftenOf_5 12 rfl rfl)
theorem dX5_oftenOf_128 : decode cX5_oftenOf 128 = .ok (.aload_n 0, 1) := dk_42 (dk_at dksX5_oftenOf_5 14 rfl rfl)
theorem dX5_oftenOf_129 : decode cX5_oftenOf 129 = .ok (.getfield 23, 3) := dk_180 0 23 (dk_at dksX5_oftenOf_5 15 rfl rfl)
theorem dX5_oftenOf_132 : decode cX5_oftenOf 132 = .ok (.iload 5, 2) := dk_21 5 (dk_at dksX5_oftenOf_5 18 rfl rfl)
theorem dX5_oftenOf_134 : decode cX5_oftenOf 134 = .ok (.iaload, 1) := dk_46 (dk_at dksX5_oftenOf_5 20 rfl rfl)
theorem dX5_oftenOf_135 : decode cX5_oftenOf 135 = .ok (.iconst 1, 1) := dk_4 (dk_at dksX5_oftenOf_5 21 rfl rfl)
theorem dX5_oftenOf_136 : decode cX5_oftenOf 136 = .ok (.isub, 1) := dk_100 (dk_at dksX5_oftenOf_5 22 rfl rfl)
theorem dX5_oftenOf_137 : decode cX5_oftenOf 137 = .ok (.if_icmp .ne 7, 3) := dk_160 0 7 (dk_at dksX5_oftenOf_6 0 rfl rfl)
theorem dX5_oftenOf_140 : decode cX5_oftenOf 140 = .ok (.iconst 1, 1) := dk_4 (dk_at dksX5_oftenOf_6 3 rfl rfl)
theorem dX5_oftenOf_141 : decode cX5_oftenOf 141 = .ok (.goto 4, 3) := dk_167 0 4 (dk_at dksX5_oftenOf_6 4 rfl rfl)
theorem dX5_oftenOf_144 : decode cX5_oftenOf 144 = .ok (.iconst 3, 1) := dk_6 (dk_at dksX5_oftenOf_6 7 rfl rfl)
theorem dX5_oftenOf_145 : decode cX5_oftenOf 145 = .ok (.istore 8, 2) := dk_54 8 (dk_at dksX5_oftenOf_6 8 rfl rfl)
theorem dX5_oftenOf_147 : decode cX5_oftenOf 147 = .ok (.iload_n 3, 1) := dk_29 (dk_at dksX5_oftenOf_6 10 rfl rfl)
theorem dX5_oftenOf_148 : decode cX5_oftenOf 148 = .ok (.iconst 4, 1) := dk_7 (dk_at dksX5_oftenOf_6 11 rfl rfl)
theorem dX5_oftenOf_149 : decode cX5_oftenOf 149 = .ok (.if_icmp .eq 9, 3) := dk_159 0 9 (dk_at dksX5_oftenOf_6 12 rfl rfl)
theorem dX5_oftenOf_152 : decode cX5_oftenOf 152 = .ok (.iload 8, 2) := dk_21 8 (dk_at dksX5_oftenOf_6 15 rfl rfl)
theorem dX5_oftenOf_154 : decode cX5_oftenOf 154 = .ok (.iload_n 3, 1) := dk_29 (dk_at dksX5_oftenOf_6 17 rfl rfl)
theorem dX5_oftenOf_155 : decode cX5_oftenOf 155 = .ok (.if_icmp .ne 6, 3) := dk_160 0 6 (dk_at dksX5_oftenOf_6 18 rfl rfl)
theorem dX5_oftenOf_158 : decode cX5_oftenOf 158 = .ok (.iinc 4 1, 3) := dk_132 4 1 (dk_at dksX5_oftenOf_6 21 rfl rfl)
theorem dX5_oftenOf_161 : decode cX5_oftenOf 161 = .ok (.iinc 6 1, 3) := dk_132 6 1 (dk_at dksX5_oftenOf_7 0 rfl rfl)
theorem dX5_oftenOf_164 : decode cX5_oftenOf 164 = .ok (.goto (-109), 3) := dk_167 255 147 (dk_at dksX5_oftenOf_7 3 rfl rfl)
theorem dX5_oftenOf_167 : decode cX5_oftenOf 167 = .ok (.iinc 5 1, 3) := dk_132 5 1 (dk_at dksX5_oftenOf_7 6 rfl rfl)
theorem dX5_oftenOf_170 : decode cX5_oftenOf 170 = .ok (.goto (-164), 3) := dk_167 255 92 (dk_at dksX5_oftenOf_7 9 rfl rfl)
theorem dX5_oftenOf_173 : decode cX5_oftenOf 173 = .ok (.iload 4, 2) := dk_21 4 (dk_at dksX5_oftenOf_7 12 rfl rfl)
theorem dX5_oftenOf_175 : decode cX5_oftenOf 175 = .ok (.ireturn, 1) := dk_172 (dk_at dksX5_oftenOf_7 14 rfl rfl)
def dkwX5_rank_6 : List UInt8 := [21, 6, 28, 160, 0, 5, 29, 172, 132, 3, 1, 167, 255, 133, 2, 172]
abbrev dktX5_rank_6 : List UInt8 := dkwX5_rank_6 ++ []
def dkwX5_rank_5 : List UInt8 := [155, 0, 14, 21, 8, 154, 0, 12, 21, 7, 29, 162, 0, 6, 132, 6, 1, 132, 7, 1, 167, 255, 185]
abbrev dktX5_rank_5 : List UInt8 := dkwX5_rank_5 ++ dktX5_rank_6
def dkwX5_rank_4 : List UInt8 := [104, 100, 54, 8, 21, 7, 29, 159, 0, 33, 42, 21, 7, 27, 7, 182, 1, 203, 158, 0, 22, 21, 8]
abbrev dktX5_rank_4 : List UInt8 := dkwX5_rank_4 ++ dktX5_rank_5
def dkwX5_rank_3 : List UInt8 := [162, 0, 70, 21, 5, 42, 21, 7, 27, 7, 182, 1, 203, 104, 42, 21, 7, 27, 3, 182, 1, 203, 21, 4]
abbrev dktX5_rank_3 : List UInt8 := dkwX5_rank_3 ++ dktX5_rank_4
def dkwX5_rank_2 : List UInt8 := [167, 0, 100, 42, 29, 27, 3, 182, 1, 203, 54, 5, 3, 54, 6, 3, 54, 7, 21, 7, 16, 40]
abbrev dktX5_rank_2 : List UInt8 := dkwX5_rank_2 ++ dktX5_rank_3
def dkwX5_rank_1 : List UInt8 := [3, 62, 29, 16, 40, 162, 0, 123, 42, 29, 27, 7, 182, 1, 203, 54, 4, 21, 4, 154, 0, 6]
abbrev dktX5_rank_1 : List UInt8 := dkwX5_rank_1 ++ dktX5_rank_2
def dkwX5_rank_0 : List UInt8 := [42, 3, 181, 0, 1, 42, 27, 182, 1, 42, 153, 0, 7, 28, 156, 0, 5, 2, 172, 42, 27, 182, 1, 45]
abbrev dktX5_rank_0 : List UInt8 := dkwX5_rank_0 ++ dktX5_rank_1
theorem dksX5_rank_0 : cX5_rank.data.toList.drop 0 = dktX5_rank_0 := by decide +kernel
theorem dksX5_rank_1 : cX5_rank.data.toList.drop 24 = dktX5_rank_1 := dk_seg dksX5_rank_0 24 rfl rfl
theorem dksX5_rank_2 : cX5_rank.data.toList.drop 46 = dktX5_rank_2 := dk_seg dksX5_rank_1 22 rfl rfl
theorem dksX5_rank_3 : cX5_rank.data.toList.drop 68 = dktX5_rank_3 := dk_seg dksX5_rank_2 22 rfl rfl
theorem dksX5_rank_4 : cX5_rank.data.toList.drop 92 = dktX5_rank_4 := dk_seg dksX5_rank_3 24 rfl rfl
theorem dksX5_rank_5 : cX5_rank.data.toList.drop 115 = dktX5_rank_5 := dk_seg dksX5_rank_4 23 rfl rfl
theorem dksX5_rank_6 : cX5_rank.data.toList.drop 138 = dktX5_rank_6 := dk_seg dksX5_rank_5 23 rfl rfl
theorem dX5_rank_0 : decode cX5_rank 0 = .ok (.aload_n 0, 1) := dk_42 (dk_at dksX5_rank_0 0 rfl rfl)
theorem dX5_rank_1 : decode cX5_rank 1 = .ok (.iconst 0, 1) := dk_3 (dk_at dksX5_rank_0 1 rfl rfl)
theorem dX5_rank_2 : decode cX5_rank 2 = .ok (.putfield 1, 3) := dk_181 0 1 (dk_at dksX5_rank_0 2 rfl rfl)
theorem dX5_rank_5 : decode cX5_rank 5 = .ok (.aload_n 0, 1) := dk_42 (dk_at dksX5_rank_0 5 rfl rfl)
theorem dX5_rank_6 : decode cX5_rank 6 = .ok (.iload_n 1, 1) := dk_27 (dk_at dksX5_rank_0 6 rfl rfl)
theorem dX5_rank_7 : decode cX5_rank 7 = .ok (.invokevirtual 298, 3) := dk_182 1 42 (dk_at dksX5_rank_0 7 rfl rfl)
theorem dX5_rank_10 : decode cX5_rank 10 = .ok (.ifCond .eq 7, 3) := dk_153 0 7 (dk_at dksX5_rank_0 10 rfl rfl)
theorem dX5_rank_13 : decode cX5_rank 13 = .ok (.iload_n 2, 1) := dk_28 (dk_at dksX5_rank_0 13 rfl rfl)
theorem dX5_rank_14 : decode cX5_rank 14 = .ok (.ifCond .ge 5, 3) := dk_156 0 5 (dk_at dksX5_rank_0 14 rfl rfl)
theorem dX5_rank_17 : decode cX5_rank 17 = .ok (.iconst (-1), 1) := dk_2 (dk_at dksX5_rank_0 17 rfl rfl)
theorem dX5_rank_18 : decode cX5_rank 18 = .ok (.ireturn, 1) := dk_172 (dk_at dksX5_rank_0 18 rfl rfl)
theorem dX5_rank_19 : decode cX5_rank 19 = .ok (.aload_n 0, 1) := dk_42 (dk_at dksX5_rank_0 19 rfl rfl)
theorem dX5_rank_20 : decode cX5_rank 20 = .ok (.iload_n 1, 1) := dk_27 (dk_at dksX5_rank_0 20 rfl rfl)
theorem dX5_rank_21 : decode cX5_rank 21 = .ok (.invokevirtual 301, 3) := dk_182 1 45 (dk_at dksX5_rank_0 21 rfl rfl)
theorem dX5_rank_24 : decode cX5_rank 24 = .ok (.iconst 0, 1) := dk_3 (dk_at dksX5_rank_1 0 rfl rfl)
theorem dX5_rank_25 : decode cX5_rank 25 = .ok (.istore_n 3, 1) := dk_62 (dk_at dksX5_rank_1 1 rfl rfl)
theorem dX5_rank_26 : decode cX5_rank 26 = .ok (.iload_n 3, 1) := dk_29 (dk_at dksX5_rank_1 2 rfl rfl)
theorem dX5_rank_27 : decode cX5_rank 27 = .ok (.bipush 40, 2) := dk_16 40 (dk_at dksX5_rank_1 3 rfl rfl)
theorem dX5_rank_29 : decode cX5_rank 29 = .ok (.if_icmp .ge 123, 3) := dk_162 0 123 (dk_at dksX5_rank_1 5 rfl rfl)
theorem dX5_rank_32 : decode cX5_rank 32 = .ok (.aload_n 0, 1) := dk_42 (dk_at dksX5_rank_1 8 rfl rfl)
theorem dX5_rank_33 : decode cX5_rank 33 = .ok (.iload_n 3, 1) := dk_29 (dk_at dksX5_rank_1 9 rfl rfl)
theorem dX5_rank_34 : decode cX5_rank 34 = .ok (.iload_n 1, 1) := dk_27 (dk_at dksX5_rank_1 10 rfl rfl)
theorem dX5_rank_35 : decode cX5_rank 35 = .ok (.iconst 4, 1) := dk_7 (dk_at dksX5_rank_1 11 rfl rfl)
theorem dX5_rank_36 : decode cX5_rank 36 = .ok (.invokevirtual 459, 3) := dk_182 1 203 (dk_at dksX5_rank_1 12 rfl rfl)
theorem dX5_rank_39 : decode cX5_rank 39 = .ok (.istore 4, 2) := dk_54 4 (dk_at dksX5_rank_1 15 rfl rfl)
theorem dX5_rank_41 : decode cX5_rank 41 = .ok (.iload 4, 2) := dk_21 4 (dk_at dksX5_rank_1 17 rfl rfl)
theorem dX5_rank_43 : decode cX5_rank 43 = .ok (.ifCond .ne 6, 3) := dk_154 0 6 (dk_at dksX5_rank_1 19 rfl rfl)
theorem dX5_rank_46 : decode cX5_rank 46 = .ok (.goto 100, 3) := dk_167 0 100 (dk_at dksX5_rank_2 0 rfl rfl)
theorem dX5_rank_49 : decode cX5_rank 49 = .ok (.aload_n 0, 1) := dk_42 (dk_at dksX5_rank_2 3 rfl rfl)
theorem dX5_rank_50 : decode cX5_rank 50 = .ok (.iload_n 3, 1) := dk_29 (dk_at dksX5_rank_2 4 rfl rfl)
theorem dX5_rank_51 : decode cX5_rank 51 = .ok (.iload_n 1, 1) := dk_27 (dk_at dksX5_rank_2 5 rfl rfl)
theorem dX5_rank_52 : decode cX5_rank 52 = .ok (.iconst 0, 1) := dk_3 (dk_at dksX5_rank_2 6 rfl rfl)
theorem dX5_rank_53 : decode cX5_rank 53 = .ok (.invokevirtual 459, 3) := dk_182 1 203 (dk_at dksX5_rank_2 7 rfl rfl)
theorem dX5_rank_56 : decode cX5_rank 56 = .ok (.istore 5, 2) := dk_54 5 (dk_at dksX5_rank_2 10 rfl rfl)
theorem dX5_rank_58 : decode cX5_rank 58 = .ok (.iconst 0, 1) := dk_3 (dk_at dksX5_rank_2 12 rfl rfl)
theorem dX5_rank_59 : decode cX5_rank 59 = .ok (.istore 6, 2) := dk_54 6 (dk_at dksX5_rank_2 13 rfl rfl)
theorem dX5_rank_61 : decode cX5_rank 61 = .ok (.iconst 0, 1) := dk_3 (dk_at dksX5_rank_2 15 rfl rfl)
theorem dX5_rank_62 : decode cX5_rank 62 = .ok (.istore 7, 2) := dk_54 7 (dk_at dksX5_rank_2 16 rfl rfl)
theorem dX5_rank_64 : decode cX5_rank 64 = .ok (.iload 7, 2) := dk_21 7 (dk_at dksX5_rank_2 18 rfl rfl)
theorem dX5_rank_66 : decode cX5_rank 66 = .ok (.bipush 40, 2) := dk_16 40 (dk_at dksX5_rank_2 20 rfl rfl)
theorem dX5_rank_68 : decode cX5_rank 68 = .ok (.if_icmp .ge 70, 3) := dk_162 0 70 (dk_at dksX5_rank_3 0 rfl rfl)
theorem dX5_rank_71 : decode cX5_rank 71 = .ok (.iload 5, 2) := dk_21 5 (dk_at dksX5_rank_3 3 rfl rfl)
theorem dX5_rank_73 : decode cX5_rank 73 = .ok (.aload_n 0, 1) := dk_42 (dk_at dksX5_rank_3 5 rfl rfl)
theorem dX5_rank_74 : decode cX5_rank 74 = .ok (.iload 7, 2) := dk_21 7 (dk_at dksX5_rank_3 6 rfl rfl)
theorem dX5_rank_76 : decode cX5_rank 76 = .ok (.iload_n 1, 1) := dk_27 (dk_at dksX5_rank_3 8 rfl rfl)
theorem dX5_rank_77 : decode cX5_rank 77 = .ok (.iconst 4, 1) := dk_7 (dk_at dksX5_rank_3 9 rfl rfl)
theorem dX5_rank_78 : decode cX5_rank 78 = .ok (.invokevirtual 459, 3) := dk_182 1 203 (dk_at dksX5_rank_3 10 rfl rfl)
theorem dX5_rank_81 : decode cX5_rank 81 = .ok (.imul, 1) := dk_104 (dk_at dksX5_rank_3 13 rfl rfl)
theorem dX5_rank_82 : decode cX5_rank 82 = .ok (.aload_n 0, 1) := dk_42 (dk_at dksX5_rank_3 14 rfl rfl)
theorem dX5_rank_83 : decode cX5_rank 83 = .ok (.iload 7, 2) := dk_21 7 (dk_at dksX5_rank_3 15 rfl rfl)
theorem dX5_rank_85 : decode cX5_rank 85 = .ok (.iload_n 1, 1) := dk_27 (dk_at dksX5_rank_3 17 rfl rfl)
theorem dX5_rank_86 : decode cX5_rank 86 = .ok (.iconst 0, 1) := dk_3 (dk_at dksX5_rank_3 18 rfl rfl)
theorem dX5_rank_87 : decode cX5_rank 87 = .ok (.invokevirtual 459, 3) := dk_182 1 203 (dk_at dksX5_rank_3 19 rfl rfl)
theorem dX5_rank_90 : decode cX5_rank 90 = .ok (.iload 4, 2) := dk_21 4 (dk_at dksX5_rank_3 22 rfl rfl)
theorem dX5_rank_92 : decode cX5_rank 92 = .ok (.imul, 1) := dk_104 (dk_at dksX5_rank_4 0 rfl rfl)
theorem dX5_rank_93 : decode cX5_rank 93 = .ok (.isub, 1) := dk_100 (dk_at dksX5_rank_4 1 rfl rfl)
theorem dX5_rank_94 : decode cX5_rank 94 = .ok (.istore 8, 2) := dk_54 8 (dk_at dksX5_rank_4 2 rfl rfl)
theorem dX5_rank_96 : decode cX5_rank 96 = .ok (.iload 7, 2) := dk_21 7 (dk_at dksX5_rank_4 4 rfl rfl)
theorem dX5_rank_98 : decode cX5_rank 98 = .ok (.iload_n 3, 1) := dk_29 (dk_at dksX5_rank_4 6 rfl rfl)
theorem dX5_rank_99 : decode cX5_rank 99 = .ok (.if_icmp .eq 33, 3) := dk_159 0 33 (dk_at dksX5_rank_4 7 rfl rfl)
theorem dX5_rank_102 : decode cX5_rank 102 = .ok (.aload_n 0, 1) := dk_42 (dk_at dksX5_rank_4 10 rfl rfl)
theorem dX5_rank_103 : decode cX5_rank 103 = .ok (.iload 7, 2) := dk_21 7 (dk_at dksX5_rank_4 11 rfl rfl)
theorem dX5_rank_105 : decode cX5_rank 105 = .ok (.iload_n 1, 1) := dk_27 (dk_at dksX5_rank_4 13 rfl rfl)
theorem dX5_rank_106 : decode cX5_rank 106 = .ok (.iconst 4, 1) := dk_7 (dk_at dksX5_rank_4 14 rfl rfl)
theorem dX5_rank_107 : decode cX5_rank 107 = .ok (.invokevirtual 459, 3) := dk_182 1 203 (dk_at dksX5_rank_4 15 rfl rfl)
theorem dX5_rank_110 : decode cX5_rank 110 = .ok (.ifCond .le 22, 3) := dk_158 0 22 (dk_at dksX5_rank_4 18 rfl rfl)
theorem dX5_rank_113 : decode cX5_rank 113 = .ok (.iload 8, 2) := dk_21 8 (dk_at dksX5_rank_4 21 rfl rfl)
theorem dX5_rank_115 : decode cX5_rank 115 = .ok (.ifCond .lt 14, 3) := dk_155 0 14 (dk_at dksX5_rank_5 0 rfl rfl)
theorem dX5_rank_118 : decode cX5_rank 118 = .ok (.iload 8, 2) := dk_21 8 (dk_at dksX5_rank_5 3 rfl rfl)
theorem dX5_rank_120 : decode cX5_rank 120 = .ok (.ifCond .ne 12, 3) := dk_154 0 12 (dk_at dksX5_rank_5 5 rfl rfl)
theorem dX5_rank_123 : decode cX5_rank 123 = .ok (.iload 7, 2) := dk_21 7 (dk_at dksX5_rank_5 8 rfl rfl)
theorem dX5_rank_125 : decode cX5_rank 125 = .ok (.iload_n 3, 1) := dk_29 (dk_at dksX5_rank_5 10 rfl rfl)
theorem dX5_rank_126 : decode cX5_rank 126 = .ok (.if_icmp .ge 6, 3) := dk_162 0 6 (dk_at dksX5_rank_5 11 rfl rfl)
theorem dX5_rank_129 : decode cX5_rank 129 = .ok (.iinc 6 1, 3) := dk_132 6 1 (dk_at dksX5_rank_5 14 rfl rfl)
theorem dX5_rank_132 : decode cX5_rank 132 = .ok (.iinc 7 1, 3) := dk_132 7 1 (dk_at dksX5_rank_5 17 rfl rfl)
theorem dX5_rank_135 : decode cX5_rank 135 = .ok (.goto (-71), 3) := dk_167 255 185 (dk_at dksX5_rank_5 20 rfl rfl)
theorem dX5_rank_138 : decode cX5_rank 138 = .ok (.iload 6, 2) := dk_21 6 (dk_at dksX5_rank_6 0 rfl rfl)
theorem dX5_rank_140 : decode cX5_rank 140 = .ok (.iload_n 2, 1) := dk_28 (dk_at dksX5_rank_6 2 rfl rfl)
theorem dX5_rank_141 : decode cX5_rank 141 = .ok (.if_icmp .ne 5, 3) := dk_160 0 5 (dk_at dksX5_rank_6 3 rfl rfl)
theorem dX5_rank_144 : decode cX5_rank 144 = .ok (.iload_n 3, 1) := dk_29 (dk_at dksX5_rank_6 6 rfl rfl)
theorem dX5_rank_145 : decode cX5_rank 145 = .ok (.ireturn, 1) := dk_172 (dk_at dksX5_rank_6 7 rfl rfl)
theorem dX5_rank_146 : decode cX5_rank 146 = .ok (.iinc 3 1, 3) := dk_132 3 1 (dk_at dksX5_rank_6 8 rfl rfl)
theorem dX5_rank_149 : decode cX5_rank 149 = .ok (.goto (-123), 3) := dk_167 255 133 (dk_at dksX5_rank_6 11 rfl rfl)
theorem dX5_rank_152 : decode cX5_rank 152 = .ok (.iconst (-1), 1) := dk_2 (dk_at dksX5_rank_6 14 rfl rfl)
theorem dX5_rank_153 : decode cX5_rank 153 = .ok (.ireturn, 1) := dk_172 (dk_at dksX5_rank_6 15 rfl rfl)
def dkwX5_count_6 : List UInt8 := [42, 180, 0, 173, 184, 0, 177, 153, 0, 6, 132, 2, 1, 132, 3, 1, 167, 255, 220, 28, 172, 2, 172]
abbrev dktX5_count_6 : List UInt8 := dkwX5_count_6 ++ []
def dkwX5_count_5 : List UInt8 := [28, 172, 3, 62, 29, 42, 180, 1, 127, 162, 0, 34, 42, 180, 0, 130, 29, 46, 42, 180, 0, 133, 29, 46]
abbrev dktX5_count_5 : List UInt8 := dkwX5_count_5 ++ dktX5_count_6
def dkwX5_count_4 : List UInt8 := [162, 0, 24, 42, 29, 42, 180, 0, 173, 182, 1, 58, 153, 0, 6, 132, 2, 1, 132, 3, 1, 167, 255, 230]
abbrev dktX5_count_4 : List UInt8 := dkwX5_count_4 ++ dktX5_count_5
def dkwX5_count_3 : List UInt8 := [172, 42, 180, 1, 35, 172, 42, 180, 0, 180, 172, 42, 180, 1, 191, 172, 3, 62, 29, 42, 180, 0, 243]
abbrev dktX5_count_3 : List UInt8 := dkwX5_count_3 ++ dktX5_count_4
def dkwX5_count_2 : List UInt8 := [42, 180, 0, 173, 172, 42, 180, 0, 243, 172, 42, 180, 1, 26, 172, 42, 180, 1, 48, 172, 42, 180, 1, 127]
abbrev dktX5_count_2 : List UInt8 := dkwX5_count_2 ++ dktX5_count_3
def dkwX5_count_1 : List UInt8 := [170, 0, 0, 0, 0, 0, 0, 172, 0, 0, 0, 0, 0, 0, 0, 9, 0, 0, 0, 56, 0, 0, 0, 61, 0, 0, 0, 66, 0, 0, 0, 71, 0, 0, 0, 76, 0, 0, 0, 81, 0, 0, 0, 86, 0, 0, 0, 91, 0, 0, 0, 96, 0, 0, 0, 129]
abbrev dktX5_count_1 : List UInt8 := dkwX5_count_1 ++ dktX5_count_2
def dkwX5_count_0 : List UInt8 := [42, 3, 181, 0, 1, 3, 61, 27]
abbrev dktX5_count_0 : List UInt8 := dkwX5_count_0 ++ dktX5_count_1
theorem dksX5_count_0 : cX5_count.data.toList.drop 0 = dktX5_count_0 := by decide +kernel
theorem dksX5_count_1 : cX5_count.data.toList.drop 8 = dktX5_count_1 := dk_seg dksX5_count_0 8 rfl rfl
theorem dksX5_count_2 : cX5_count.data.toList.drop 64 = dktX5_count_2 := dk_seg dksX5_count_1 56 rfl rfl
theorem dksX5_count_3 : cX5_count.data.toList.drop 88 = dktX5_count_3 := dk_seg dksX5_count_2 24 rfl rfl
theorem dksX5_count_4 : cX5_count.data.toList.drop 111 = dktX5_count_4 := dk_seg dksX5_count_3 23 rfl rfl
theorem dksX5_count_5 : cX5_count.data.toList.drop 135 = dktX5_count_5 := dk_seg dksX5_count_4 24 rfl rfl
theorem dksX5_count_6 : cX5_count.data.toList.drop 159 = dktX5_count_6 := dk_seg dksX5_count_5 24 rfl rfl
theorem dX5_count_0 : decode cX5_count 0 = .ok (.aload_n 0, 1) := dk_42 (dk_at dksX5_count_0 0 rfl rfl)
theorem dX5_count_1 : decode cX5_count 1 = .ok (.iconst 0, 1) := dk_3 (dk_at dksX5_count_0 1 rfl rfl)
theorem dX5_count_2 : decode cX5_count 2 = .ok (.putfield 1, 3) := dk_181 0 1 (dk_at dksX5_count_0 2 rfl rfl)
theorem dX5_count_5 : decode cX5_count 5 = .ok (.iconst 0, 1) := dk_3 (dk_at dksX5_count_0 5 rfl rfl)
theorem dX5_count_6 : decode cX5_count 6 = .ok (.istore_n 2, 1) := dk_61 (dk_at dksX5_count_0 6 rfl rfl)
theorem dX5_count_7 : decode cX5_count 7 = .ok (.iload_n 1, 1) := dk_27 (dk_at dksX5_count_0 7 rfl rfl)
theorem dX5_count_8 : decode cX5_count 8 = .ok (.tableswitch 172 0 9 #[56, 61, 66, 71, 76, 81, 86, 91, 96, 129], 56) := by decide +kernel
theorem dX5_count_64 : decode cX5_count 64 = .ok (.aload_n 0, 1) := dk_42 (dk_at dksX5_count_2 0 rfl rfl)
theorem dX5_count_65 : decode cX5_count 65 = .ok (.getfield 173, 3) := dk_180 0 173 (dk_at dksX5_count_2 1 rfl rfl)
theorem dX5_count_68 : decode cX5_count 68 = .ok (.ireturn, 1) := dk_172 (dk_at dksX5_count_2 4 rfl rfl)
theorem dX5_count_69 : decode cX5_count 69 = .ok (.aload_n 0, 1) := dk_42 (dk_at dksX5_count_2 5 rfl rfl)
theorem dX5_count_70 : decode cX5_count 70 = .ok (.getfield 243, 3) := dk_180 0 243 (dk_at dksX5_count_2 6 rfl rfl)
theorem dX5_count_73 : decode cX5_count 73 = .ok (.ireturn, 1) := dk_172 (dk_at dksX5_count_2 9 rfl rfl)
theorem dX5_count_74 : decode cX5_count 74 = .ok (.aload_n 0, 1) := dk_42 (dk_at dksX5_count_2 10 rfl rfl)
theorem dX5_count_75 : decode cX5_count 75 = .ok (.getfield 282, 3) := dk_180 1 26 (dk_at dksX5_count_2 11 rfl rfl)
theorem dX5_count_78 : decode cX5_count 78 = .ok (.ireturn, 1) := dk_172 (dk_at dksX5_count_2 14 rfl rfl)
theorem dX5_count_79 : decode cX5_count 79 = .ok (.aload_n 0, 1) := dk_42 (dk_at dksX5_count_2 15 rfl rfl)
theorem dX5_count_80 : decode cX5_count 80 = .ok (.getfield 304, 3) := dk_180 1 48 (dk_at dksX5_count_2 16 rfl rfl)
theorem dX5_count_83 : decode cX5_count 83 = .ok (.ireturn, 1) := dk_172 (dk_at dksX5_count_2 19 rfl rfl)
theorem dX5_count_84 : decode cX5_count 84 = .ok (.aload_n 0, 1) := dk_42 (dk_at dksX5_count_2 20 rfl rfl)
theorem dX5_count_85 : decode cX5_count 85 = .ok (.getfield 383, 3) := dk_180 1 127 (dk_at dksX5_count_2 21 rfl rfl)
theorem dX5_count_88 : decode cX5_count 88 = .ok (.ireturn, 1) := dk_172 (dk_at dksX5_count_3 0 rfl rfl)
theorem dX5_count_89 : decode cX5_count 89 = .ok (.aload_n 0, 1) := dk_42 (dk_at dksX5_count_3 1 rfl rfl)
theorem dX5_count_90 : decode cX5_count 90 = .ok (.getfield 291, 3) := dk_180 1 35 (dk_at dksX5_count_3 2 rfl rfl)
theorem dX5_count_93 : decode cX5_count 93 = .ok (.ireturn, 1) := dk_172 (dk_at dksX5_count_3 5 rfl rfl)
theorem dX5_count_94 : decode cX5_count 94 = .ok (.aload_n 0, 1) := dk_42 (dk_at dksX5_count_3 6 rfl rfl)
theorem dX5_count_95 : decode cX5_count 95 = .ok (.getfield 180, 3) := dk_180 0 180 (dk_at dksX5_count_3 7 rfl rfl)
theorem dX5_count_98 : decode cX5_count 98 = .ok (.ireturn, 1) := dk_172 (dk_at dksX5_count_3 10 rfl rfl)
theorem dX5_count_99 : decode cX5_count 99 = .ok (.aload_n 0, 1) := dk_42 (dk_at dksX5_count_3 11 rfl rfl)
theorem dX5_count_100 : decode cX5_count 100 = .ok (.getfield 447, 3) := dk_180 1 191 (dk_at dksX5_count_3 12 rfl rfl)
theorem dX5_count_103 : decode cX5_count 103 = .ok (.ireturn, 1) := dk_172 (dk_at dksX5_count_3 15 rfl rfl)
theorem dX5_count_104 : decode cX5_count 104 = .ok (.iconst 0, 1) := dk_3 (dk_at dksX5_count_3 16 rfl rfl)
theorem dX5_count_105 : decode cX5_count 105 = .ok (.istore_n 3, 1) := dk_62 (dk_at dksX5_count_3 17 rfl rfl)
theorem dX5_count_106 : decode cX5_count 106 = .ok (.iload_n 3, 1) := dk_29 (dk_at dksX5_count_3 18 rfl rfl)
theorem dX5_count_107 : decode cX5_count 107 = .ok (.aload_n 0, 1) := dk_42 (dk_at dksX5_count_3 19 rfl rfl)
theorem dX5_count_108 : decode cX5_count 108 = .ok (.getfield 243, 3) := dk_180 0 243 (dk_at dksX5_count_3 20 rfl rfl)
theorem dX5_count_111 : decode cX5_count 111 = .ok (.if_icmp .ge 24, 3) := dk_162 0 24 (dk_at dksX5_count_4 0 rfl rfl)
theorem dX5_count_114 : decode cX5_count 114 = .ok (.aload_n 0, 1) := dk_42 (dk_at dksX5_count_4 3 rfl rfl)
theorem dX5_count_115 : decode cX5_count 115 = .ok (.iload_n 3, 1) := dk_29 (dk_at dksX5_count_4 4 rfl rfl)
theorem dX5_count_116 : decode cX5_count 116 = .ok (.aload_n 0, 1) := dk_42 (dk_at dksX5_count_4 5 rfl rfl)
theorem dX5_count_117 : decode cX5_count 117 = .ok (.getfield 173, 3) := dk_180 0 173 (dk_at dksX5_count_4 6 rfl rfl)
theorem dX5_count_120 : decode cX5_count 120 = .ok (.invokevirtual 314, 3) := dk_182 1 58 (dk_at dksX5_count_4 9 rfl rfl)
theorem dX5_count_123 : decode cX5_count 123 = .ok (.ifCond .eq 6, 3) := dk_153 0 6 (dk_at dksX5_count_4 12 rfl rfl)
theorem dX5_count_126 : decode cX5_count 126 = .ok (.iinc 2 1, 3) := dk_132 2 1 (dk_at dksX5_count_4 15 rfl rfl)
theorem dX5_count_129 : decode cX5_count 129 = .ok (.iinc 3 1, 3) := dk_132 3 1 (dk_at dksX5_count_4 18 rfl rfl)
theorem dX5_count_132 : decode cX5_count 132 = .ok (.goto (-26), 3) := dk_167 255 230 (dk_at dksX5_count_4 21 rfl rfl)
theorem dX5_count_135 : decode cX5_count 135 = .ok (.iload_n 2, 1) := dk_28 (dk_at dksX5_count_5 0 rfl rfl)
theorem dX5_count_136 : decode cX5_count 136 = .ok (.ireturn, 1) := dk_172 (dk_at dksX5_count_5 1 rfl rfl)
theorem dX5_count_137 : decode cX5_count 137 = .ok (.iconst 0, 1) := dk_3 (dk_at dksX5_count_5 2 rfl rfl)
theorem dX5_count_138 : decode cX5_count 138 = .ok (.istore_n 3, 1) := dk_62 (dk_at dksX5_count_5 3 rfl rfl)
theorem dX5_count_139 : decode cX5_count 139 = .ok (.iload_n 3, 1) := dk_29 (dk_at dksX5_count_5 4 rfl rfl)
theorem dX5_count_140 : decode cX5_count 140 = .ok (.aload_n 0, 1) := dk_42 (dk_at dksX5_count_5 5 rfl rfl)
theorem dX5_count_141 : decode cX5_count 141 = .ok (.getfield 383, 3) := dk_180 1 127 (dk_at dksX5_count_5 6 rfl rfl)
theorem dX5_count_144 : decode cX5_count 144 = .ok (.if_icmp .ge 34, 3) := dk_162 0 34 (dk_at dksX5_count_5 9 rfl rfl)
theorem dX5_count_147 : decode cX5_count 147 = .ok (.aload_n 0, 1) := dk_42 (dk_at dksX5_count_5 12 rfl rfl)
theorem dX5_count_148 : decode cX5_count 148 = .ok (.getfield 130, 3) := dk_180 0 130 (dk_at dksX5_count_5 13 rfl rfl)
theorem dX5_count_151 : decode cX5_count 151 = .ok (.iload_n 3, 1) := dk_29 (dk_at dksX5_count_5 16 rfl rfl)
theorem dX5_count_152 : decode cX5_count 152 = .ok (.iaload, 1) := dk_46 (dk_at dksX5_count_5 17 rfl rfl)
theorem dX5_count_153 : decode cX5_count 153 = .ok (.aload_n 0, 1) := dk_42 (dk_at dksX5_count_5 18 rfl rfl)
theorem dX5_count_154 : decode cX5_count 154 = .ok (.getfield 133, 3) := dk_180 0 133 (dk_at dksX5_count_5 19 rfl rfl)
theorem dX5_count_157 : decode cX5_count 157 = .ok (.iload_n 3, 1) := dk_29 (dk_at dksX5_count_5 22 rfl rfl)
theorem dX5_count_158 : decode cX5_count 158 = .ok (.iaload, 1) := dk_46 (dk_at dksX5_count_5 23 rfl rfl)
theorem dX5_count_159 : decode cX5_count 159 = .ok (.aload_n 0, 1) := dk_42 (dk_at dksX5_count_6 0 rfl rfl)
theorem dX5_count_160 : decode cX5_count 160 = .ok (.getfield 173, 3) := dk_180 0 173 (dk_at dksX5_count_6 1 rfl rfl)
theorem dX5_count_163 : decode cX5_count 163 = .ok (.invokestatic 177, 3) := dk_184 0 177 (dk_at dksX5_count_6 4 rfl rfl)
theorem dX5_count_166 : decode cX5_count 166 = .ok (.ifCond .eq 6, 3) := dk_153 0 6 (dk_at dksX5_count_6 7 rfl rfl)
theorem dX5_count_169 : decode cX5_count 169 = .ok (.iinc 2 1, 3) := dk_132 2 1 (dk_at dksX5_count_6 10 rfl rfl)
theorem dX5_count_172 : decode cX5_count 172 = .ok (.iinc 3 1, 3) := dk_132 3 1 (dk_at dksX5_count_6 13 rfl rfl)
theorem dX5_count_175 : decode cX5_count 175 = .ok (.goto (-36), 3) := dk_167 255 220 (dk_at dksX5_count_6 16 rfl rfl)
theorem dX5_count_178 : decode cX5_count 178 = .ok (.iload_n 2, 1) := dk_28 (dk_at dksX5_count_6 19 rfl rfl)
theorem dX5_count_179 : decode cX5_count 179 = .ok (.ireturn, 1) := dk_172 (dk_at dksX5_count_6 20 rfl rfl)
theorem dX5_count_180 : decode cX5_count 180 = .ok (.iconst (-1), 1) := dk_2 (dk_at dksX5_count_6 21 rfl rfl)
theorem dX5_count_181 : decode cX5_count 181 = .ok (.ireturn, 1) := dk_172 (dk_at dksX5_count_6 22 rfl rfl)
