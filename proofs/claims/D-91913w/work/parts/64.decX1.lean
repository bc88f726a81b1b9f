set_option maxRecDepth 100000
def dkwX1_init_10 : List UInt8 := [16, 40, 188, 10, 181, 0, 112, 42, 17, 0, 160, 188, 10, 181, 0, 115, 177]
abbrev dktX1_init_10 : List UInt8 := dkwX1_init_10 ++ []
def dkwX1_init_9 : List UInt8 := [188, 10, 181, 0, 103, 42, 16, 40, 188, 10, 181, 0, 106, 42, 17, 21, 24, 188, 10, 181, 0, 109, 42]
abbrev dktX1_init_9 : List UInt8 := dkwX1_init_9 ++ dktX1_init_10
def dkwX1_init_8 : List UInt8 := [181, 0, 92, 42, 17, 0, 192, 188, 4, 181, 0, 96, 42, 16, 40, 188, 10, 181, 0, 100, 42, 17, 0, 135]
abbrev dktX1_init_8 : List UInt8 := dkwX1_init_8 ++ dktX1_init_9
def dkwX1_init_7 : List UInt8 := [187, 0, 76, 89, 42, 183, 0, 78, 181, 0, 81, 42, 16, 8, 188, 10, 181, 0, 85, 42, 42, 182, 0, 88]
abbrev dktX1_init_7 : List UInt8 := dkwX1_init_7 ++ dktX1_init_8
def dkwX1_init_6 : List UInt8 := [17, 1, 44, 188, 8, 181, 0, 65, 42, 16, 12, 188, 8, 181, 0, 69, 42, 2, 181, 0, 72, 42]
abbrev dktX1_init_6 : List UInt8 := dkwX1_init_6 ++ dktX1_init_7
def dkwX1_init_5 : List UInt8 := [181, 0, 56, 42, 17, 0, 200, 188, 10, 181, 0, 59, 42, 17, 0, 200, 188, 10, 181, 0, 62, 42]
abbrev dktX1_init_5 : List UInt8 := dkwX1_init_5 ++ dktX1_init_6
def dkwX1_init_4 : List UInt8 := [17, 0, 200, 188, 10, 181, 0, 50, 42, 17, 0, 200, 188, 10, 181, 0, 53, 42, 17, 0, 200, 188, 10]
abbrev dktX1_init_4 : List UInt8 := dkwX1_init_4 ++ dktX1_init_5
def dkwX1_init_3 : List UInt8 := [16, 10, 79, 89, 4, 16, 10, 79, 89, 5, 16, 10, 79, 89, 6, 16, 10, 79, 181, 0, 46, 42]
abbrev dktX1_init_3 : List UInt8 := dkwX1_init_3 ++ dktX1_init_4
def dkwX1_init_2 : List UInt8 := [183, 0, 23, 181, 0, 36, 42, 187, 0, 39, 89, 3, 183, 0, 41, 181, 0, 42, 42, 7, 188, 10, 89, 3]
abbrev dktX1_init_2 : List UInt8 := dkwX1_init_2 ++ dktX1_init_3
def dkwX1_init_1 : List UInt8 := [183, 0, 23, 181, 0, 30, 42, 187, 0, 21, 89, 5, 183, 0, 23, 181, 0, 33, 42, 187, 0, 21, 89, 5]
abbrev dktX1_init_1 : List UInt8 := dkwX1_init_1 ++ dktX1_init_2
def dkwX1_init_0 : List UInt8 := [42, 183, 0, 15, 42, 187, 0, 21, 89, 7, 183, 0, 23, 181, 0, 26, 42, 187, 0, 21, 89, 5]
abbrev dktX1_init_0 : List UInt8 := dkwX1_init_0 ++ dktX1_init_1
theorem dksX1_init_0 : cX1_init.data.toList.drop 0 = dktX1_init_0 := by decide +kernel
theorem dksX1_init_1 : cX1_init.data.toList.drop 22 = dktX1_init_1 := dk_seg dksX1_init_0 22 rfl rfl
theorem dksX1_init_2 : cX1_init.data.toList.drop 46 = dktX1_init_2 := dk_seg dksX1_init_1 24 rfl rfl
theorem dksX1_init_3 : cX1_init.data.toList.drop 70 = dktX1_init_3 := dk_seg dksX1_init_2 24 rfl rfl
theorem dksX1_init_4 : cX1_init.data.toList.drop 92 = dktX1_init_4 := dk_seg dksX1_init_3 22 rfl rfl
theorem dksX1_init_5 : cX1_init.data.toList.drop 115 = dktX1_init_5 := dk_seg dksX1_init_4 23 rfl rfl
theorem dksX1_init_6 : cX1_init.data.toList.drop 137 = dktX1_init_6 := dk_seg dksX1_init_5 22 rfl rfl
theorem dksX1_init_7 : cX1_init.data.toList.drop 159 = dktX1_init_7 := dk_seg dksX1_init_6 22 rfl rfl
theorem dksX1_init_8 : cX1_init.data.toList.drop 183 = dktX1_init_8 := dk_seg dksX1_init_7 24 rfl rfl
theorem dksX1_init_9 : cX1_init.data.toList.drop 207 = dktX1_init_9 := dk_seg dksX1_init_8 24 rfl rfl
theorem dksX1_init_10 : cX1_init.data.toList.drop 230 = dktX1_init_10 := dk_seg dksX1_init_9 23 rfl rfl
theorem dX1_init_0 : decode cX1_init 0 = .ok (.aload_n 0, 1) := dk_42 (dk_at dksX1_init_0 0 rfl rfl)
theorem dX1_init_1 : decode cX1_init 1 = .ok (.invokespecial 15, 3) := dk_183 0 15 (dk_at dksX1_init_0 1 rfl rfl)
theorem dX1_init_4 : decode cX1_init 4 = .ok (.aload_n 0, 1) := dk_42 (dk_at dksX1_init_0 4 rfl rfl)
theorem dX1_init_5 : decode cX1_init 5 = .ok (.new 21, 3) := dk_187 0 21 (dk_at dksX1_init_0 5 rfl rfl)
theorem dX1_init_8 : decode cX1_init 8 = .ok (.dup, 1) := dk_89 (dk_at dksX1_init_0 8 rfl rfl)
theorem dX1_init_9 : decode cX1_init 9 = .ok (.iconst 4, 1) := dk_7 (dk_at dksX1_init_0 9 rfl rfl)
theorem dX1_init_10 : decode cX1_init 10 = .ok (.invokespecial 23, 3) := dk_183 0 23 (dk_at dksX1_init_0 10 rfl rfl)
theorem dX1_init_13 : decode cX1_init 13 = .ok (.putfield 26, 3) := dk_181 0 26 (dk_at dksX1_init_0 13 rfl rfl)
theorem dX1_init_16 : decode cX1_init 16 = .ok (.aload_n 0, 1) := dk_42 (dk_at dksX1_init_0 16 rfl rfl)
theorem dX1_init_17 : decode cX1_init 17 = .ok (.new 21, 3) := dk_187 0 21 (dk_at dksX1_init_0 17 rfl rfl)
theorem dX1_init_20 : decode cX1_init 20 = .ok (.dup, 1) := dk_89 (dk_at dksX1_init_0 20 rfl rfl)
theorem dX1_init_21 : decode cX1_init 21 = .ok (.iconst 2, 1) := dk_5 (dk_at dksX1_init_0 21 rfl rfl)
theorem dX1_init_22 : decode cX1_init 22 = .ok (.invokespecial 23, 3) := dk_183 0 23 (dk_at dksX1_init_1 0 rfl rfl)
theorem dX1_init_25 : decode cX1_init 25 = .ok (.putfield 30, 3) := dk_181 0 30 (dk_at dksX1_init_1 3 rfl rfl)
theorem dX1_init_28 : decode cX1_init 28 = .ok (.aload_n 0, 1) := dk_42 (dk_at dksX1_init_1 6 rfl rfl)
theorem dX1_init_29 : decode cX1_init 29 = .ok (.new 21, 3) := dk_187 0 21 (dk_at dksX1_init_1 7 rfl rfl)
theorem dX1_init_32 : decode cX1_init 32 = .ok (.dup, 1) := dk_89 (dk_at dksX1_init_1 10 rfl rfl)
theorem dX1_init_33 : decode cX1_init 33 = .ok (.iconst 2, 1) := dk_5 (dk_at dksX1_init_1 11 rfl rfl)
theorem dX1_init_34 : decode cX1_init 34 = .ok (.invokespecial 23, 3) := dk_183 0 23 (dk_at dksX1_init_1 12 rfl rfl)
theorem dX1_init_37 : decode cX1_init 37 = .ok (.putfield 33, 3) := dk_181 0 33 (dk_at dksX1_init_1 15 rfl rfl)
theorem dX1_init_40 : decode cX1_init 40 = .ok (.aload_n 0, 1) := dk_42 (dk_at dksX1_init_1 18 rfl rfl)
theorem dX1_init_41 : decode cX1_init 41 = .ok (.new 21, 3) := dk_187 0 21 (dk_at dksX1_init_1 19 rfl rfl)
theorem dX1_init_44 : decode cX1_init 44 = .ok (.dup, 1) := dk_89 (dk_at dksX1_init_1 22 rfl rfl)
theorem dX1_init_45 : decode cX1_init 45 = .ok (.iconst 2, 1) := dk_5 (dk_at dksX1_init_1 23 rfl rfl)
theorem dX1_init_46 : decode cX1_init 46 = .ok (.invokespecial 23, 3) := dk_183 0 23 (dk_at dksX1_init_2 0 rfl rfl)
theorem dX1_init_49 : decode cX1_init 49 = .ok (.putfield 36, 3) := dk_181 0 36 (dk_at dksX1_init_2 3 rfl rfl)
theorem dX1_init_52 : decode cX1_init 52 = .ok (.aload_n 0, 1) := dk_42 (dk_at dksX1_init_2 6 rfl rfl)
theorem dX1_init_53 : decode cX1_init 53 = .ok (.new 39, 3) := dk_187 0 39 (dk_at dksX1_init_2 7 rfl rfl)
theorem dX1_init_56 : decode cX1_init 56 = .ok (.dup, 1) := dk_89 (dk_at dksX1_init_2 10 rfl rfl)
theorem dX1_init_57 : decode cX1_init 57 = .ok (.iconst 0, 1) := dk_3 (dk_at dksX1_init_2 11 rfl rfl)
theorem dX1_init_58 : decode cX1_init 58 = .ok (.invokespecial 41, 3) := dk_183 0 41 (dk_at dksX1_init_2 12 rfl rfl)
theorem dX1_init_61 : decode cX1_init 61 = .ok (.putfield 42, 3) := dk_181 0 42 (dk_at dksX1_init_2 15 rfl rfl)
theorem dX1_init_64 : decode cX1_init 64 = .ok (.aload_n 0, 1) := dk_42 (dk_at dksX1_init_2 18 rfl rfl)
theorem dX1_init_65 : decode cX1_init 65 = .ok (.iconst 4, 1) := dk_7 (dk_at dksX1_init_2 19 rfl rfl)
theorem dX1_init_66 : decode cX1_init 66 = .ok (.newarray .int, 2) := dk_188_10 (dk_at dksX1_init_2 20 rfl rfl)
theorem dX1_init_68 : decode cX1_init 68 = .ok (.dup, 1) := dk_89 (dk_at dksX1_init_2 22 rfl rfl)
theorem dX1_init_69 : decode cX1_init 69 = .ok (.iconst 0, 1) := dk_3 (dk_at dksX1_init_2 23 rfl rfl)
theorem dX1_init_70 : decode cX1_init 70 = .ok (.bipush 10, 2) := dk_16 10 (dk_at dksX1_init_3 0 rfl rfl)
theorem dX1_init_72 : decode cX1_init 72 = .ok (.iastore, 1) := dk_79 (dk_at dksX1_init_3 2 rfl rfl)
theorem dX1_init_73 : decode cX1_init 73 = .ok (.dup, 1) := dk_89 (dk_at dksX1_init_3 3 rfl rfl)
theorem dX1_init_74 : decode cX1_init 74 = .ok (.iconst 1, 1) := dk_4 (dk_at dksX1_init_3 4 rfl rfl)
theorem dX1_init_75 : decode cX1_init 75 = .ok (.bipush 10, 2) := dk_16 10 (dk_at dksX1_init_3 5 rfl rfl)
theorem dX1_init_77 : decode cX1_init 77 = .ok (.iastore, 1) := dk_79 (dk_at dksX1_init_3 7 rfl rfl)
theorem dX1_init_78 : decode cX1_init 78 = .ok (.dup, 1) := dk_89 (dk_at dksX1_init_3 8 rfl rfl)
theorem dX1_init_79 : decode cX1_init 79 = .ok (.iconst 2, 1) := dk_5 (dk_at dksX1_init_3 9 rfl rfl)
theorem dX1_init_80 : decode cX1_init 80 = .ok (.bipush 10, 2) := dk_16 10 (dk_at dksX1_init_3 10 rfl rfl)
theorem dX1_init_82 : decode cX1_init 82 = .ok (.iastore, 1) := dk_79 (dk_at dksX1_init_3 12 rfl rfl)
theorem dX1_init_83 : decode cX1_init 83 = .ok (.dup, 1) := dk_89 (dk_at dksX1_init_3 13 rfl rfl)
theorem dX1_init_84 : decode cX1_init 84 = .ok (.iconst 3, 1) := dk_6 (dk_at dksX1_init_3 14 rfl rfl)
theorem dX1_init_85 : decode cX1_init 85 = .ok (.bipush 10, 2) := dk_16 10 (dk_at dksX1_init_3 15 rfl rfl)
theorem dX1_init_87 : decode cX1_init 87 = .ok (.iastore, 1) := dk_79 (dk_at dksX1_init_3 17 rfl rfl)
theorem dX1_init_88 : decode cX1_init 88 = .ok (.putfield 46, 3) := dk_181 0 46 (dk_at dksX1_init_3 18 rfl rfl)
theorem dX1_init_91 : decode cX1_init 91 = .ok (.aload_n 0, 1) := dk_42 (dk_at dksX1_init_3 21 rfl rfl)
theorem dX1_init_92 : decode cX1_init 92 = .ok (.sipush 200, 3) := dk_17 0 200 (dk_at dksX1_init_4 0 rfl rfl)
theorem dX1_init_95 : decode cX1_init 95 = .ok (.newarray .int, 2) := dk_188_10 (dk_at dksX1_init_4 3 rfl rfl)
theorem dX1_init_97 : decode cX1_init 97 = .ok (.putfield 50, 3) := dk_181 0 50 (dk_at dksX1_init_4 5 rfl rfl)
theorem dX1_init_100 : decode cX1_init 100 = .ok (.aload_n 0, 1) := dk_42 (dk_at dksX1_init_4 8 rfl rfl)
theorem dX1_init_101 : decode cX1_init 101 = .ok (.sipush 200, 3) := dk_17 0 200 (dk_at dksX1_init_4 9 rfl rfl)
theorem dX1_init_104 : decode cX1_init 104 = .ok (.newarray .int, 2) := dk_188_10 (dk_at dksX1_init_4 12 rfl rfl)
theorem dX1_init_106 : decode cX1_init 106 = .ok (.putfield 53, 3) := dk_181 0 53 (dk_at dksX1_init_4 14 rfl rfl)
theorem dX1_init_109 : decode cX1_init 109 = .ok (.aload_n 0, 1) := dk_42 (dk_at dksX1_init_4 17 rfl rfl)
theorem dX1_init_110 : decode cX1_init 110 = .ok (.sipush 200, 3) := dk_17 0 200 (dk_at dksX1_init_4 18 rfl rfl)
theorem dX1_init_113 : decode cX1_init 113 = .ok (.newarray .int, 2) := dk_188_10 (dk_at dksX1_init_4 21 rfl rfl)
theorem dX1_init_115 : decode cX1_init 115 = .ok (.putfield 56, 3) := dk_181 0 56 (dk_at dksX1_init_5 0 rfl rfl)
theorem dX1_init_118 : decode cX1_init 118 = .ok (.aload_n 0, 1) := dk_42 (dk_at dksX1_init_5 3 rfl rfl)
theorem dX1_init_119 : decode cX1_init 119 = .ok (.sipush 200, 3) := dk_17 0 200 (dk_at dksX1_init_5 4 rfl rfl)
theorem dX1_init_122 : decode cX1_init 122 = .ok (.newarray .int, 2) := dk_188_10 (dk_at dksX1_init_5 7 rfl rfl)
theorem dX1_init_124 : decode cX1_init 124 = .ok (.putfield 59, 3) := dk_181 0 59 (dk_at dksX1_init_5 9 rfl rfl)
theorem dX1_init_127 : decode cX1_init 127 = .ok (.aload_n 0, 1) := dk_42 (dk_at dksX1_init_5 12 rfl rfl)
theorem dX1_init_128 : decode cX1_init 128 = .ok (.sipush 200, 3) := dk_17 0 200 (dk_at dksX1_init_5 13 rfl rfl)
theorem dX1_init_131 : decode cX1_init 131 = .ok (.newarray .int, 2) := dk_188_10 (dk_at dksX1_init_5 16 rfl rfl)
theorem dX1_init_133 : decode cX1_init 133 = .ok (.putfield 62, 3) := dk_181 0 62 (dk_at dksX1_init_5 18 rfl rfl)
theorem dX1_init_136 : decode cX1_init 136 = .ok (.aload_n 0, 1) := dk_42 (dk_at dksX1_init_5 21 rfl rfl)
theorem dX1_init_137 : decode cX1_init 137 = .ok (.sipush 300, 3) := dk_17 1 44 (dk_at dksX1_init_6 0 rfl rfl)
theorem dX1_init_140 : decode cX1_init 140 = .ok (.newarray .byte, 2) := dk_188_8 (dk_at dksX1_init_6 3 rfl rfl)
theorem dX1_init_142 : decode cX1_init 142 = .ok (.putfield 65, 3) := dk_181 0 65 (dk_at dksX1_init_6 5 rfl rfl)
theorem dX1_init_145 : decode cX1_init 145 = .ok (.aload_n 0, 1) := dk_42 (dk_at dksX1_init_6 8 rfl rfl)
theorem dX1_init_146 : decode cX1_init 146 = .ok (.bipush 12, 2) := dk_16 12 (dk_at dksX1_init_6 9 rfl rfl)
theorem dX1_init_148 : decode cX1_init 148 = .ok (.newarray .byte, 2) := dk_188_8 (dk_at dksX1_init_6 11 rfl rfl)
theorem dX1_init_150 : decode cX1_init 150 = .ok (.putfield 69, 3) := dk_181 0 69 (dk_at dksX1_init_6 13 rfl rfl)
theorem dX1_init_153 : decode cX1_init 153 = .ok (.aload_n 0, 1) := dk_42 (dk_at dksX1_init_6 16 rfl rfl)
theorem dX1_init_154 : decode cX1_init 154 = .ok (.iconst (-1), 1) := dk_2 (dk_at dksX1_init_6 17 rfl rfl)
theorem dX1_init_155 : decode cX1_init 155 = .ok (.putfield 72, 3) := dk_181 0 72 (dk_at dksX1_init_6 18 rfl rfl)
theorem dX1_init_158 : decode cX1_init 158 = .ok (.aload_n 0, 1) := dk_42 (dk_at dksX1_init_6 21 rfl rfl)
theorem dX1_init_159 : decode cX1_init 159 = .ok (.new 76, 3) := dk_187 0 76 (dk_at dksX1_init_7 0 rfl rfl)
theorem dX1_init_162 : decode cX1_init 162 = .ok (.dup, 1) := dk_89 (dk_at dksX1_init_7 3 rfl rfl)
theorem dX1_init_163 : decode cX1_init 163 = .ok (.aload_n 0, 1) := dk_42 (dk_at dksX1_init_7 4 rfl rfl)
theorem dX1_init_164 : decode cX1_init 164 = .ok (.invokespecial 78, 3) := dk_183 0 78 (dk_at dksX1_init_7 5 rfl rfl)
theorem dX1_init_167 : decode cX1_init 167 = .ok (.putfield 81, 3) := dk_181 0 81 (dk_at dksX1_init_7 8 rfl rfl)
theorem dX1_init_170 : decode cX1_init 170 = .ok (.aload_n 0, 1) := dk_42 (dk_at dksX1_init_7 11 rfl rfl)
theorem dX1_init_171 : decode cX1_init 171 = .ok (.bipush 8, 2) := dk_16 8 (dk_at dksX1_init_7 12 rfl rfl)
theorem dX1_init_173 : decode cX1_init 173 = .ok (.newarray .int, 2) := dk_188_10 (dk_at dksX1_init_7 14 rfl rfl)
theorem dX1_init_175 : decode cX1_init 175 = .ok (.putfield 85, 3) := dk_181 0 85 (dk_at dksX1_init_7 16 rfl rfl)
theorem dX1_init_178 : decode cX1_init 178 = .ok (.aload_n 0, 1) := dk_42 (dk_at dksX1_init_7 19 rfl rfl)
theorem dX1_init_179 : decode cX1_init 179 = .ok (.aload_n 0, 1) := dk_42 (dk_at dksX1_init_7 20 rfl rfl)
theorem dX1_init_180 : decode cX1_init 180 = .ok (.invokevirtual 88, 3) := dk_182 0 88 (dk_at dksX1_init_7 21 rfl rfl)
theorem dX1_init_183 : decode cX1_init 183 = .ok (.putfield 92, 3) := dk_181 0 92 (dk_at dksX1_init_8 0 rfl rfl)
theorem dX1_init_186 : decode cX1_init 186 = .ok (.aload_n 0, 1) := dk_42 (dk_at dksX1_init_8 3 rfl rfl)
theorem dX1_init_187 : decode cX1_init 187 = .ok (.sipush 192, 3) := dk_17 0 192 (dk_at dksX1_init_8 4 rfl rfl)
theorem dX1_init_190 : decode cX1_init 190 = .ok (.newarray .boolean, 2) := dk_188_4 (dk_at dksX1_init_8 7 rfl rfl)
theorem dX1_init_192 : decode cX1_init 192 = .ok (.putfield 96, 3) := dk_181 0 96 (dk_at dksX1_init_8 9 rfl rfl)
theorem dX1_init_195 : decode cX1_init 195 = .ok (.aload_n 0, 1) := dk_42 (dk_at dksX1_init_8 12 rfl rfl)
theorem dX1_init_196 : decode cX1_init 196 = .ok (.bipush 40, 2) := dk_16 40 (dk_at dksX1_init_8 13 rfl rfl)
theorem dX1_init_198 : decode cX1_init 198 = .ok (.newarray .int, 2) := dk_188_10 (dk_at dksX1_init_8 15 rfl rfl)
theorem dX1_init_200 : decode cX1_init 200 = .ok (.putfield 100, 3) := dk_181 0 100 (dk_at dksX1_init_8 17 rfl rfl)
theorem dX1_init_203 : decode cX1_init 203 = .ok (.aload_n 0, 1) := dk_42 (dk_at dksX1_init_8 20 rfl rfl)
theorem dX1_init_204 : decode cX1_init 204 = .ok (.sipush 135, 3) := dk_17 0 135 (dk_at dksX1_init_8 21 rfl rfl)
theorem dX1_init_207 : decode cX1_init 207 = .ok (.newarray .int, 2) := dk_188_10 (dk_at dksX1_init_9 0 rfl rfl)
theorem dX1_init_209 : decode cX1_init 209 = .ok (.putfield 103, 3) := dk_181 0 103 (dk_at dksX1_init_9 2 rfl rfl)
theorem dX1_init_212 : decode cX1_init 212 = .ok (.aload_n 0, 1) := dk_42 (dk_at dksX1_init_9 5 rfl rfl)
theorem dX1_init_213 : decode cX1_init 213 = .ok (.bipush 40, 2) := dk_16 40 (dk_at dksX1_init_9 6 rfl rfl)
theorem dX1_init_215 : decode cX1_init 215 = .ok (.newarray .int, 2) := dk_188_10 (dk_at dksX1_init_9 8 rfl rfl)
theorem dX1_init_217 : decode cX1_init 217 = .ok (.putfield 106, 3) := dk_181 0 106 (dk_at dksX1_init_9 10 rfl rfl)
theorem dX1_init_220 : decode cX1_init 220 = .ok (.aload_n 0, 1) := dk_42 (dk_at dksX1_init_9 13 rfl rfl)
theorem dX1_init_221 : decode cX1_init 221 = .ok (.sipush 5400, 3) := dk_17 21 24 (dk_at dksX1_init_9 14 rfl rfl)
theorem dX1_init_224 : decode cX1_init 224 = .ok (.newarray .int, 2) := dk_188_10 (dk_at dksX1_init_9 17 rfl rfl)
theorem dX1_init_226 : decode cX1_init 226 = .ok (.putfield 109, 3) := dk_181 0 109 (dk_at dksX1_init_9 19 rfl rfl)
theorem dX1_init_229 : decode cX1_init 229 = .ok (.aload_n 0, 1) := dk_42 (dk_at dksX1_init_9 22 rfl rfl)
theorem dX1_init_230 : decode cX1_init 230 = .ok (.bipush 40, 2) := dk_16 40 (dk_at dksX1_init_10 0 rfl rfl)
theorem dX1_init_232 : decode cX1_init 232 = .ok (.newarray .int, 2) := dk_188_10 (dk_at dksX1_init_10 2 rfl rfl)
theorem dX1_init_234 : decode cX1_init 234 = .ok (.putfield 112, 3) := dk_181 0 112 (dk_at dksX1_init_10 4 rfl rfl)
theorem dX1_init_237 : decode cX1_init 237 = .ok (.aload_n 0, 1) := dk_42 (dk_at dksX1_init_10 7 rfl rfl)
theorem dX1_init_238 : decode cX1_init 238 = .ok (.sipush 160, 3) := dk_17 0 160 (dk_at dksX1_init_10 8 rfl rfl)
theorem dX1_init_241 : decode cX1_init 241 = .ok (.newarray .int, 2) := dk_188_10 (dk_at dksX1_init_10 11 rfl rfl)
theorem dX1_init_243 : decode cX1_init 243 = .ok (.putfield 115, 3) := dk_181 0 115 (dk_at dksX1_init_10 13 rfl rfl)
theorem dX1_init_246 : decode cX1_init 246 = .ok (.return_, 1) := dk_177 (dk_at dksX1_init_10 16 rfl rfl)
def dkwX1_made_1 : List UInt8 := [83, 132, 2, 1, 167, 255, 236, 43, 176]
abbrev dktX1_made_1 : List UInt8 := dkwX1_made_1 ++ []
def dkwX1_made_0 : List UInt8 := [16, 7, 189, 1, 57, 76, 3, 61, 28, 16, 6, 163, 0, 20, 43, 28, 187, 1, 57, 89, 42, 183, 1, 59]
abbrev dktX1_made_0 : List UInt8 := dkwX1_made_0 ++ dktX1_made_1
theorem dksX1_made_0 : cX1_made.data.toList.drop 0 = dktX1_made_0 := by decide +kernel
theorem dksX1_made_1 : cX1_made.data.toList.drop 24 = dktX1_made_1 := dk_seg dksX1_made_0 24 rfl rfl
theorem dX1_made_0 : decode cX1_made 0 = .ok (.bipush 7, 2) := dk_16 7 (dk_at dksX1_made_0 0 rfl rfl)
theorem dX1_made_2 : decode cX1_made 2 = .ok (.anewarray 313, 3) := dk_189 1 57 (dk_at dksX1_made_0 2 rfl rfl)
theorem dX1_made_5 : decode cX1_made 5 = .ok (.astore_n 1, 1) := dk_76 (dk_at dksX1_made_0 5 rfl rfl)
theorem dX1_made_6 : decode cX1_made 6 = .ok (.iconst 0, 1) := dk_3 (dk_at dksX1_made_0 6 rfl rfl)
theorem dX1_made_7 : decode cX1_made 7 = .ok (.istore_n 2, 1) := dk_61 (dk_at dksX1_made_0 7 rfl rfl)
theorem dX1_made_8 : decode cX1_made 8 = .ok (.iload_n 2, 1) := dk_28 (dk_at dksX1_made_0 8 rfl rfl)
theorem dX1_made_9 : decode cX1_made 9 = .ok (.bipush 6, 2) := dk_16 6 (dk_at dksX1_made_0 9 rfl rfl)
theorem dX1_made_11 : decode cX1_made 11 = .ok (.if_icmp .gt 20, 3) := dk_163 0 20 (dk_at dksX1_made_0 11 rfl rfl)
theorem dX1_made_14 : decode cX1_made 14 = .ok (.aload_n 1, 1) := dk_43 (dk_at dksX1_made_0 14 rfl rfl)
theorem dX1_made_15 : decode cX1_made 15 = .ok (.iload_n 2, 1) := dk_28 (dk_at dksX1_made_0 15 rfl rfl)
theorem dX1_made_16 : decode cX1_made 16 = .ok (.new 313, 3) := dk_187 1 57 (dk_at dksX1_made_0 16 rfl rfl)
theorem dX1_made_19 : decode cX1_made 19 = .ok (.dup, 1) := dk_89 (dk_at dksX1_made_0 19 rfl rfl)
theorem dX1_made_20 : decode cX1_made 20 = .ok (.aload_n 0, 1) := dk_42 (dk_at dksX1_made_0 20 rfl rfl)
theorem dX1_made_21 : decode cX1_made 21 = .ok (.invokespecial 315, 3) := dk_183 1 59 (dk_at dksX1_made_0 21 rfl rfl)
theorem dX1_made_24 : decode cX1_made 24 = .ok (.aastore, 1) := dk_83 (dk_at dksX1_made_1 0 rfl rfl)
theorem dX1_made_25 : decode cX1_made 25 = .ok (.iinc 2 1, 3) := dk_132 2 1 (dk_at dksX1_made_1 1 rfl rfl)
theorem dX1_made_28 : decode cX1_made 28 = .ok (.goto (-20), 3) := dk_167 255 236 (dk_at dksX1_made_1 4 rfl rfl)
theorem dX1_made_31 : decode cX1_made 31 = .ok (.aload_n 1, 1) := dk_43 (dk_at dksX1_made_1 7 rfl rfl)
theorem dX1_made_32 : decode cX1_made 32 = .ok (.areturn, 1) := dk_176 (dk_at dksX1_made_1 8 rfl rfl)
def dkwX1_day_1 : List UInt8 := [42, 89, 180, 0, 118, 27, 96, 181, 0, 118, 42, 180, 0, 118, 172]
abbrev dktX1_day_1 : List UInt8 := dkwX1_day_1 ++ []
def dkwX1_day_0 : List UInt8 := [27, 3, 17, 3, 232, 184, 0, 3, 153, 0, 14, 42, 180, 0, 118, 27, 96, 18, 125, 164, 0, 5, 2, 172]
abbrev dktX1_day_0 : List UInt8 := dkwX1_day_0 ++ dktX1_day_1
theorem dksX1_day_0 : cX1_day.data.toList.drop 0 = dktX1_day_0 := by decide +kernel
theorem dksX1_day_1 : cX1_day.data.toList.drop 24 = dktX1_day_1 := dk_seg dksX1_day_0 24 rfl rfl
theorem dX1_day_0 : decode cX1_day 0 = .ok (.iload_n 1, 1) := dk_27 (dk_at dksX1_day_0 0 rfl rfl)
theorem dX1_day_1 : decode cX1_day 1 = .ok (.iconst 0, 1) := dk_3 (dk_at dksX1_day_0 1 rfl rfl)
theorem dX1_day_2 : decode cX1_day 2 = .ok (.sipush 1000, 3) := dk_17 3 232 (dk_at dksX1_day_0 2 rfl rfl)
theorem dX1_day_5 : decode cX1_day 5 = .ok (.invokestatic 3, 3) := dk_184 0 3 (dk_at dksX1_day_0 5 rfl rfl)
theorem dX1_day_8 : decode cX1_day 8 = .ok (.ifCond .eq 14, 3) := dk_153 0 14 (dk_at dksX1_day_0 8 rfl rfl)
theorem dX1_day_11 : decode cX1_day 11 = .ok (.aload_n 0, 1) := dk_42 (dk_at dksX1_day_0 11 rfl rfl)
theorem dX1_day_12 : decode cX1_day 12 = .ok (.getfield 118, 3) := dk_180 0 118 (dk_at dksX1_day_0 12 rfl rfl)
theorem dX1_day_15 : decode cX1_day 15 = .ok (.iload_n 1, 1) := dk_27 (dk_at dksX1_day_0 15 rfl rfl)
theorem dX1_day_16 : decode cX1_day 16 = .ok (.iadd, 1) := dk_96 (dk_at dksX1_day_0 16 rfl rfl)
theorem dX1_day_17 : decode cX1_day 17 = .ok (.ldc 125, 2) := dk_18 125 (dk_at dksX1_day_0 17 rfl rfl)
theorem dX1_day_19 : decode cX1_day 19 = .ok (.if_icmp .le 5, 3) := dk_164 0 5 (dk_at dksX1_day_0 19 rfl rfl)
theorem dX1_day_22 : decode cX1_day 22 = .ok (.iconst (-1), 1) := dk_2 (dk_at dksX1_day_0 22 rfl rfl)
theorem dX1_day_23 : decode cX1_day 23 = .ok (.ireturn, 1) := dk_172 (dk_at dksX1_day_0 23 rfl rfl)
theorem dX1_day_24 : decode cX1_day 24 = .ok (.aload_n 0, 1) := dk_42 (dk_at dksX1_day_1 0 rfl rfl)
theorem dX1_day_25 : decode cX1_day 25 = .ok (.dup, 1) := dk_89 (dk_at dksX1_day_1 1 rfl rfl)
theorem dX1_day_26 : decode cX1_day 26 = .ok (.getfield 118, 3) := dk_180 0 118 (dk_at dksX1_day_1 2 rfl rfl)
theorem dX1_day_29 : decode cX1_day 29 = .ok (.iload_n 1, 1) := dk_27 (dk_at dksX1_day_1 5 rfl rfl)
theorem dX1_day_30 : decode cX1_day 30 = .ok (.iadd, 1) := dk_96 (dk_at dksX1_day_1 6 rfl rfl)
theorem dX1_day_31 : decode cX1_day 31 = .ok (.putfield 118, 3) := dk_181 0 118 (dk_at dksX1_day_1 7 rfl rfl)
theorem dX1_day_34 : decode cX1_day 34 = .ok (.aload_n 0, 1) := dk_42 (dk_at dksX1_day_1 10 rfl rfl)
theorem dX1_day_35 : decode cX1_day 35 = .ok (.getfield 118, 3) := dk_180 0 118 (dk_at dksX1_day_1 11 rfl rfl)
theorem dX1_day_38 : decode cX1_day 38 = .ok (.ireturn, 1) := dk_172 (dk_at dksX1_day_1 14 rfl rfl)
def dkwX1_in_0 : List UInt8 := [26, 27, 161, 0, 12, 26, 28, 163, 0, 7, 4, 167, 0, 4, 3, 172]
abbrev dktX1_in_0 : List UInt8 := dkwX1_in_0 ++ []
theorem dksX1_in_0 : cX1_in.data.toList.drop 0 = dktX1_in_0 := by decide +kernel
theorem dX1_in_0 : decode cX1_in 0 = .ok (.iload_n 0, 1) := dk_26 (dk_at dksX1_in_0 0 rfl rfl)
theorem dX1_in_1 : decode cX1_in 1 = .ok (.iload_n 1, 1) := dk_27 (dk_at dksX1_in_0 1 rfl rfl)
theorem dX1_in_2 : decode cX1_in 2 = .ok (.if_icmp .lt 12, 3) := dk_161 0 12 (dk_at dksX1_in_0 2 rfl rfl)
theorem dX1_in_5 : decode cX1_in 5 = .ok (.iload_n 0, 1) := dk_26 (dk_at dksX1_in_0 5 rfl rfl)
theorem dX1_in_6 : decode cX1_in 6 = .ok (.iload_n 2, 1) := dk_28 (dk_at dksX1_in_0 6 rfl rfl)
theorem dX1_in_7 : decode cX1_in 7 = .ok (.if_icmp .gt 7, 3) := dk_163 0 7 (dk_at dksX1_in_0 7 rfl rfl)
theorem dX1_in_10 : decode cX1_in 10 = .ok (.iconst 1, 1) := dk_4 (dk_at dksX1_in_0 10 rfl rfl)
theorem dX1_in_11 : decode cX1_in 11 = .ok (.goto 4, 3) := dk_167 0 4 (dk_at dksX1_in_0 11 rfl rfl)
theorem dX1_in_14 : decode cX1_in 14 = .ok (.iconst 0, 1) := dk_3 (dk_at dksX1_in_0 14 rfl rfl)
theorem dX1_in_15 : decode cX1_in 15 = .ok (.ireturn, 1) := dk_172 (dk_at dksX1_in_0 15 rfl rfl)
def dkwX1_feed_4 : List UInt8 := [122, 145, 84, 42, 89, 180, 0, 126, 4, 96, 181, 0, 126, 132, 6, 1, 167, 255, 165, 42, 180, 0, 126, 172]
abbrev dktX1_feed_4 : List UInt8 := dkwX1_feed_4 ++ []
def dkwX1_feed_3 : List UInt8 := [21, 5, 54, 7, 42, 180, 0, 65, 42, 180, 0, 126, 21, 7, 16, 24, 16, 8, 21, 6, 6, 126, 104, 100]
abbrev dktX1_feed_3 : List UInt8 := dkwX1_feed_3 ++ dktX1_feed_4
def dkwX1_feed_2 : List UInt8 := [21, 6, 16, 12, 162, 0, 7, 29, 167, 0, 17, 21, 6, 16, 16, 162, 0, 8, 21, 4, 167, 0, 5]
abbrev dktX1_feed_2 : List UInt8 := dkwX1_feed_2 ++ dktX1_feed_3
def dkwX1_feed_1 : List UInt8 := [162, 0, 90, 21, 6, 7, 162, 0, 7, 27, 167, 0, 39, 21, 6, 16, 8, 162, 0, 7, 28, 167, 0, 28]
abbrev dktX1_feed_1 : List UInt8 := dkwX1_feed_1 ++ dktX1_feed_2
def dkwX1_feed_0 : List UInt8 := [42, 180, 0, 126, 16, 20, 96, 17, 1, 44, 164, 0, 5, 2, 172, 3, 54, 6, 21, 6, 16, 20]
abbrev dktX1_feed_0 : List UInt8 := dkwX1_feed_0 ++ dktX1_feed_1
theorem dksX1_feed_0 : cX1_feed.data.toList.drop 0 = dktX1_feed_0 := by decide +kernel
theorem dksX1_feed_1 : cX1_feed.data.toList.drop 22 = dktX1_feed_1 := dk_seg dksX1_feed_0 22 rfl rfl
theorem dksX1_feed_2 : cX1_feed.data.toList.drop 46 = dktX1_feed_2 := dk_seg dksX1_feed_1 24 rfl rfl
theorem dksX1_feed_3 : cX1_feed.data.toList.drop 69 = dktX1_feed_3 := dk_seg dksX1_feed_2 23 rfl rfl
theorem dksX1_feed_4 : cX1_feed.data.toList.drop 93 = dktX1_feed_4 := dk_seg dksX1_feed_3 24 rfl rfl
theorem dX1_feed_0 : decode cX1_feed 0 = .ok (.aload_n 0, 1) := dk_42 (dk_at dksX1_feed_0 0 rfl rfl)
theorem dX1_feed_1 : decode cX1_feed 1 = .ok (.getfield 126, 3) := dk_180 0 126 (dk_at dksX1_feed_0 1 rfl rfl)
theorem dX1_feed_4 : decode cX1_feed 4 = .ok (.bipush 20, 2) := dk_16 20 (dk_at dksX1_feed_0 4 rfl rfl)
theorem dX1_feed_6 : decode cX1_feed 6 = .ok (.iadd, 1) := dk_96 (dk_at dksX1_feed_0 6 rfl rfl)
theorem dX1_feed_7 : decode cX1_feed 7 = .ok (.sipush 300, 3) := dk_17 1 44 (dk_at dksX1_feed_0 7 rfl rfl)
theorem dX1_feed_10 : decode cX1_feed 10 = .ok (.if_icmp .le 5, 3) := dk_164 0 5 (dk_at dksX1_feed_0 10 rfl rfl)
theorem dX1_feed_13 : decode cX1_feed 13 = .ok (.iconst (-1), 1) := dk_2 (dk_at dksX1_feed_0 13 rfl rfl)
theorem dX1_feed_14 : decode cX1_feed 14 = .ok (.ireturn, 1) := dk_172 (dk_at dksX1_feed_0 14 rfl rfl)
theorem dX1_feed_15 : decode cX1_feed 15 = .ok (.iconst 0, 1) := dk_3 (dk_at dksX1_feed_0 15 rfl rfl)
theorem dX1_feed_16 : decode cX1_feed 16 = .ok (.istore 6, 2) := dk_54 6 (dk_at dksX1_feed_0 16 rfl rfl)
theorem dX1_feed_18 : decode cX1_feed 18 = .ok (.iload 6, 2) := dk_21 6 (dk_at dksX1_feed_0 18 rfl rfl)
theorem dX1_feed_20 : decode cX1_feed 20 = .ok (.bipush 20, 2) := dk_16 20 (dk_at dksX1_feed_0 20 rfl rfl)
theorem dX1_feed_22 : decode cX1_feed 22 = .ok (.if_icmp .ge 90, 3) := dk_162 0 90 (dk_at dksX1_feed_1 0 rfl rfl)
theorem dX1_feed_25 : decode cX1_feed 25 = .ok (.iload 6, 2) := dk_21 6 (dk_at dksX1_feed_1 3 rfl rfl)
theorem dX1_feed_27 : decode cX1_feed 27 = .ok (.iconst 4, 1) := dk_7 (dk_at dksX1_feed_1 5 rfl rfl)
theorem dX1_feed_28 : decode cX1_feed 28 = .ok (.if_icmp .ge 7, 3) := dk_162 0 7 (dk_at dksX1_feed_1 6 rfl rfl)
theorem dX1_feed_31 : decode cX1_feed 31 = .ok (.iload_n 1, 1) := dk_27 (dk_at dksX1_feed_1 9 rfl rfl)
theorem dX1_feed_32 : decode cX1_feed 32 = .ok (.goto 39, 3) := dk_167 0 39 (dk_at dksX1_feed_1 10 rfl rfl)
theorem dX1_feed_35 : decode cX1_feed 35 = .ok (.iload 6, 2) := dk_21 6 (dk_at dksX1_feed_1 13 rfl rfl)
theorem dX1_feed_37 : decode cX1_feed 37 = .ok (.bipush 8, 2) := dk_16 8 (dk_at dksX1_feed_1 15 rfl rfl)
theorem dX1_feed_39 : decode cX1_feed 39 = .ok (.if_icmp .ge 7, 3) := dk_162 0 7 (dk_at dksX1_feed_1 17 rfl rfl)
theorem dX1_feed_42 : decode cX1_feed 42 = .ok (.iload_n 2, 1) := dk_28 (dk_at dksX1_feed_1 20 rfl rfl)
theorem dX1_feed_43 : decode cX1_feed 43 = .ok (.goto 28, 3) := dk_167 0 28 (dk_at dksX1_feed_1 21 rfl rfl)
theorem dX1_feed_46 : decode cX1_feed 46 = .ok (.iload 6, 2) := dk_21 6 (dk_at dksX1_feed_2 0 rfl rfl)
theorem dX1_feed_48 : decode cX1_feed 48 = .ok (.bipush 12, 2) := dk_16 12 (dk_at dksX1_feed_2 2 rfl rfl)
theorem dX1_feed_50 : decode cX1_feed 50 = .ok (.if_icmp .ge 7, 3) := dk_162 0 7 (dk_at dksX1_feed_2 4 rfl rfl)
theorem dX1_feed_53 : decode cX1_feed 53 = .ok (.iload_n 3, 1) := dk_29 (dk_at dksX1_feed_2 7 rfl rfl)
theorem dX1_feed_54 : decode cX1_feed 54 = .ok (.goto 17, 3) := dk_167 0 17 (dk_at dksX1_feed_2 8 rfl rfl)
theorem dX1_feed_57 : decode cX1_feed 57 = .ok (.iload 6, 2) := dk_21 6 (dk_at dksX1_feed_2 11 rfl rfl)
theorem dX1_feed_59 : decode cX1_feed 59 = .ok (.bipush 16, 2) := dk_16 16 (dk_at dksX1_feed_2 13 rfl rfl)
theorem dX1_feed_61 : decode cX1_feed 61 = .ok (.if_icmp .ge 8, 3) := dk_162 0 8 (dk_at dksX1_feed_2 15 rfl rfl)
theorem dX1_feed_64 : decode cX1_feed 64 = .ok (.iload 4, 2) := dk_21 4 (dk_at dksX1_feed_2 18 rfl rfl)
theorem dX1_feed_66 : decode cX1_feed 66 = .ok (.goto 5, 3) := dk_167 0 5 (dk_at dksX1_feed_2 20 rfl rfl)
theorem dX1_feed_69 : decode cX1_feed 69 = .ok (.iload 5, 2) := dk_21 5 (dk_at dksX1_feed_3 0 rfl rfl)
theorem dX1_feed_71 : decode cX1_feed 71 = .ok (.istore 7, 2) := dk_54 7 (dk_at dksX1_feed_3 2 rfl rfl)
theorem dX1_feed_73 : decode cX1_feed 73 = .ok (.aload_n 0, 1) := dk_42 (dk_at dksX1_feed_3 4 rfl rfl)
theorem dX1_feed_74 : decode cX1_feed 74 = .ok (.getfield 65, 3) := dk_180 0 65 (dk_at dksX1_feed_3 5 rfl rfl)
theorem dX1_feed_77 : decode cX1_feed 77 = .ok (.aload_n 0, 1) := dk_42 (dk_at dksX1_feed_3 8 rfl rfl)
theorem dX1_feed_78 : decode cX1_feed 78 = .ok (.getfield 126, 3) := dk_180 0 126 (dk_at dksX1_feed_3 9 rfl rfl)
theorem dX1_feed_81 : decode cX1_feed 81 = .ok (.iload 7, 2) := dk_21 7 (dk_at dksX1_feed_3 12 rfl rfl)
theorem dX1_feed_83 : decode cX1_feed 83 = .ok (.bipush 24, 2) := dk_16 24 (dk_at dksX1_feed_3 14 rfl rfl)
theorem dX1_feed_85 : decode cX1_feed 85 = .ok (.bipush 8, 2) := dk_16 8 (dk_at dksX1_feed_3 16 rfl rfl)
theorem dX1_feed_87 : decode cX1_feed 87 = .ok (.iload 6, 2) := dk_21 6 (dk_at dksX1_feed_3 18 rfl rfl)
theorem dX1_feed_89 : decode cX1_feed 89 = .ok (.iconst 3, 1) := dk_6 (dk_at dksX1_feed_3 20 rfl rfl)
theorem dX1_feed_90 : decode cX1_feed 90 = .ok (.iand, 1) := dk_126 (dk_at dksX1_feed_3 21 rfl rfl)
theorem dX1_feed_91 : decode cX1_feed 91 = .ok (.imul, 1) := dk_104 (dk_at dksX1_feed_3 22 rfl rfl)
theorem dX1_feed_92 : decode cX1_feed 92 = .ok (.isub, 1) := dk_100 (dk_at dksX1_feed_3 23 rfl rfl)
theorem dX1_feed_93 : decode cX1_feed 93 = .ok (.ishr, 1) := dk_122 (dk_at dksX1_feed_4 0 rfl rfl)
theorem dX1_feed_94 : decode cX1_feed 94 = .ok (.i2b, 1) := dk_145 (dk_at dksX1_feed_4 1 rfl rfl)
theorem dX1_feed_95 : decode cX1_feed 95 = .ok (.bastore, 1) := dk_84 (dk_at dksX1_feed_4 2 rfl rfl)
theorem dX1_feed_96 : decode cX1_feed 96 = .ok (.aload_n 0, 1) := dk_42 (dk_at dksX1_feed_4 3 rfl rfl)
theorem dX1_feed_97 : decode cX1_feed 97 = .ok (.dup, 1) := dk_89 (dk_at dksX1_feed_4 4 rfl rfl)
theorem dX1_feed_98 : decode cX1_feed 98 = .ok (.getfield 126, 3) := dk_180 0 126 (dk_at dksX1_feed_4 5 rfl rfl)
theorem dX1_feed_101 : decode cX1_feed 101 = .ok (.iconst 1, 1) := dk_4 (dk_at dksX1_feed_4 8 rfl rfl)
theorem dX1_feed_102 : decode cX1_feed 102 = .ok (.iadd, 1) := dk_96 (dk_at dksX1_feed_4 9 rfl rfl)
theorem dX1_feed_103 : decode cX1_feed 103 = .ok (.putfield 126, 3) := dk_181 0 126 (dk_at dksX1_feed_4 10 rfl rfl)
theorem dX1_feed_106 : decode cX1_feed 106 = .ok (.iinc 6 1, 3) := dk_132 6 1 (dk_at dksX1_feed_4 13 rfl rfl)
theorem dX1_feed_109 : decode cX1_feed 109 = .ok (.goto (-91), 3) := dk_167 255 165 (dk_at dksX1_feed_4 16 rfl rfl)
theorem dX1_feed_112 : decode cX1_feed 112 = .ok (.aload_n 0, 1) := dk_42 (dk_at dksX1_feed_4 19 rfl rfl)
theorem dX1_feed_113 : decode cX1_feed 113 = .ok (.getfield 126, 3) := dk_180 0 126 (dk_at dksX1_feed_4 20 rfl rfl)
theorem dX1_feed_116 : decode cX1_feed 116 = .ok (.ireturn, 1) := dk_172 (dk_at dksX1_feed_4 23 rfl rfl)
def dkwX1_end_0 : List UInt8 := [27, 3, 42, 180, 0, 126, 184, 0, 3, 154, 0, 5, 2, 172, 42, 27, 181, 0, 126, 27, 172]
abbrev dktX1_end_0 : List UInt8 := dkwX1_end_0 ++ []
theorem dksX1_end_0 : cX1_end.data.toList.drop 0 = dktX1_end_0 := by decide +kernel
theorem dX1_end_0 : decode cX1_end 0 = .ok (.iload_n 1, 1) := dk_27 (dk_at dksX1_end_0 0 rfl rfl)
theorem dX1_end_1 : decode cX1_end 1 = .ok (.iconst 0, 1) := dk_3 (dk_at dksX1_end_0 1 rfl rfl)
theorem dX1_end_2 : decode cX1_end 2 = .ok (.aload_n 0, 1) := dk_42 (dk_at dksX1_end_0 2 rfl rfl)
theorem dX1_end_3 : decode cX1_end 3 = .ok (.getfield 126, 3) := dk_180 0 126 (dk_at dksX1_end_0 3 rfl rfl)
theorem dX1_end_6 : decode cX1_end 6 = .ok (.invokestatic 3, 3) := dk_184 0 3 (dk_at dksX1_end_0 6 rfl rfl)
theorem dX1_end_9 : decode cX1_end 9 = .ok (.ifCond .ne 5, 3) := dk_154 0 5 (dk_at dksX1_end_0 9 rfl rfl)
theorem dX1_end_12 : decode cX1_end 12 = .ok (.iconst (-1), 1) := dk_2 (dk_at dksX1_end_0 12 rfl rfl)
theorem dX1_end_13 : decode cX1_end 13 = .ok (.ireturn, 1) := dk_172 (dk_at dksX1_end_0 13 rfl rfl)
theorem dX1_end_14 : decode cX1_end 14 = .ok (.aload_n 0, 1) := dk_42 (dk_at dksX1_end_0 14 rfl rfl)
theorem dX1_end_15 : decode cX1_end 15 = .ok (.iload_n 1, 1) := dk_27 (dk_at dksX1_end_0 15 rfl rfl)
theorem dX1_end_16 : decode cX1_end 16 = .ok (.putfield 126, 3) := dk_181 0 126 (dk_at dksX1_end_0 16 rfl rfl)
theorem dX1_end_19 : decode cX1_end 19 = .ok (.iload_n 1, 1) := dk_27 (dk_at dksX1_end_0 19 rfl rfl)
theorem dX1_end_20 : decode cX1_end 20 = .ok (.ireturn, 1) := dk_172 (dk_at dksX1_end_0 20 rfl rfl)
def dkwX1_tablet_3 : List UInt8 := [182, 0, 156, 172]
abbrev dktX1_tablet_3 : List UInt8 := dkwX1_tablet_3 ++ []
def dkwX1_tablet_2 : List UInt8 := [182, 0, 145, 183, 0, 149, 182, 0, 152, 87, 42, 180, 0, 26, 182, 0, 121, 4, 100, 172, 76, 42, 43]
abbrev dktX1_tablet_2 : List UInt8 := dkwX1_tablet_2 ++ dktX1_tablet_3
def dkwX1_tablet_1 : List UInt8 := [187, 0, 135, 89, 42, 180, 0, 118, 187, 0, 137, 89, 42, 180, 0, 65, 42, 182, 0, 139, 183, 0, 142]
abbrev dktX1_tablet_1 : List UInt8 := dkwX1_tablet_1 ++ dktX1_tablet_2
def dkwX1_tablet_0 : List UInt8 := [42, 180, 0, 26, 182, 0, 121, 16, 24, 160, 0, 5, 2, 172, 42, 2, 181, 0, 72, 42, 180, 0, 26]
abbrev dktX1_tablet_0 : List UInt8 := dkwX1_tablet_0 ++ dktX1_tablet_1
theorem dksX1_tablet_0 : cX1_tablet.data.toList.drop 0 = dktX1_tablet_0 := by decide +kernel
theorem dksX1_tablet_1 : cX1_tablet.data.toList.drop 23 = dktX1_tablet_1 := dk_seg dksX1_tablet_0 23 rfl rfl
theorem dksX1_tablet_2 : cX1_tablet.data.toList.drop 46 = dktX1_tablet_2 := dk_seg dksX1_tablet_1 23 rfl rfl
theorem dksX1_tablet_3 : cX1_tablet.data.toList.drop 69 = dktX1_tablet_3 := dk_seg dksX1_tablet_2 23 rfl rfl
theorem dX1_tablet_0 : decode cX1_tablet 0 = .ok (.aload_n 0, 1) := dk_42 (dk_at dksX1_tablet_0 0 rfl rfl)
theorem dX1_tablet_1 : decode cX1_tablet 1 = .ok (.getfield 26, 3) := dk_180 0 26 (dk_at dksX1_tablet_0 1 rfl rfl)
theorem dX1_tablet_4 : decode cX1_tablet 4 = .ok (.invokevirtual 121, 3) := dk_182 0 121 (dk_at dksX1_tablet_0 4 rfl rfl)
theorem dX1_tablet_7 : decode cX1_tablet 7 = .ok (.bipush 24, 2) := dk_16 24 (dk_at dksX1_tablet_0 7 rfl rfl)
theorem dX1_tablet_9 : decode cX1_tablet 9 = .ok (.if_icmp .ne 5, 3) := dk_160 0 5 (dk_at dksX1_tablet_0 9 rfl rfl)
theorem dX1_tablet_12 : decode cX1_tablet 12 = .ok (.iconst (-1), 1) := dk_2 (dk_at dksX1_tablet_0 12 rfl rfl)
theorem dX1_tablet_13 : decode cX1_tablet 13 = .ok (.ireturn, 1) := dk_172 (dk_at dksX1_tablet_0 13 rfl rfl)
theorem dX1_tablet_14 : decode cX1_tablet 14 = .ok (.aload_n 0, 1) := dk_42 (dk_at dksX1_tablet_0 14 rfl rfl)
theorem dX1_tablet_15 : decode cX1_tablet 15 = .ok (.iconst (-1), 1) := dk_2 (dk_at dksX1_tablet_0 15 rfl rfl)
theorem dX1_tablet_16 : decode cX1_tablet 16 = .ok (.putfield 72, 3) := dk_181 0 72 (dk_at dksX1_tablet_0 16 rfl rfl)
theorem dX1_tablet_19 : decode cX1_tablet 19 = .ok (.aload_n 0, 1) := dk_42 (dk_at dksX1_tablet_0 19 rfl rfl)
theorem dX1_tablet_20 : decode cX1_tablet 20 = .ok (.getfield 26, 3) := dk_180 0 26 (dk_at dksX1_tablet_0 20 rfl rfl)
theorem dX1_tablet_23 : decode cX1_tablet 23 = .ok (.new 135, 3) := dk_187 0 135 (dk_at dksX1_tablet_1 0 rfl rfl)
theorem dX1_tablet_26 : decode cX1_tablet 26 = .ok (.dup, 1) := dk_89 (dk_at dksX1_tablet_1 3 rfl rfl)
theorem dX1_tablet_27 : decode cX1_tablet 27 = .ok (.aload_n 0, 1) := dk_42 (dk_at dksX1_tablet_1 4 rfl rfl)
theorem dX1_tablet_28 : decode cX1_tablet 28 = .ok (.getfield 118, 3) := dk_180 0 118 (dk_at dksX1_tablet_1 5 rfl rfl)
theorem dX1_tablet_31 : decode cX1_tablet 31 = .ok (.new 137, 3) := dk_187 0 137 (dk_at dksX1_tablet_1 8 rfl rfl)
theorem dX1_tablet_34 : decode cX1_tablet 34 = .ok (.dup, 1) := dk_89 (dk_at dksX1_tablet_1 11 rfl rfl)
theorem dX1_tablet_35 : decode cX1_tablet 35 = .ok (.aload_n 0, 1) := dk_42 (dk_at dksX1_tablet_1 12 rfl rfl)
theorem dX1_tablet_36 : decode cX1_tablet 36 = .ok (.getfield 65, 3) := dk_180 0 65 (dk_at dksX1_tablet_1 13 rfl rfl)
theorem dX1_tablet_39 : decode cX1_tablet 39 = .ok (.aload_n 0, 1) := dk_42 (dk_at dksX1_tablet_1 16 rfl rfl)
theorem dX1_tablet_40 : decode cX1_tablet 40 = .ok (.invokevirtual 139, 3) := dk_182 0 139 (dk_at dksX1_tablet_1 17 rfl rfl)
theorem dX1_tablet_43 : decode cX1_tablet 43 = .ok (.invokespecial 142, 3) := dk_183 0 142 (dk_at dksX1_tablet_1 20 rfl rfl)
theorem dX1_tablet_46 : decode cX1_tablet 46 = .ok (.invokevirtual 145, 3) := dk_182 0 145 (dk_at dksX1_tablet_2 0 rfl rfl)
theorem dX1_tablet_49 : decode cX1_tablet 49 = .ok (.invokespecial 149, 3) := dk_183 0 149 (dk_at dksX1_tablet_2 3 rfl rfl)
theorem dX1_tablet_52 : decode cX1_tablet 52 = .ok (.invokevirtual 152, 3) := dk_182 0 152 (dk_at dksX1_tablet_2 6 rfl rfl)
theorem dX1_tablet_55 : decode cX1_tablet 55 = .ok (.pop, 1) := dk_87 (dk_at dksX1_tablet_2 9 rfl rfl)
theorem dX1_tablet_56 : decode cX1_tablet 56 = .ok (.aload_n 0, 1) := dk_42 (dk_at dksX1_tablet_2 10 rfl rfl)
theorem dX1_tablet_57 : decode cX1_tablet 57 = .ok (.getfield 26, 3) := dk_180 0 26 (dk_at dksX1_tablet_2 11 rfl rfl)
theorem dX1_tablet_60 : decode cX1_tablet 60 = .ok (.invokevirtual 121, 3) := dk_182 0 121 (dk_at dksX1_tablet_2 14 rfl rfl)
theorem dX1_tablet_63 : decode cX1_tablet 63 = .ok (.iconst 1, 1) := dk_4 (dk_at dksX1_tablet_2 17 rfl rfl)
theorem dX1_tablet_64 : decode cX1_tablet 64 = .ok (.isub, 1) := dk_100 (dk_at dksX1_tablet_2 18 rfl rfl)
theorem dX1_tablet_65 : decode cX1_tablet 65 = .ok (.ireturn, 1) := dk_172 (dk_at dksX1_tablet_2 19 rfl rfl)
theorem dX1_tablet_66 : decode cX1_tablet 66 = .ok (.astore_n 1, 1) := dk_76 (dk_at dksX1_tablet_2 20 rfl rfl)
theorem dX1_tablet_67 : decode cX1_tablet 67 = .ok (.aload_n 0, 1) := dk_42 (dk_at dksX1_tablet_2 21 rfl rfl)
theorem dX1_tablet_68 : decode cX1_tablet 68 = .ok (.aload_n 1, 1) := dk_43 (dk_at dksX1_tablet_2 22 rfl rfl)
theorem dX1_tablet_69 : decode cX1_tablet 69 = .ok (.invokevirtual 156, 3) := dk_182 0 156 (dk_at dksX1_tablet_3 0 rfl rfl)
theorem dX1_tablet_72 : decode cX1_tablet 72 = .ok (.ireturn, 1) := dk_172 (dk_at dksX1_tablet_3 3 rfl rfl)
def dkwX1_takes_0 : List UInt8 := [42, 180, 0, 126, 60, 42, 3, 181, 0, 126, 27, 172]
abbrev dktX1_takes_0 : List UInt8 := dkwX1_takes_0 ++ []
theorem dksX1_takes_0 : cX1_takes.data.toList.drop 0 = dktX1_takes_0 := by decide +kernel
theorem dX1_takes_0 : decode cX1_takes 0 = .ok (.aload_n 0, 1) := dk_42 (dk_at dksX1_takes_0 0 rfl rfl)
theorem dX1_takes_1 : decode cX1_takes 1 = .ok (.getfield 126, 3) := dk_180 0 126 (dk_at dksX1_takes_0 1 rfl rfl)
theorem dX1_takes_4 : decode cX1_takes 4 = .ok (.istore_n 1, 1) := dk_60 (dk_at dksX1_takes_0 4 rfl rfl)
theorem dX1_takes_5 : decode cX1_takes 5 = .ok (.aload_n 0, 1) := dk_42 (dk_at dksX1_takes_0 5 rfl rfl)
theorem dX1_takes_6 : decode cX1_takes 6 = .ok (.iconst 0, 1) := dk_3 (dk_at dksX1_takes_0 6 rfl rfl)
theorem dX1_takes_7 : decode cX1_takes 7 = .ok (.putfield 126, 3) := dk_181 0 126 (dk_at dksX1_takes_0 7 rfl rfl)
theorem dX1_takes_10 : decode cX1_takes 10 = .ok (.iload_n 1, 1) := dk_27 (dk_at dksX1_takes_0 10 rfl rfl)
theorem dX1_takes_11 : decode cX1_takes 11 = .ok (.ireturn, 1) := dk_172 (dk_at dksX1_takes_0 11 rfl rfl)
def dkwX1_wrong_0 : List UInt8 := [42, 43, 180, 0, 129, 181, 0, 72, 2, 43, 180, 0, 132, 100, 172]
abbrev dktX1_wrong_0 : List UInt8 := dkwX1_wrong_0 ++ []
theorem dksX1_wrong_0 : cX1_wrong.data.toList.drop 0 = dktX1_wrong_0 := by decide +kernel
theorem dX1_wrong_0 : decode cX1_wrong 0 = .ok (.aload_n 0, 1) := dk_42 (dk_at dksX1_wrong_0 0 rfl rfl)
theorem dX1_wrong_1 : decode cX1_wrong 1 = .ok (.aload_n 1, 1) := dk_43 (dk_at dksX1_wrong_0 1 rfl rfl)
theorem dX1_wrong_2 : decode cX1_wrong 2 = .ok (.getfield 129, 3) := dk_180 0 129 (dk_at dksX1_wrong_0 2 rfl rfl)
theorem dX1_wrong_5 : decode cX1_wrong 5 = .ok (.putfield 72, 3) := dk_181 0 72 (dk_at dksX1_wrong_0 5 rfl rfl)
theorem dX1_wrong_8 : decode cX1_wrong 8 = .ok (.iconst (-1), 1) := dk_2 (dk_at dksX1_wrong_0 8 rfl rfl)
theorem dX1_wrong_9 : decode cX1_wrong 9 = .ok (.aload_n 1, 1) := dk_43 (dk_at dksX1_wrong_0 9 rfl rfl)
theorem dX1_wrong_10 : decode cX1_wrong 10 = .ok (.getfield 132, 3) := dk_180 0 132 (dk_at dksX1_wrong_0 10 rfl rfl)
theorem dX1_wrong_13 : decode cX1_wrong 13 = .ok (.isub, 1) := dk_100 (dk_at dksX1_wrong_0 13 rfl rfl)
theorem dX1_wrong_14 : decode cX1_wrong 14 = .ok (.ireturn, 1) := dk_172 (dk_at dksX1_wrong_0 14 rfl rfl)
def dkwX1_rules_2 : List UInt8 := [182, 0, 152, 87, 43, 180, 0, 166, 182, 0, 121, 172, 76, 42, 43, 182, 0, 156, 172]
abbrev dktX1_rules_2 : List UInt8 := dkwX1_rules_2 ++ []
def dkwX1_rules_1 : List UInt8 := [180, 0, 65, 42, 182, 0, 139, 183, 0, 162, 42, 180, 0, 118, 182, 0, 163, 76, 42, 180, 0, 30, 43]
abbrev dktX1_rules_1 : List UInt8 := dkwX1_rules_1 ++ dktX1_rules_2
def dkwX1_rules_0 : List UInt8 := [42, 180, 0, 30, 182, 0, 121, 16, 10, 160, 0, 5, 2, 172, 42, 2, 181, 0, 72, 187, 0, 160, 89, 42]
abbrev dktX1_rules_0 : List UInt8 := dkwX1_rules_0 ++ dktX1_rules_1
theorem dksX1_rules_0 : cX1_rules.data.toList.drop 0 = dktX1_rules_0 := by decide +kernel
theorem dksX1_rules_1 : cX1_rules.data.toList.drop 24 = dktX1_rules_1 := dk_seg dksX1_rules_0 24 rfl rfl
theorem dksX1_rules_2 : cX1_rules.data.toList.drop 47 = dktX1_rules_2 := dk_seg dksX1_rules_1 23 rfl rfl
theorem dX1_rules_0 : decode cX1_rules 0 = .ok (.aload_n 0, 1) := dk_42 (dk_at dksX1_rules_0 0 rfl rfl)
theorem dX1_rules_1 : decode cX1_rules 1 = .ok (.getfield 30, 3) := dk_180 0 30 (dk_at dksX1_rules_0 1 rfl rfl)
theorem dX1_rules_4 : decode cX1_rules 4 = .ok (.invokevirtual 121, 3) := dk_182 0 121 (dk_at dksX1_rules_0 4 rfl rfl)
theorem dX1_rules_7 : decode cX1_rules 7 = .ok (.bipush 10, 2) := dk_16 10 (dk_at dksX1_rules_0 7 rfl rfl)
theorem dX1_rules_9 : decode cX1_rules 9 = .ok (.if_icmp .ne 5, 3) := dk_160 0 5 (dk_at dksX1_rules_0 9 rfl rfl)
theorem dX1_rules_12 : decode cX1_rules 12 = .ok (.iconst (-1), 1) := dk_2 (dk_at dksX1_rules_0 12 rfl rfl)
theorem dX1_rules_13 : decode cX1_rules 13 = .ok (.ireturn, 1) := dk_172 (dk_at dksX1_rules_0 13 rfl rfl)
theorem dX1_rules_14 : decode cX1_rules 14 = .ok (.aload_n 0, 1) := dk_42 (dk_at dksX1_rules_0 14 rfl rfl)
theorem dX1_rules_15 : decode cX1_rules 15 = .ok (.iconst (-1), 1) := dk_2 (dk_at dksX1_rules_0 15 rfl rfl)
theorem dX1_rules_16 : decode cX1_rules 16 = .ok (.putfield 72, 3) := dk_181 0 72 (dk_at dksX1_rules_0 16 rfl rfl)
theorem dX1_rules_19 : decode cX1_rules 19 = .ok (.new 160, 3) := dk_187 0 160 (dk_at dksX1_rules_0 19 rfl rfl)
theorem dX1_rules_22 : decode cX1_rules 22 = .ok (.dup, 1) := dk_89 (dk_at dksX1_rules_0 22 rfl rfl)
theorem dX1_rules_23 : decode cX1_rules 23 = .ok (.aload_n 0, 1) := dk_42 (dk_at dksX1_rules_0 23 rfl rfl)
theorem dX1_rules_24 : decode cX1_rules 24 = .ok (.getfield 65, 3) := dk_180 0 65 (dk_at dksX1_rules_1 0 rfl rfl)
theorem dX1_rules_27 : decode cX1_rules 27 = .ok (.aload_n 0, 1) := dk_42 (dk_at dksX1_rules_1 3 rfl rfl)
theorem dX1_rules_28 : decode cX1_rules 28 = .ok (.invokevirtual 139, 3) := dk_182 0 139 (dk_at dksX1_rules_1 4 rfl rfl)
theorem dX1_rules_31 : decode cX1_rules 31 = .ok (.invokespecial 162, 3) := dk_183 0 162 (dk_at dksX1_rules_1 7 rfl rfl)
theorem dX1_rules_34 : decode cX1_rules 34 = .ok (.aload_n 0, 1) := dk_42 (dk_at dksX1_rules_1 10 rfl rfl)
theorem dX1_rules_35 : decode cX1_rules 35 = .ok (.getfield 118, 3) := dk_180 0 118 (dk_at dksX1_rules_1 11 rfl rfl)
theorem dX1_rules_38 : decode cX1_rules 38 = .ok (.invokevirtual 163, 3) := dk_182 0 163 (dk_at dksX1_rules_1 14 rfl rfl)
theorem dX1_rules_41 : decode cX1_rules 41 = .ok (.astore_n 1, 1) := dk_76 (dk_at dksX1_rules_1 17 rfl rfl)
theorem dX1_rules_42 : decode cX1_rules 42 = .ok (.aload_n 0, 1) := dk_42 (dk_at dksX1_rules_1 18 rfl rfl)
theorem dX1_rules_43 : decode cX1_rules 43 = .ok (.getfield 30, 3) := dk_180 0 30 (dk_at dksX1_rules_1 19 rfl rfl)
theorem dX1_rules_46 : decode cX1_rules 46 = .ok (.aload_n 1, 1) := dk_43 (dk_at dksX1_rules_1 22 rfl rfl)
theorem dX1_rules_47 : decode cX1_rules 47 = .ok (.invokevirtual 152, 3) := dk_182 0 152 (dk_at dksX1_rules_2 0 rfl rfl)
theorem dX1_rules_50 : decode cX1_rules 50 = .ok (.pop, 1) := dk_87 (dk_at dksX1_rules_2 3 rfl rfl)
theorem dX1_rules_51 : decode cX1_rules 51 = .ok (.aload_n 1, 1) := dk_43 (dk_at dksX1_rules_2 4 rfl rfl)
theorem dX1_rules_52 : decode cX1_rules 52 = .ok (.getfield 166, 3) := dk_180 0 166 (dk_at dksX1_rules_2 5 rfl rfl)
theorem dX1_rules_55 : decode cX1_rules 55 = .ok (.invokevirtual 121, 3) := dk_182 0 121 (dk_at dksX1_rules_2 8 rfl rfl)
theorem dX1_rules_58 : decode cX1_rules 58 = .ok (.ireturn, 1) := dk_172 (dk_at dksX1_rules_2 11 rfl rfl)
theorem dX1_rules_59 : decode cX1_rules 59 = .ok (.astore_n 1, 1) := dk_76 (dk_at dksX1_rules_2 12 rfl rfl)
theorem dX1_rules_60 : decode cX1_rules 60 = .ok (.aload_n 0, 1) := dk_42 (dk_at dksX1_rules_2 13 rfl rfl)
theorem dX1_rules_61 : decode cX1_rules 61 = .ok (.aload_n 1, 1) := dk_43 (dk_at dksX1_rules_2 14 rfl rfl)
theorem dX1_rules_62 : decode cX1_rules 62 = .ok (.invokevirtual 156, 3) := dk_182 0 156 (dk_at dksX1_rules_2 15 rfl rfl)
theorem dX1_rules_65 : decode cX1_rules 65 = .ok (.ireturn, 1) := dk_172 (dk_at dksX1_rules_2 18 rfl rfl)
def dkwX1_vowel_0 : List UInt8 := [18, 7, 26, 182, 0, 9, 172]
abbrev dktX1_vowel_0 : List UInt8 := dkwX1_vowel_0 ++ []
theorem dksX1_vowel_0 : cX1_vowel.data.toList.drop 0 = dktX1_vowel_0 := by decide +kernel
theorem dX1_vowel_0 : decode cX1_vowel 0 = .ok (.ldc 7, 2) := dk_18 7 (dk_at dksX1_vowel_0 0 rfl rfl)
theorem dX1_vowel_2 : decode cX1_vowel 2 = .ok (.iload_n 0, 1) := dk_26 (dk_at dksX1_vowel_0 2 rfl rfl)
theorem dX1_vowel_3 : decode cX1_vowel 3 = .ok (.invokevirtual 9, 3) := dk_182 0 9 (dk_at dksX1_vowel_0 3 rfl rfl)
theorem dX1_vowel_6 : decode cX1_vowel 6 = .ok (.ireturn, 1) := dk_172 (dk_at dksX1_vowel_0 6 rfl rfl)
theorem dX1_place_0 : decode cX1_place 0 = .ok (.aload_n 0, 1) := by decide +kernel
theorem dX1_place_1 : decode cX1_place 1 = .ok (.getfield 72, 3) := by decide +kernel
theorem dX1_place_4 : decode cX1_place 4 = .ok (.ireturn, 1) := by decide +kernel
def dkwX1_away_2 : List UInt8 := [28, 42, 180, 0, 118, 184, 0, 179, 153, 0, 7, 4, 167, 0, 4, 3, 172]
abbrev dktX1_away_2 : List UInt8 := dkwX1_away_2 ++ []
def dkwX1_away_1 : List UInt8 := [42, 180, 0, 33, 28, 42, 180, 0, 118, 184, 0, 179, 167, 0, 28, 27, 5, 160, 0, 22, 42, 180, 0, 36]
abbrev dktX1_away_1 : List UInt8 := dkwX1_away_1 ++ dktX1_away_2
def dkwX1_away_0 : List UInt8 := [27, 154, 0, 18, 42, 180, 0, 26, 28, 42, 180, 0, 118, 184, 0, 179, 167, 0, 48, 27, 4, 160, 0, 18]
abbrev dktX1_away_0 : List UInt8 := dkwX1_away_0 ++ dktX1_away_1
theorem dksX1_away_0 : cX1_away.data.toList.drop 0 = dktX1_away_0 := by decide +kernel
theorem dksX1_away_1 : cX1_away.data.toList.drop 24 = dktX1_away_1 := dk_seg dksX1_away_0 24 rfl rfl
theorem dksX1_away_2 : cX1_away.data.toList.drop 48 = dktX1_away_2 := dk_seg dksX1_away_1 24 rfl rfl
theorem dX1_away_0 : decode cX1_away 0 = .ok (.iload_n 1, 1) := dk_27 (dk_at dksX1_away_0 0 rfl rfl)
theorem dX1_away_1 : decode cX1_away 1 = .ok (.ifCond .ne 18, 3) := dk_154 0 18 (dk_at dksX1_away_0 1 rfl rfl)
theorem dX1_away_4 : decode cX1_away 4 = .ok (.aload_n 0, 1) := dk_42 (dk_at dksX1_away_0 4 rfl rfl)
theorem dX1_away_5 : decode cX1_away 5 = .ok (.getfield 26, 3) := dk_180 0 26 (dk_at dksX1_away_0 5 rfl rfl)
theorem dX1_away_8 : decode cX1_away 8 = .ok (.iload_n 2, 1) := dk_28 (dk_at dksX1_away_0 8 rfl rfl)
theorem dX1_away_9 : decode cX1_away 9 = .ok (.aload_n 0, 1) := dk_42 (dk_at dksX1_away_0 9 rfl rfl)
theorem dX1_away_10 : decode cX1_away 10 = .ok (.getfield 118, 3) := dk_180 0 118 (dk_at dksX1_away_0 10 rfl rfl)
theorem dX1_away_13 : decode cX1_away 13 = .ok (.invokestatic 179, 3) := dk_184 0 179 (dk_at dksX1_away_0 13 rfl rfl)
theorem dX1_away_16 : decode cX1_away 16 = .ok (.goto 48, 3) := dk_167 0 48 (dk_at dksX1_away_0 16 rfl rfl)
theorem dX1_away_19 : decode cX1_away 19 = .ok (.iload_n 1, 1) := dk_27 (dk_at dksX1_away_0 19 rfl rfl)
theorem dX1_away_20 : decode cX1_away 20 = .ok (.iconst 1, 1) := dk_4 (dk_at dksX1_away_0 20 rfl rfl)
theorem dX1_away_21 : decode cX1_away 21 = .ok (.if_icmp .ne 18, 3) := dk_160 0 18 (dk_at dksX1_away_0 21 rfl rfl)
theorem dX1_away_24 : decode cX1_away 24 = .ok (.aload_n 0, 1) := dk_42 (dk_at dksX1_away_1 0 rfl rfl)
theorem dX1_away_25 : decode cX1_away 25 = .ok (.getfield 33, 3) := dk_180 0 33 (dk_at dksX1_away_1 1 rfl rfl)
theorem dX1_away_28 : decode cX1_away 28 = .ok (.iload_n 2, 1) := dk_28 (dk_at dksX1_away_1 4 rfl rfl)
theorem dX1_away_29 : decode cX1_away 29 = .ok (.aload_n 0, 1) := dk_42 (dk_at dksX1_away_1 5 rfl rfl)
theorem dX1_away_30 : decode cX1_away 30 = .ok (.getfield 118, 3) := dk_180 0 118 (dk_at dksX1_away_1 6 rfl rfl)
theorem dX1_away_33 : decode cX1_away 33 = .ok (.invokestatic 179, 3) := dk_184 0 179 (dk_at dksX1_away_1 9 rfl rfl)
theorem dX1_away_36 : decode cX1_away 36 = .ok (.goto 28, 3) := dk_167 0 28 (dk_at dksX1_away_1 12 rfl rfl)
theorem dX1_away_39 : decode cX1_away 39 = .ok (.iload_n 1, 1) := dk_27 (dk_at dksX1_away_1 15 rfl rfl)
theorem dX1_away_40 : decode cX1_away 40 = .ok (.iconst 2, 1) := dk_5 (dk_at dksX1_away_1 16 rfl rfl)
theorem dX1_away_41 : decode cX1_away 41 = .ok (.if_icmp .ne 22, 3) := dk_160 0 22 (dk_at dksX1_away_1 17 rfl rfl)
theorem dX1_away_44 : decode cX1_away 44 = .ok (.aload_n 0, 1) := dk_42 (dk_at dksX1_away_1 20 rfl rfl)
theorem dX1_away_45 : decode cX1_away 45 = .ok (.getfield 36, 3) := dk_180 0 36 (dk_at dksX1_away_1 21 rfl rfl)
theorem dX1_away_48 : decode cX1_away 48 = .ok (.iload_n 2, 1) := dk_28 (dk_at dksX1_away_2 0 rfl rfl)
theorem dX1_away_49 : decode cX1_away 49 = .ok (.aload_n 0, 1) := dk_42 (dk_at dksX1_away_2 1 rfl rfl)
theorem dX1_away_50 : decode cX1_away 50 = .ok (.getfield 118, 3) := dk_180 0 118 (dk_at dksX1_away_2 2 rfl rfl)
theorem dX1_away_53 : decode cX1_away 53 = .ok (.invokestatic 179, 3) := dk_184 0 179 (dk_at dksX1_away_2 5 rfl rfl)
theorem dX1_away_56 : decode cX1_away 56 = .ok (.ifCond .eq 7, 3) := dk_153 0 7 (dk_at dksX1_away_2 8 rfl rfl)
theorem dX1_away_59 : decode cX1_away 59 = .ok (.iconst 1, 1) := dk_4 (dk_at dksX1_away_2 11 rfl rfl)
theorem dX1_away_60 : decode cX1_away 60 = .ok (.goto 4, 3) := dk_167 0 4 (dk_at dksX1_away_2 12 rfl rfl)
theorem dX1_away_63 : decode cX1_away 63 = .ok (.iconst 0, 1) := dk_3 (dk_at dksX1_away_2 15 rfl rfl)
theorem dX1_away_64 : decode cX1_away 64 = .ok (.ireturn, 1) := dk_172 (dk_at dksX1_away_2 16 rfl rfl)
def dkwX1_goesOf_1 : List UInt8 := [182, 0, 175, 153, 0, 7, 4, 167, 0, 4, 3, 172]
abbrev dktX1_goesOf_1 : List UInt8 := dkwX1_goesOf_1 ++ []
def dkwX1_goesOf_0 : List UInt8 := [27, 3, 42, 182, 0, 121, 4, 100, 184, 0, 3, 153, 0, 22, 42, 27, 182, 0, 169, 192, 0, 173, 28]
abbrev dktX1_goesOf_0 : List UInt8 := dkwX1_goesOf_0 ++ dktX1_goesOf_1
theorem dksX1_goesOf_0 : cX1_goesOf.data.toList.drop 0 = dktX1_goesOf_0 := by decide +kernel
theorem dksX1_goesOf_1 : cX1_goesOf.data.toList.drop 23 = dktX1_goesOf_1 := dk_seg dksX1_goesOf_0 23 rfl rfl
theorem dX1_goesOf_0 : decode cX1_goesOf 0 = .ok (.iload_n 1, 1) := dk_27 (dk_at dksX1_goesOf_0 0 rfl rfl)
theorem dX1_goesOf_1 : decode cX1_goesOf 1 = .ok (.iconst 0, 1) := dk_3 (dk_at dksX1_goesOf_0 1 rfl rfl)
theorem dX1_goesOf_2 : decode cX1_goesOf 2 = .ok (.aload_n 0, 1) := dk_42 (dk_at dksX1_goesOf_0 2 rfl rfl)
theorem dX1_goesOf_3 : decode cX1_goesOf 3 = .ok (.invokevirtual 121, 3) := dk_182 0 121 (dk_at dksX1_goesOf_0 3 rfl rfl)
theorem dX1_goesOf_6 : decode cX1_goesOf 6 = .ok (.iconst 1, 1) := dk_4 (dk_at dksX1_goesOf_0 6 rfl rfl)
theorem dX1_goesOf_7 : decode cX1_goesOf 7 = .ok (.isub, 1) := dk_100 (dk_at dksX1_goesOf_0 7 rfl rfl)
theorem dX1_goesOf_8 : decode cX1_goesOf 8 = .ok (.invokestatic 3, 3) := dk_184 0 3 (dk_at dksX1_goesOf_0 8 rfl rfl)
theorem dX1_goesOf_11 : decode cX1_goesOf 11 = .ok (.ifCond .eq 22, 3) := dk_153 0 22 (dk_at dksX1_goesOf_0 11 rfl rfl)
theorem dX1_goesOf_14 : decode cX1_goesOf 14 = .ok (.aload_n 0, 1) := dk_42 (dk_at dksX1_goesOf_0 14 rfl rfl)
theorem dX1_goesOf_15 : decode cX1_goesOf 15 = .ok (.iload_n 1, 1) := dk_27 (dk_at dksX1_goesOf_0 15 rfl rfl)
theorem dX1_goesOf_16 : decode cX1_goesOf 16 = .ok (.invokevirtual 169, 3) := dk_182 0 169 (dk_at dksX1_goesOf_0 16 rfl rfl)
theorem dX1_goesOf_19 : decode cX1_goesOf 19 = .ok (.checkcast 173, 3) := dk_192 0 173 (dk_at dksX1_goesOf_0 19 rfl rfl)
theorem dX1_goesOf_22 : decode cX1_goesOf 22 = .ok (.iload_n 2, 1) := dk_28 (dk_at dksX1_goesOf_0 22 rfl rfl)
theorem dX1_goesOf_23 : decode cX1_goesOf 23 = .ok (.invokevirtual 175, 3) := dk_182 0 175 (dk_at dksX1_goesOf_1 0 rfl rfl)
theorem dX1_goesOf_26 : decode cX1_goesOf 26 = .ok (.ifCond .eq 7, 3) := dk_153 0 7 (dk_at dksX1_goesOf_1 3 rfl rfl)
theorem dX1_goesOf_29 : decode cX1_goesOf 29 = .ok (.iconst 1, 1) := dk_4 (dk_at dksX1_goesOf_1 6 rfl rfl)
theorem dX1_goesOf_30 : decode cX1_goesOf 30 = .ok (.goto 4, 3) := dk_167 0 4 (dk_at dksX1_goesOf_1 7 rfl rfl)
theorem dX1_goesOf_33 : decode cX1_goesOf 33 = .ok (.iconst 0, 1) := dk_3 (dk_at dksX1_goesOf_1 10 rfl rfl)
theorem dX1_goesOf_34 : decode cX1_goesOf 34 = .ok (.ireturn, 1) := dk_172 (dk_at dksX1_goesOf_1 11 rfl rfl)
def dkwX1_trust_1 : List UInt8 := [180, 0, 46, 27, 28, 79, 4, 172]
abbrev dktX1_trust_1 : List UInt8 := dkwX1_trust_1 ++ []
def dkwX1_trust_0 : List UInt8 := [27, 3, 6, 184, 0, 3, 153, 0, 13, 28, 3, 16, 99, 184, 0, 3, 154, 0, 5, 3, 172, 42]
abbrev dktX1_trust_0 : List UInt8 := dkwX1_trust_0 ++ dktX1_trust_1
theorem dksX1_trust_0 : cX1_trust.data.toList.drop 0 = dktX1_trust_0 := by decide +kernel
theorem dksX1_trust_1 : cX1_trust.data.toList.drop 22 = dktX1_trust_1 := dk_seg dksX1_trust_0 22 rfl rfl
theorem dX1_trust_0 : decode cX1_trust 0 = .ok (.iload_n 1, 1) := dk_27 (dk_at dksX1_trust_0 0 rfl rfl)
theorem dX1_trust_1 : decode cX1_trust 1 = .ok (.iconst 0, 1) := dk_3 (dk_at dksX1_trust_0 1 rfl rfl)
theorem dX1_trust_2 : decode cX1_trust 2 = .ok (.iconst 3, 1) := dk_6 (dk_at dksX1_trust_0 2 rfl rfl)
theorem dX1_trust_3 : decode cX1_trust 3 = .ok (.invokestatic 3, 3) := dk_184 0 3 (dk_at dksX1_trust_0 3 rfl rfl)
theorem dX1_trust_6 : decode cX1_trust 6 = .ok (.ifCond .eq 13, 3) := dk_153 0 13 (dk_at dksX1_trust_0 6 rfl rfl)
theorem dX1_trust_9 : decode cX1_trust 9 = .ok (.iload_n 2, 1) := dk_28 (dk_at dksX1_trust_0 9 rfl rfl)
theorem dX1_trust_10 : decode cX1_trust 10 = .ok (.iconst 0, 1) := dk_3 (dk_at dksX1_trust_0 10 rfl rfl)
theorem dX1_trust_11 : decode cX1_trust 11 = .ok (.bipush 99, 2) := dk_16 99 (dk_at dksX1_trust_0 11 rfl rfl)
theorem dX1_trust_13 : decode cX1_trust 13 = .ok (.invokestatic 3, 3) := dk_184 0 3 (dk_at dksX1_trust_0 13 rfl rfl)
theorem dX1_trust_16 : decode cX1_trust 16 = .ok (.ifCond .ne 5, 3) := dk_154 0 5 (dk_at dksX1_trust_0 16 rfl rfl)
theorem dX1_trust_19 : decode cX1_trust 19 = .ok (.iconst 0, 1) := dk_3 (dk_at dksX1_trust_0 19 rfl rfl)
theorem dX1_trust_20 : decode cX1_trust 20 = .ok (.ireturn, 1) := dk_172 (dk_at dksX1_trust_0 20 rfl rfl)
theorem dX1_trust_21 : decode cX1_trust 21 = .ok (.aload_n 0, 1) := dk_42 (dk_at dksX1_trust_0 21 rfl rfl)
theorem dX1_trust_22 : decode cX1_trust 22 = .ok (.getfield 46, 3) := dk_180 0 46 (dk_at dksX1_trust_1 0 rfl rfl)
theorem dX1_trust_25 : decode cX1_trust 25 = .ok (.iload_n 1, 1) := dk_27 (dk_at dksX1_trust_1 3 rfl rfl)
theorem dX1_trust_26 : decode cX1_trust 26 = .ok (.iload_n 2, 1) := dk_28 (dk_at dksX1_trust_1 4 rfl rfl)
theorem dX1_trust_27 : decode cX1_trust 27 = .ok (.iastore, 1) := dk_79 (dk_at dksX1_trust_1 5 rfl rfl)
theorem dX1_trust_28 : decode cX1_trust 28 = .ok (.iconst 1, 1) := dk_4 (dk_at dksX1_trust_1 6 rfl rfl)
theorem dX1_trust_29 : decode cX1_trust 29 = .ok (.ireturn, 1) := dk_172 (dk_at dksX1_trust_1 7 rfl rfl)
def dkwX1_holds_5 : List UInt8 := [4, 96, 181, 0, 186, 4, 172]
abbrev dktX1_holds_5 : List UInt8 := dkwX1_holds_5 ++ []
def dkwX1_holds_4 : List UInt8 := [180, 0, 186, 21, 4, 79, 42, 180, 0, 62, 42, 180, 0, 186, 42, 180, 0, 118, 79, 42, 89, 180, 0, 186]
abbrev dktX1_holds_4 : List UInt8 := dkwX1_holds_4 ++ dktX1_holds_5
def dkwX1_holds_3 : List UInt8 := [184, 0, 189, 79, 42, 180, 0, 56, 42, 180, 0, 186, 28, 29, 184, 0, 195, 79, 42, 180, 0, 59, 42]
abbrev dktX1_holds_3 : List UInt8 := dkwX1_holds_3 ++ dktX1_holds_4
def dkwX1_holds_2 : List UInt8 := [3, 172, 42, 180, 0, 50, 42, 180, 0, 186, 27, 79, 42, 180, 0, 53, 42, 180, 0, 186, 28, 29]
abbrev dktX1_holds_2 : List UInt8 := dkwX1_holds_2 ++ dktX1_holds_3
def dkwX1_holds_1 : List UInt8 := [29, 159, 0, 23, 21, 4, 3, 5, 184, 0, 3, 153, 0, 13, 42, 180, 0, 186, 17, 0, 200, 160, 0, 5]
abbrev dktX1_holds_1 : List UInt8 := dkwX1_holds_1 ++ dktX1_holds_2
def dkwX1_holds_0 : List UInt8 := [27, 3, 6, 184, 0, 3, 153, 0, 42, 28, 184, 0, 183, 153, 0, 35, 29, 184, 0, 183, 153, 0, 28, 28]
abbrev dktX1_holds_0 : List UInt8 := dkwX1_holds_0 ++ dktX1_holds_1
theorem dksX1_holds_0 : cX1_holds.data.toList.drop 0 = dktX1_holds_0 := by decide +kernel
theorem dksX1_holds_1 : cX1_holds.data.toList.drop 24 = dktX1_holds_1 := dk_seg dksX1_holds_0 24 rfl rfl
theorem dksX1_holds_2 : cX1_holds.data.toList.drop 48 = dktX1_holds_2 := dk_seg dksX1_holds_1 24 rfl rfl
theorem dksX1_holds_3 : cX1_holds.data.toList.drop 70 = dktX1_holds_3 := dk_seg dksX1_holds_2 22 rfl rfl
theorem dksX1_holds_4 : cX1_holds.data.toList.drop 93 = dktX1_holds_4 := dk_seg dksX1_holds_3 23 rfl rfl
theorem dksX1_holds_5 : cX1_holds.data.toList.drop 117 = dktX1_holds_5 := dk_seg dksX1_holds_4 24 rfl rfl
theorem dX1_holds_0 : decode cX1_holds 0 = .ok (.iload_n 1, 1) := dk_27 (dk_at dksX1_holds_0 0 rfl rfl)
theorem dX1_holds_1 : decode cX1_holds 1 = .ok (.iconst 0, 1) := dk_3 (dk_at dksX1_holds_0 1 rfl rfl)
theorem dX1_holds_2 : decode cX1_holds 2 = .ok (.iconst 3, 1) := dk_6 (dk_at dksX1_holds_0 2 rfl rfl)
theorem dX1_holds_3 : decode cX1_holds 3 = .ok (.invokestatic 3, 3) := dk_184 0 3 (dk_at dksX1_holds_0 3 rfl rfl)
theorem dX1_holds_6 : decode cX1_holds 6 = .ok (.ifCond .eq 42, 3) := dk_153 0 42 (dk_at dksX1_holds_0 6 rfl rfl)
theorem dX1_holds_9 : decode cX1_holds 9 = .ok (.iload_n 2, 1) := dk_28 (dk_at dksX1_holds_0 9 rfl rfl)
theorem dX1_holds_10 : decode cX1_holds 10 = .ok (.invokestatic 183, 3) := dk_184 0 183 (dk_at dksX1_holds_0 10 rfl rfl)
theorem dX1_holds_13 : decode cX1_holds 13 = .ok (.ifCond .eq 35, 3) := dk_153 0 35 (dk_at dksX1_holds_0 13 rfl rfl)
theorem dX1_holds_16 : decode cX1_holds 16 = .ok (.iload_n 3, 1) := dk_29 (dk_at dksX1_holds_0 16 rfl rfl)
theorem dX1_holds_17 : decode cX1_holds 17 = .ok (.invokestatic 183, 3) := dk_184 0 183 (dk_at dksX1_holds_0 17 rfl rfl)
theorem dX1_holds_20 : decode cX1_holds 20 = .ok (.ifCond .eq 28, 3) := dk_153 0 28 (dk_at dksX1_holds_0 20 rfl rfl)
theorem dX1_holds_23 : decode cX1_holds 23 = .ok (.iload_n 2, 1) := dk_28 (dk_at dksX1_holds_0 23 rfl rfl)
theorem dX1_holds_24 : decode cX1_holds 24 = .ok (.iload_n 3, 1) := dk_29 (dk_at dksX1_holds_1 0 rfl rfl)
theorem dX1_holds_25 : decode cX1_holds 25 = .ok (.if_icmp .eq 23, 3) := dk_159 0 23 (dk_at dksX1_holds_1 1 rfl rfl)
theorem dX1_holds_28 : decode cX1_holds 28 = .ok (.iload 4, 2) := dk_21 4 (dk_at dksX1_holds_1 4 rfl rfl)
theorem dX1_holds_30 : decode cX1_holds 30 = .ok (.iconst 0, 1) := dk_3 (dk_at dksX1_holds_1 6 rfl rfl)
theorem dX1_holds_31 : decode cX1_holds 31 = .ok (.iconst 2, 1) := dk_5 (dk_at dksX1_holds_1 7 rfl rfl)
theorem dX1_holds_32 : decode cX1_holds 32 = .ok (.invokestatic 3, 3) := dk_184 0 3 (dk_at dksX1_holds_1 8 rfl rfl)
theorem dX1_holds_35 : decode cX1_holds 35 = .ok (.ifCond .eq 13, 3) := dk_153 0 13 (dk_at dksX1_holds_1 11 rfl rfl)
theorem dX1_holds_38 : decode cX1_holds 38 = .ok (.aload_n 0, 1) := dk_42 (dk_at dksX1_holds_1 14 rfl rfl)
theorem dX1_holds_39 : decode cX1_holds 39 = .ok (.getfield 186, 3) := dk_180 0 186 (dk_at dksX1_holds_1 15 rfl rfl)
theorem dX1_holds_42 : decode cX1_holds 42 = .ok (.sipush 200, 3) := dk_17 0 200 (dk_at dksX1_holds_1 18 rfl rfl)
theorem dX1_holds_45 : decode cX1_holds 45 = .ok (.if_icmp .ne 5, 3) := dk_160 0 5 (dk_at dksX1_holds_1 21 rfl rfl)
theorem dX1_holds_48 : decode cX1_holds 48 = .ok (.iconst 0, 1) := dk_3 (dk_at dksX1_holds_2 0 rfl rfl)
theorem dX1_holds_49 : decode cX1_holds 49 = .ok (.ireturn, 1) := dk_172 (dk_at dksX1_holds_2 1 rfl rfl)
theorem dX1_holds_50 : decode cX1_holds 50 = .ok (.aload_n 0, 1) := dk_42 (dk_at dksX1_holds_2 2 rfl rfl)
theorem dX1_holds_51 : decode cX1_holds 51 = .ok (.getfield 50, 3) := dk_180 0 50 (dk_at dksX1_holds_2 3 rfl rfl)
theorem dX1_holds_54 : decode cX1_holds 54 = .ok (.aload_n 0, 1) := dk_42 (dk_at dksX1_holds_2 6 rfl rfl)
theorem dX1_holds_55 : decode cX1_holds 55 = .ok (.getfield 186, 3) := dk_180 0 186 (dk_at dksX1_holds_2 7 rfl rfl)
theorem dX1_holds_58 : decode cX1_holds 58 = .ok (.iload_n 1, 1) := dk_27 (dk_at dksX1_holds_2 10 rfl rfl)
theorem dX1_holds_59 : decode cX1_holds 59 = .ok (.iastore, 1) := dk_79 (dk_at dksX1_holds_2 11 rfl rfl)
theorem dX1_holds_60 : decode cX1_holds 60 = .ok (.aload_n 0, 1) := dk_42 (dk_at dksX1_holds_2 12 rfl rfl)
theorem dX1_holds_61 : decode cX1_holds 61 = .ok (.getfield 53, 3) := dk_180 0 53 (dk_at dksX1_holds_2 13 rfl rfl)
theorem dX1_holds_64 : decode cX1_holds 64 = .ok (.aload_n 0, 1) := dk_42 (dk_at dksX1_holds_2 16 rfl rfl)
theorem dX1_holds_65 : decode cX1_holds 65 = .ok (.getfield 186, 3) := dk_180 0 186 (dk_at dksX1_holds_2 17 rfl rfl)
theorem dX1_holds_68 : decode cX1_holds 68 = .ok (.iload_n 2, 1) := dk_28 (dk_at dksX1_holds_2 20 rfl rfl)
theorem dX1_holds_69 : decode cX1_holds 69 = .ok (.iload_n 3, 1) := dk_29 (dk_at dksX1_holds_2 21 rfl rfl)
theorem dX1_holds_70 : decode cX1_holds 70 = .ok (.invokestatic 189, 3) := dk_184 0 189 (dk_at dksX1_holds_3 0 rfl rfl)
theorem dX1_holds_73 : decode cX1_holds 73 = .ok (.iastore, 1) := dk_79 (dk_at dksX1_holds_3 3 rfl rfl)
theorem dX1_holds_74 : decode cX1_holds 74 = .ok (.aload_n 0, 1) := dk_42 (dk_at dksX1_holds_3 4 rfl rfl)
theorem dX1_holds_75 : decode cX1_holds 75 = .ok (.getfield 56, 3) := dk_180 0 56 (dk_at dksX1_holds_3 5 rfl rfl)
theorem dX1_holds_78 : decode cX1_holds 78 = .ok (.aload_n 0, 1) := dk_42 (dk_at dksX1_holds_3 8 rfl rfl)
theorem dX1_holds_79 : decode cX1_holds 79 = .ok (.getfield 186, 3) := dk_180 0 186 (dk_at dksX1_holds_3 9 rfl rfl)
theorem dX1_holds_82 : decode cX1_holds 82 = .ok (.iload_n 2, 1) := dk_28 (dk_at dksX1_holds_3 12 rfl rfl)
theorem dX1_holds_83 : decode cX1_holds 83 = .ok (.iload_n 3, 1) := dk_29 (dk_at dksX1_holds_3 13 rfl rfl)
theorem dX1_holds_84 : decode cX1_holds 84 = .ok (.invokestatic 195, 3) := dk_184 0 195 (dk_at dksX1_holds_3 14 rfl rfl)
theorem dX1_holds_87 : decode cX1_holds 87 = .ok (.iastore, 1) := dk_79 (dk_at dksX1_holds_3 17 rfl rfl)
theorem dX1_holds_88 : decode cX1_holds 88 = .ok (.aload_n 0, 1) := dk_42 (dk_at dksX1_holds_3 18 rfl rfl)
theorem dX1_holds_89 : decode cX1_holds 89 = .ok (.getfield 59, 3) := dk_180 0 59 (dk_at dksX1_holds_3 19 rfl rfl)
theorem dX1_holds_92 : decode cX1_holds 92 = .ok (.aload_n 0, 1) := dk_42 (dk_at dksX1_holds_3 22 rfl rfl)
theorem dX1_holds_93 : decode cX1_holds 93 = .ok (.getfield 186, 3) := dk_180 0 186 (dk_at dksX1_holds_4 0 rfl rfl)
theorem dX1_holds_96 : decode cX1_holds 96 = .ok (.iload 4, 2) := dk_21 4 (dk_at dksX1_holds_4 3 rfl rfl)
theorem dX1_holds_98 : decode cX1_holds 98 = .ok (.iastore, 1) := dk_79 (dk_at dksX1_holds_4 5 rfl rfl)
theorem dX1_holds_99 : decode cX1_holds 99 = .ok (.aload_n 0, 1) := dk_42 (dk_at dksX1_holds_4 6 rfl rfl)
theorem dX1_holds_100 : decode cX1_holds 100 = .ok (.getfield 62, 3) := dk_180 0 62 (dk_at dksX1_holds_4 7 rfl rfl)
theorem dX1_holds_103 : decode cX1_holds 103 = .ok (.aload_n 0, 1) := dk_42 (dk_at dksX1_holds_4 10 rfl rfl)
theorem dX1_holds_104 : decode cX1_holds 104 = .ok (.getfield 186, 3) := dk_180 0 186 (dk_at dksX1_holds_4 11 rfl rfl)
theorem dX1_holds_107 : decode cX1_holds 107 = .ok (.aload_n 0, 1) := dk_42 (dk_at dksX1_holds_4 14 rfl rfl)
theorem dX1_holds_108 : decode cX1_holds 108 = .ok (.getfield 118, 3) := dk_180 0 118 (dk_at dksX1_holds_4 15 rfl rfl)
theorem dX1_holds_111 : decode cX1_holds 111 = .ok (.iastore, 1) := dk_79 (dk_at dksX1_holds_4 18 rfl rfl)
theorem dX1_holds_112 : decode cX1_holds 112 = .ok (.aload_n 0, 1) := dk_42 (dk_at dksX1_holds_4 19 rfl rfl)
theorem dX1_holds_113 : decode cX1_holds 113 = .ok (.dup, 1) := dk_89 (dk_at dksX1_holds_4 20 rfl rfl)
theorem dX1_holds_114 : decode cX1_holds 114 = .ok (.getfield 186, 3) := dk_180 0 186 (dk_at dksX1_holds_4 21 rfl rfl)
theorem dX1_holds_117 : decode cX1_holds 117 = .ok (.iconst 1, 1) := dk_4 (dk_at dksX1_holds_5 0 rfl rfl)
theorem dX1_holds_118 : decode cX1_holds 118 = .ok (.iadd, 1) := dk_96 (dk_at dksX1_holds_5 1 rfl rfl)
theorem dX1_holds_119 : decode cX1_holds 119 = .ok (.putfield 186, 3) := dk_181 0 186 (dk_at dksX1_holds_5 2 rfl rfl)
theorem dX1_holds_122 : decode cX1_holds 122 = .ok (.iconst 1, 1) := dk_4 (dk_at dksX1_holds_5 5 rfl rfl)
theorem dX1_holds_123 : decode cX1_holds 123 = .ok (.ireturn, 1) := dk_172 (dk_at dksX1_holds_5 6 rfl rfl)
def dkwX1_isSign_0 : List UInt8 := [26, 3, 16, 39, 184, 0, 3, 172]
abbrev dktX1_isSign_0 : List UInt8 := dkwX1_isSign_0 ++ []
theorem dksX1_isSign_0 : cX1_isSign.data.toList.drop 0 = dktX1_isSign_0 := by decide +kernel
theorem dX1_isSign_0 : decode cX1_isSign 0 = .ok (.iload_n 0, 1) := dk_26 (dk_at dksX1_isSign_0 0 rfl rfl)
theorem dX1_isSign_1 : decode cX1_isSign 1 = .ok (.iconst 0, 1) := dk_3 (dk_at dksX1_isSign_0 1 rfl rfl)
theorem dX1_isSign_2 : decode cX1_isSign 2 = .ok (.bipush 39, 2) := dk_16 39 (dk_at dksX1_isSign_0 2 rfl rfl)
theorem dX1_isSign_4 : decode cX1_isSign 4 = .ok (.invokestatic 3, 3) := dk_184 0 3 (dk_at dksX1_isSign_0 4 rfl rfl)
theorem dX1_isSign_7 : decode cX1_isSign 7 = .ok (.ireturn, 1) := dk_172 (dk_at dksX1_isSign_0 7 rfl rfl)
def dkwX1_share_3 : List UInt8 := [182, 0, 121, 4, 100, 172]
abbrev dktX1_share_3 : List UInt8 := dkwX1_share_3 ++ []
def dkwX1_share_2 : List UInt8 := [187, 0, 208, 89, 42, 180, 0, 118, 27, 28, 29, 21, 4, 183, 0, 210, 182, 0, 152, 87, 42, 180, 0, 33]
abbrev dktX1_share_2 : List UInt8 := dkwX1_share_2 ++ dktX1_share_3
def dkwX1_share_1 : List UInt8 := [29, 159, 0, 15, 42, 180, 0, 33, 182, 0, 121, 16, 60, 160, 0, 5, 2, 172, 42, 180, 0, 33]
abbrev dktX1_share_1 : List UInt8 := dkwX1_share_1 ++ dktX1_share_2
def dkwX1_share_0 : List UInt8 := [27, 3, 4, 184, 0, 3, 153, 0, 34, 28, 184, 0, 183, 153, 0, 27, 29, 184, 0, 183, 153, 0, 20, 28]
abbrev dktX1_share_0 : List UInt8 := dkwX1_share_0 ++ dktX1_share_1
theorem dksX1_share_0 : cX1_share.data.toList.drop 0 = dktX1_share_0 := by decide +kernel
theorem dksX1_share_1 : cX1_share.data.toList.drop 24 = dktX1_share_1 := dk_seg dksX1_share_0 24 rfl rfl
theorem dksX1_share_2 : cX1_share.data.toList.drop 46 = dktX1_share_2 := dk_seg dksX1_share_1 22 rfl rfl
theorem dksX1_share_3 : cX1_share.data.toList.drop 70 = dktX1_share_3 := dk_seg dksX1_share_2 24 rfl rfl
theorem dX1_share_0 : decode cX1_share 0 = .ok (.iload_n 1, 1) := dk_27 (dk_at dksX1_share_0 0 rfl rfl)
theorem dX1_share_1 : decode cX1_share 1 = .ok (.iconst 0, 1) := dk_3 (dk_at dksX1_share_0 1 rfl rfl)
theorem dX1_share_2 : decode cX1_share 2 = .ok (.iconst 1, 1) := dk_4 (dk_at dksX1_share_0 2 rfl rfl)
theorem dX1_share_3 : decode cX1_share 3 = .ok (.invokestatic 3, 3) := dk_184 0 3 (dk_at dksX1_share_0 3 rfl rfl)
theorem dX1_share_6 : decode cX1_share 6 = .ok (.ifCond .eq 34, 3) := dk_153 0 34 (dk_at dksX1_share_0 6 rfl rfl)
theorem dX1_share_9 : decode cX1_share 9 = .ok (.iload_n 2, 1) := dk_28 (dk_at dksX1_share_0 9 rfl rfl)
theorem dX1_share_10 : decode cX1_share 10 = .ok (.invokestatic 183, 3) := dk_184 0 183 (dk_at dksX1_share_0 10 rfl rfl)
theorem dX1_share_13 : decode cX1_share 13 = .ok (.ifCond .eq 27, 3) := dk_153 0 27 (dk_at dksX1_share_0 13 rfl rfl)
theorem dX1_share_16 : decode cX1_share 16 = .ok (.iload_n 3, 1) := dk_29 (dk_at dksX1_share_0 16 rfl rfl)
theorem dX1_share_17 : decode cX1_share 17 = .ok (.invokestatic 183, 3) := dk_184 0 183 (dk_at dksX1_share_0 17 rfl rfl)
theorem dX1_share_20 : decode cX1_share 20 = .ok (.ifCond .eq 20, 3) := dk_153 0 20 (dk_at dksX1_share_0 20 rfl rfl)
theorem dX1_share_23 : decode cX1_share 23 = .ok (.iload_n 2, 1) := dk_28 (dk_at dksX1_share_0 23 rfl rfl)
theorem dX1_share_24 : decode cX1_share 24 = .ok (.iload_n 3, 1) := dk_29 (dk_at dksX1_share_1 0 rfl rfl)
theorem dX1_share_25 : decode cX1_share 25 = .ok (.if_icmp .eq 15, 3) := dk_159 0 15 (dk_at dksX1_share_1 1 rfl rfl)
theorem dX1_share_28 : decode cX1_share 28 = .ok (.aload_n 0, 1) := dk_42 (dk_at dksX1_share_1 4 rfl rfl)
theorem dX1_share_29 : decode cX1_share 29 = .ok (.getfield 33, 3) := dk_180 0 33 (dk_at dksX1_share_1 5 rfl rfl)
theorem dX1_share_32 : decode cX1_share 32 = .ok (.invokevirtual 121, 3) := dk_182 0 121 (dk_at dksX1_share_1 8 rfl rfl)
theorem dX1_share_35 : decode cX1_share 35 = .ok (.bipush 60, 2) := dk_16 60 (dk_at dksX1_share_1 11 rfl rfl)
theorem dX1_share_37 : decode cX1_share 37 = .ok (.if_icmp .ne 5, 3) := dk_160 0 5 (dk_at dksX1_share_1 13 rfl rfl)
theorem dX1_share_40 : decode cX1_share 40 = .ok (.iconst (-1), 1) := dk_2 (dk_at dksX1_share_1 16 rfl rfl)
theorem dX1_share_41 : decode cX1_share 41 = .ok (.ireturn, 1) := dk_172 (dk_at dksX1_share_1 17 rfl rfl)
theorem dX1_share_42 : decode cX1_share 42 = .ok (.aload_n 0, 1) := dk_42 (dk_at dksX1_share_1 18 rfl rfl)
theorem dX1_share_43 : decode cX1_share 43 = .ok (.getfield 33, 3) := dk_180 0 33 (dk_at dksX1_share_1 19 rfl rfl)
theorem dX1_share_46 : decode cX1_share 46 = .ok (.new 208, 3) := dk_187 0 208 (dk_at dksX1_share_2 0 rfl rfl)
theorem dX1_share_49 : decode cX1_share 49 = .ok (.dup, 1) := dk_89 (dk_at dksX1_share_2 3 rfl rfl)
theorem dX1_share_50 : decode cX1_share 50 = .ok (.aload_n 0, 1) := dk_42 (dk_at dksX1_share_2 4 rfl rfl)
theorem dX1_share_51 : decode cX1_share 51 = .ok (.getfield 118, 3) := dk_180 0 118 (dk_at dksX1_share_2 5 rfl rfl)
theorem dX1_share_54 : decode cX1_share 54 = .ok (.iload_n 1, 1) := dk_27 (dk_at dksX1_share_2 8 rfl rfl)
theorem dX1_share_55 : decode cX1_share 55 = .ok (.iload_n 2, 1) := dk_28 (dk_at dksX1_share_2 9 rfl rfl)
theorem dX1_share_56 : decode cX1_share 56 = .ok (.iload_n 3, 1) := dk_29 (dk_at dksX1_share_2 10 rfl rfl)
theorem dX1_share_57 : decode cX1_share 57 = .ok (.iload 4, 2) := dk_21 4 (dk_at dksX1_share_2 11 rfl rfl)
theorem dX1_share_59 : decode cX1_share 59 = .ok (.invokespecial 210, 3) := dk_183 0 210 (dk_at dksX1_share_2 13 rfl rfl)
theorem dX1_share_62 : decode cX1_share 62 = .ok (.invokevirtual 152, 3) := dk_182 0 152 (dk_at dksX1_share_2 16 rfl rfl)
theorem dX1_share_65 : decode cX1_share 65 = .ok (.pop, 1) := dk_87 (dk_at dksX1_share_2 19 rfl rfl)
theorem dX1_share_66 : decode cX1_share 66 = .ok (.aload_n 0, 1) := dk_42 (dk_at dksX1_share_2 20 rfl rfl)
theorem dX1_share_67 : decode cX1_share 67 = .ok (.getfield 33, 3) := dk_180 0 33 (dk_at dksX1_share_2 21 rfl rfl)
theorem dX1_share_70 : decode cX1_share 70 = .ok (.invokevirtual 121, 3) := dk_182 0 121 (dk_at dksX1_share_3 0 rfl rfl)
theorem dX1_share_73 : decode cX1_share 73 = .ok (.iconst 1, 1) := dk_4 (dk_at dksX1_share_3 3 rfl rfl)
theorem dX1_share_74 : decode cX1_share 74 = .ok (.isub, 1) := dk_100 (dk_at dksX1_share_3 4 rfl rfl)
theorem dX1_share_75 : decode cX1_share 75 = .ok (.ireturn, 1) := dk_172 (dk_at dksX1_share_3 5 rfl rfl)
def dkwX1_sign_1 : List UInt8 := [180, 0, 220, 27, 46, 167, 0, 4, 2, 172]
abbrev dktX1_sign_1 : List UInt8 := dkwX1_sign_1 ++ []
def dkwX1_sign_0 : List UInt8 := [27, 184, 0, 183, 153, 0, 27, 42, 28, 182, 0, 213, 153, 0, 19, 42, 180, 0, 81, 28, 182, 0, 216]
abbrev dktX1_sign_0 : List UInt8 := dkwX1_sign_0 ++ dktX1_sign_1
theorem dksX1_sign_0 : cX1_sign.data.toList.drop 0 = dktX1_sign_0 := by decide +kernel
theorem dksX1_sign_1 : cX1_sign.data.toList.drop 23 = dktX1_sign_1 := dk_seg dksX1_sign_0 23 rfl rfl
theorem dX1_sign_0 : decode cX1_sign 0 = .ok (.iload_n 1, 1) := dk_27 (dk_at dksX1_sign_0 0 rfl rfl)
theorem dX1_sign_1 : decode cX1_sign 1 = .ok (.invokestatic 183, 3) := dk_184 0 183 (dk_at dksX1_sign_0 1 rfl rfl)
theorem dX1_sign_4 : decode cX1_sign 4 = .ok (.ifCond .eq 27, 3) := dk_153 0 27 (dk_at dksX1_sign_0 4 rfl rfl)
theorem dX1_sign_7 : decode cX1_sign 7 = .ok (.aload_n 0, 1) := dk_42 (dk_at dksX1_sign_0 7 rfl rfl)
theorem dX1_sign_8 : decode cX1_sign 8 = .ok (.iload_n 2, 1) := dk_28 (dk_at dksX1_sign_0 8 rfl rfl)
theorem dX1_sign_9 : decode cX1_sign 9 = .ok (.invokevirtual 213, 3) := dk_182 0 213 (dk_at dksX1_sign_0 9 rfl rfl)
theorem dX1_sign_12 : decode cX1_sign 12 = .ok (.ifCond .eq 19, 3) := dk_153 0 19 (dk_at dksX1_sign_0 12 rfl rfl)
theorem dX1_sign_15 : decode cX1_sign 15 = .ok (.aload_n 0, 1) := dk_42 (dk_at dksX1_sign_0 15 rfl rfl)
theorem dX1_sign_16 : decode cX1_sign 16 = .ok (.getfield 81, 3) := dk_180 0 81 (dk_at dksX1_sign_0 16 rfl rfl)
theorem dX1_sign_19 : decode cX1_sign 19 = .ok (.iload_n 2, 1) := dk_28 (dk_at dksX1_sign_0 19 rfl rfl)
theorem dX1_sign_20 : decode cX1_sign 20 = .ok (.invokevirtual 216, 3) := dk_182 0 216 (dk_at dksX1_sign_0 20 rfl rfl)
theorem dX1_sign_23 : decode cX1_sign 23 = .ok (.getfield 220, 3) := dk_180 0 220 (dk_at dksX1_sign_1 0 rfl rfl)
theorem dX1_sign_26 : decode cX1_sign 26 = .ok (.iload_n 1, 1) := dk_27 (dk_at dksX1_sign_1 3 rfl rfl)
theorem dX1_sign_27 : decode cX1_sign 27 = .ok (.iaload, 1) := dk_46 (dk_at dksX1_sign_1 4 rfl rfl)
theorem dX1_sign_28 : decode cX1_sign 28 = .ok (.goto 4, 3) := dk_167 0 4 (dk_at dksX1_sign_1 5 rfl rfl)
theorem dX1_sign_31 : decode cX1_sign 31 = .ok (.iconst (-1), 1) := dk_2 (dk_at dksX1_sign_1 8 rfl rfl)
theorem dX1_sign_32 : decode cX1_sign 32 = .ok (.ireturn, 1) := dk_172 (dk_at dksX1_sign_1 9 rfl rfl)
def dkwX1_isKnown_0 : List UInt8 := [27, 3, 42, 180, 0, 118, 184, 0, 3, 172]
abbrev dktX1_isKnown_0 : List UInt8 := dkwX1_isKnown_0 ++ []
theorem dksX1_isKnown_0 : cX1_isKnown.data.toList.drop 0 = dktX1_isKnown_0 := by decide +kernel
theorem dX1_isKnown_0 : decode cX1_isKnown 0 = .ok (.iload_n 1, 1) := dk_27 (dk_at dksX1_isKnown_0 0 rfl rfl)
theorem dX1_isKnown_1 : decode cX1_isKnown 1 = .ok (.iconst 0, 1) := dk_3 (dk_at dksX1_isKnown_0 1 rfl rfl)
theorem dX1_isKnown_2 : decode cX1_isKnown 2 = .ok (.aload_n 0, 1) := dk_42 (dk_at dksX1_isKnown_0 2 rfl rfl)
theorem dX1_isKnown_3 : decode cX1_isKnown 3 = .ok (.getfield 118, 3) := dk_180 0 118 (dk_at dksX1_isKnown_0 3 rfl rfl)
theorem dX1_isKnown_6 : decode cX1_isKnown 6 = .ok (.invokestatic 3, 3) := dk_184 0 3 (dk_at dksX1_isKnown_0 6 rfl rfl)
theorem dX1_isKnown_9 : decode cX1_isKnown 9 = .ok (.ireturn, 1) := dk_172 (dk_at dksX1_isKnown_0 9 rfl rfl)
def dkwX1_pairs_6 : List UInt8 := [172]
abbrev dktX1_pairs_6 : List UInt8 := dkwX1_pairs_6 ++ []
def dkwX1_pairs_5 : List UInt8 := [180, 0, 81, 180, 0, 220, 28, 46, 42, 180, 0, 81, 180, 0, 220, 29, 46, 182, 0, 230, 167, 0, 4, 3]
abbrev dktX1_pairs_5 : List UInt8 := dkwX1_pairs_5 ++ dktX1_pairs_6
def dkwX1_pairs_4 : List UInt8 := [46, 42, 180, 0, 81, 180, 0, 220, 29, 46, 159, 0, 36, 42, 180, 0, 81, 25, 5, 192, 0, 228, 42]
abbrev dktX1_pairs_4 : List UInt8 := dkwX1_pairs_4 ++ dktX1_pairs_5
def dkwX1_pairs_3 : List UInt8 := [182, 0, 169, 192, 0, 226, 58, 5, 25, 5, 193, 0, 228, 153, 0, 57, 42, 180, 0, 81, 180, 0, 220, 28]
abbrev dktX1_pairs_3 : List UInt8 := dkwX1_pairs_3 ++ dktX1_pairs_4
def dkwX1_pairs_2 : List UInt8 := [182, 0, 121, 4, 100, 184, 0, 3, 154, 0, 5, 2, 172, 42, 180, 0, 81, 180, 0, 223, 180, 0, 166, 27]
abbrev dktX1_pairs_2 : List UInt8 := dkwX1_pairs_2 ++ dktX1_pairs_3
def dkwX1_pairs_1 : List UInt8 := [172, 42, 180, 0, 81, 21, 4, 182, 0, 216, 87, 27, 3, 42, 180, 0, 81, 180, 0, 223, 180, 0, 166]
abbrev dktX1_pairs_1 : List UInt8 := dkwX1_pairs_1 ++ dktX1_pairs_2
def dkwX1_pairs_0 : List UInt8 := [28, 184, 0, 183, 153, 0, 19, 29, 184, 0, 183, 153, 0, 12, 42, 21, 4, 182, 0, 213, 154, 0, 5, 2]
abbrev dktX1_pairs_0 : List UInt8 := dkwX1_pairs_0 ++ dktX1_pairs_1
theorem dksX1_pairs_0 : cX1_pairs.data.toList.drop 0 = dktX1_pairs_0 := by decide +kernel
theorem dksX1_pairs_1 : cX1_pairs.data.toList.drop 24 = dktX1_pairs_1 := dk_seg dksX1_pairs_0 24 rfl rfl
theorem dksX1_pairs_2 : cX1_pairs.data.toList.drop 47 = dktX1_pairs_2 := dk_seg dksX1_pairs_1 23 rfl rfl
theorem dksX1_pairs_3 : cX1_pairs.data.toList.drop 71 = dktX1_pairs_3 := dk_seg dksX1_pairs_2 24 rfl rfl
theorem dksX1_pairs_4 : cX1_pairs.data.toList.drop 95 = dktX1_pairs_4 := dk_seg dksX1_pairs_3 24 rfl rfl
theorem dksX1_pairs_5 : cX1_pairs.data.toList.drop 118 = dktX1_pairs_5 := dk_seg dksX1_pairs_4 23 rfl rfl
theorem dksX1_pairs_6 : cX1_pairs.data.toList.drop 142 = dktX1_pairs_6 := dk_seg dksX1_pairs_5 24 rfl rfl
theorem dX1_pairs_0 : decode cX1_pairs 0 = .ok (.iload_n 2, 1) := dk_28 (dk_at dksX1_pairs_0 0 rfl rfl)
theorem dX1_pairs_1 : decode cX1_pairs 1 = .ok (.invokestatic 183, 3) := dk_184 0 183 (dk_at dksX1_pairs_0 1 rfl rfl)
theorem dX1_pairs_4 : decode cX1_pairs 4 = .ok (.ifCond .eq 19, 3) := dk_153 0 19 (dk_at dksX1_pairs_0 4 rfl rfl)
theorem dX1_pairs_7 : decode cX1_pairs 7 = .ok (.iload_n 3, 1) := dk_29 (dk_at dksX1_pairs_0 7 rfl rfl)
theorem dX1_pairs_8 : decode cX1_pairs 8 = .ok (.invokestatic 183, 3) := dk_184 0 183 (dk_at dksX1_pairs_0 8 rfl rfl)
theorem dX1_pairs_11 : decode cX1_pairs 11 = .ok (.ifCond .eq 12, 3) := dk_153 0 12 (dk_at dksX1_pairs_0 11 rfl rfl)
theorem dX1_pairs_14 : decode cX1_pairs 14 = .ok (.aload_n 0, 1) := dk_42 (dk_at dksX1_pairs_0 14 rfl rfl)
theorem dX1_pairs_15 : decode cX1_pairs 15 = .ok (.iload 4, 2) := dk_21 4 (dk_at dksX1_pairs_0 15 rfl rfl)
theorem dX1_pairs_17 : decode cX1_pairs 17 = .ok (.invokevirtual 213, 3) := dk_182 0 213 (dk_at dksX1_pairs_0 17 rfl rfl)
theorem dX1_pairs_20 : decode cX1_pairs 20 = .ok (.ifCond .ne 5, 3) := dk_154 0 5 (dk_at dksX1_pairs_0 20 rfl rfl)
theorem dX1_pairs_23 : decode cX1_pairs 23 = .ok (.iconst (-1), 1) := dk_2 (dk_at dksX1_pairs_0 23 rfl rfl)
theorem dX1_pairs_24 : decode cX1_pairs 24 = .ok (.ireturn, 1) := dk_172 (dk_at dksX1_pairs_1 0 rfl rfl)
theorem dX1_pairs_25 : decode cX1_pairs 25 = .ok (.aload_n 0, 1) := dk_42 (dk_at dksX1_pairs_1 1 rfl rfl)
theorem dX1_pairs_26 : decode cX1_pairs 26 = .ok (.getfield 81, 3) := dk_180 0 81 (dk_at dksX1_pairs_1 2 rfl rfl)
theorem dX1_pairs_29 : decode cX1_pairs 29 = .ok (.iload 4, 2) := dk_21 4 (dk_at dksX1_pairs_1 5 rfl rfl)
theorem dX1_pairs_31 : decode cX1_pairs 31 = .ok (.invokevirtual 216, 3) := dk_182 0 216 (dk_at dksX1_pairs_1 7 rfl rfl)
theorem dX1_pairs_34 : decode cX1_pairs 34 = .ok (.pop, 1) := dk_87 (dk_at dksX1_pairs_1 10 rfl rfl)
theorem dX1_pairs_35 : decode cX1_pairs 35 = .ok (.iload_n 1, 1) := dk_27 (dk_at dksX1_pairs_1 11 rfl rfl)
theorem dX1_pairs_36 : decode cX1_pairs 36 = .ok (.iconst 0, 1) := dk_3 (dk_at dksX1_pairs_1 12 rfl rfl)
theorem dX1_pairs_37 : decode cX1_pairs 37 = .ok (.aload_n 0, 1) := dk_42 (dk_at dksX1_pairs_1 13 rfl rfl)
theorem dX1_pairs_38 : decode cX1_pairs 38 = .ok (.getfield 81, 3) := dk_180 0 81 (dk_at dksX1_pairs_1 14 rfl rfl)
theorem dX1_pairs_41 : decode cX1_pairs 41 = .ok (.getfield 223, 3) := dk_180 0 223 (dk_at dksX1_pairs_1 17 rfl rfl)
theorem dX1_pairs_44 : decode cX1_pairs 44 = .ok (.getfield 166, 3) := dk_180 0 166 (dk_at dksX1_pairs_1 20 rfl rfl)
theorem dX1_pairs_47 : decode cX1_pairs 47 = .ok (.invokevirtual 121, 3) := dk_182 0 121 (dk_at dksX1_pairs_2 0 rfl rfl)
theorem dX1_pairs_50 : decode cX1_pairs 50 = .ok (.iconst 1, 1) := dk_4 (dk_at dksX1_pairs_2 3 rfl rfl)
theorem dX1_pairs_51 : decode cX1_pairs 51 = .ok (.isub, 1) := dk_100 (dk_at dksX1_pairs_2 4 rfl rfl)
theorem dX1_pairs_52 : decode cX1_pairs 52 = .ok (.invokestatic 3, 3) := dk_184 0 3 (dk_at dksX1_pairs_2 5 rfl rfl)
theorem dX1_pairs_55 : decode cX1_pairs 55 = .ok (.ifCond .ne 5, 3) := dk_154 0 5 (dk_at dksX1_pairs_2 8 rfl rfl)
theorem dX1_pairs_58 : decode cX1_pairs 58 = .ok (.iconst (-1), 1) := dk_2 (dk_at dksX1_pairs_2 11 rfl rfl)
theorem dX1_pairs_59 : decode cX1_pairs 59 = .ok (.ireturn, 1) := dk_172 (dk_at dksX1_pairs_2 12 rfl rfl)
theorem dX1_pairs_60 : decode cX1_pairs 60 = .ok (.aload_n 0, 1) := dk_42 (dk_at dksX1_pairs_2 13 rfl rfl)
theorem dX1_pairs_61 : decode cX1_pairs 61 = .ok (.getfield 81, 3) := dk_180 0 81 (dk_at dksX1_pairs_2 14 rfl rfl)
theorem dX1_pairs_64 : decode cX1_pairs 64 = .ok (.getfield 223, 3) := dk_180 0 223 (dk_at dksX1_pairs_2 17 rfl rfl)
theorem dX1_pairs_67 : decode cX1_pairs 67 = .ok (.getfield 166, 3) := dk_180 0 166 (dk_at dksX1_pairs_2 20 rfl rfl)
theorem dX1_pairs_70 : decode cX1_pairs 70 = .ok (.iload_n 1, 1) := dk_27 (dk_at dksX1_pairs_2 23 rfl rfl)
theorem dX1_pairs_71 : decode cX1_pairs 71 = .ok (.invokevirtual 169, 3) := dk_182 0 169 (dk_at dksX1_pairs_3 0 rfl rfl)
theorem dX1_pairs_74 : decode cX1_pairs 74 = .ok (.checkcast 226, 3) := dk_192 0 226 (dk_at dksX1_pairs_3 3 rfl rfl)
theorem dX1_pairs_77 : decode cX1_pairs 77 = .ok (.astore 5, 2) := dk_58 5 (dk_at dksX1_pairs_3 6 rfl rfl)
theorem dX1_pairs_79 : decode cX1_pairs 79 = .ok (.aload 5, 2) := dk_25 5 (dk_at dksX1_pairs_3 8 rfl rfl)
theorem dX1_pairs_81 : decode cX1_pairs 81 = .ok (.instanceof 228, 3) := dk_193 0 228 (dk_at dksX1_pairs_3 10 rfl rfl)
theorem dX1_pairs_84 : decode cX1_pairs 84 = .ok (.ifCond .eq 57, 3) := dk_153 0 57 (dk_at dksX1_pairs_3 13 rfl rfl)
theorem dX1_pairs_87 : decode cX1_pairs 87 = .ok (.aload_n 0, 1) := dk_42 (dk_at dksX1_pairs_3 16 rfl rfl)
theorem dX1_pairs_88 : decode cX1_pairs 88 = .ok (.getfield 81, 3) := dk_180 0 81 (dk_at dksX1_pairs_3 17 rfl rfl)
theorem dX1_pairs_91 : decode cX1_pairs 91 = .ok (.getfield 220, 3) := dk_180 0 220 (dk_at dksX1_pairs_3 20 rfl rfl)
theorem dX1_pairs_94 : decode cX1_pairs 94 = .ok (.iload_n 2, 1) := dk_28 (dk_at dksX1_pairs_3 23 rfl rfl)
theorem dX1_pairs_95 : decode cX1_pairs 95 = .ok (.iaload, 1) := dk_46 (dk_at dksX1_pairs_4 0 rfl rfl)
theorem dX1_pairs_96 : decode cX1_pairs 96 = .ok (.aload_n 0, 1) := dk_42 (dk_at dksX1_pairs_4 1 rfl rfl)
theorem dX1_pairs_97 : decode cX1_pairs 97 = .ok (.getfield 81, 3) := dk_180 0 81 (dk_at dksX1_pairs_4 2 rfl rfl)
theorem dX1_pairs_100 : decode cX1_pairs 100 = .ok (.getfield 220, 3) := dk_180 0 220 (dk_at dksX1_pairs_4 5 rfl rfl)
theorem dX1_pairs_103 : decode cX1_pairs 103 = .ok (.iload_n 3, 1) := dk_29 (dk_at dksX1_pairs_4 8 rfl rfl)
theorem dX1_pairs_104 : decode cX1_pairs 104 = .ok (.iaload, 1) := dk_46 (dk_at dksX1_pairs_4 9 rfl rfl)
theorem dX1_pairs_105 : decode cX1_pairs 105 = .ok (.if_icmp .eq 36, 3) := dk_159 0 36 (dk_at dksX1_pairs_4 10 rfl rfl)
theorem dX1_pairs_108 : decode cX1_pairs 108 = .ok (.aload_n 0, 1) := dk_42 (dk_at dksX1_pairs_4 13 rfl rfl)
theorem dX1_pairs_109 : decode cX1_pairs 109 = .ok (.getfield 81, 3) := dk_180 0 81 (dk_at dksX1_pairs_4 14 rfl rfl)
theorem dX1_pairs_112 : decode cX1_pairs 112 = .ok (.aload 5, 2) := dk_25 5 (dk_at dksX1_pairs_4 17 rfl rfl)
theorem dX1_pairs_114 : decode cX1_pairs 114 = .ok (.checkcast 228, 3) := dk_192 0 228 (dk_at dksX1_pairs_4 19 rfl rfl)
theorem dX1_pairs_117 : decode cX1_pairs 117 = .ok (.aload_n 0, 1) := dk_42 (dk_at dksX1_pairs_4 22 rfl rfl)
theorem dX1_pairs_118 : decode cX1_pairs 118 = .ok (.getfield 81, 3) := dk_180 0 81 (dk_at dksX1_pairs_5 0 rfl rfl)
theorem dX1_pairs_121 : decode cX1_pairs 121 = .ok (.getfield 220, 3) := dk_180 0 220 (dk_at dksX1_pairs_5 3 rfl rfl)
theorem dX1_pairs_124 : decode cX1_pairs 124 = .ok (.iload_n 2, 1) := dk_28 (dk_at dksX1_pairs_5 6 rfl rfl)
theorem dX1_pairs_125 : decode cX1_pairs 125 = .ok (.iaload, 1) := dk_46 (dk_at dksX1_pairs_5 7 rfl rfl)
theorem dX1_pairs_126 : decode cX1_pairs 126 = .ok (.aload_n 0, 1) := dk_42 (dk_at dksX1_pairs_5 8 rfl rfl)
theorem dX1_pairs_127 : decode cX1_pairs 127 = .ok (.getfield 81, 3) := dk_180 0 81 (dk_at dksX1_pairs_5 9 rfl rfl)
theorem dX1_pairs_130 : decode cX1_pairs 130 = .ok (.getfield 220, 3) := dk_180 0 220 (dk_at dksX1_pairs_5 12 rfl rfl)
theorem dX1_pairs_133 : decode cX1_pairs 133 = .ok (.iload_n 3, 1) := dk_29 (dk_at dksX1_pairs_5 15 rfl rfl)
theorem dX1_pairs_134 : decode cX1_pairs 134 = .ok (.iaload, 1) := dk_46 (dk_at dksX1_pairs_5 16 rfl rfl)
theorem dX1_pairs_135 : decode cX1_pairs 135 = .ok (.invokevirtual 230, 3) := dk_182 0 230 (dk_at dksX1_pairs_5 17 rfl rfl)
theorem dX1_pairs_138 : decode cX1_pairs 138 = .ok (.goto 4, 3) := dk_167 0 4 (dk_at dksX1_pairs_5 20 rfl rfl)
theorem dX1_pairs_141 : decode cX1_pairs 141 = .ok (.iconst 0, 1) := dk_3 (dk_at dksX1_pairs_5 23 rfl rfl)
theorem dX1_pairs_142 : decode cX1_pairs 142 = .ok (.ireturn, 1) := dk_172 (dk_at dksX1_pairs_6 0 rfl rfl)
def dkwX1_links_4 : List UInt8 := [167, 255, 196, 29, 172]
abbrev dktX1_links_4 : List UInt8 := dkwX1_links_4 ++ []
def dkwX1_links_3 : List UInt8 := [182, 0, 243, 51, 153, 0, 7, 4, 167, 0, 4, 3, 96, 62, 132, 5, 1, 167, 255, 215, 132, 4, 1]
abbrev dktX1_links_3 : List UInt8 := dkwX1_links_3 ++ dktX1_links_4
def dkwX1_links_2 : List UInt8 := [16, 40, 162, 0, 40, 29, 42, 180, 0, 81, 180, 0, 240, 42, 180, 0, 81, 27, 21, 4, 21, 5]
abbrev dktX1_links_2 : List UInt8 := dkwX1_links_2 ++ dktX1_links_3
def dkwX1_links_1 : List UInt8 := [182, 0, 237, 87, 3, 62, 3, 54, 4, 21, 4, 16, 40, 162, 0, 59, 21, 4, 4, 96, 54, 5, 21, 5]
abbrev dktX1_links_1 : List UInt8 := dkwX1_links_1 ++ dktX1_links_2
def dkwX1_links_0 : List UInt8 := [27, 184, 0, 234, 153, 0, 11, 42, 28, 182, 0, 213, 154, 0, 5, 2, 172, 42, 180, 0, 81, 28]
abbrev dktX1_links_0 : List UInt8 := dkwX1_links_0 ++ dktX1_links_1
theorem dksX1_links_0 : cX1_links.data.toList.drop 0 = dktX1_links_0 := by decide +kernel
theorem dksX1_links_1 : cX1_links.data.toList.drop 22 = dktX1_links_1 := dk_seg dksX1_links_0 22 rfl rfl
theorem dksX1_links_2 : cX1_links.data.toList.drop 46 = dktX1_links_2 := dk_seg dksX1_links_1 24 rfl rfl
theorem dksX1_links_3 : cX1_links.data.toList.drop 68 = dktX1_links_3 := dk_seg dksX1_links_2 22 rfl rfl
theorem dksX1_links_4 : cX1_links.data.toList.drop 91 = dktX1_links_4 := dk_seg dksX1_links_3 23 rfl rfl
theorem dX1_links_0 : decode cX1_links 0 = .ok (.iload_n 1, 1) := dk_27 (dk_at dksX1_links_0 0 rfl rfl)
theorem dX1_links_1 : decode cX1_links 1 = .ok (.invokestatic 234, 3) := dk_184 0 234 (dk_at dksX1_links_0 1 rfl rfl)
theorem dX1_links_4 : decode cX1_links 4 = .ok (.ifCond .eq 11, 3) := dk_153 0 11 (dk_at dksX1_links_0 4 rfl rfl)
theorem dX1_links_7 : decode cX1_links 7 = .ok (.aload_n 0, 1) := dk_42 (dk_at dksX1_links_0 7 rfl rfl)
theorem dX1_links_8 : decode cX1_links 8 = .ok (.iload_n 2, 1) := dk_28 (dk_at dksX1_links_0 8 rfl rfl)
theorem dX1_links_9 : decode cX1_links 9 = .ok (.invokevirtual 213, 3) := dk_182 0 213 (dk_at dksX1_links_0 9 rfl rfl)
theorem dX1_links_12 : decode cX1_links 12 = .ok (.ifCond .ne 5, 3) := dk_154 0 5 (dk_at dksX1_links_0 12 rfl rfl)
theorem dX1_links_15 : decode cX1_links 15 = .ok (.iconst (-1), 1) := dk_2 (dk_at dksX1_links_0 15 rfl rfl)
theorem dX1_links_16 : decode cX1_links 16 = .ok (.ireturn, 1) := dk_172 (dk_at dksX1_links_0 16 rfl rfl)
theorem dX1_links_17 : decode cX1_links 17 = .ok (.aload_n 0, 1) := dk_42 (dk_at dksX1_links_0 17 rfl rfl)
theorem dX1_links_18 : decode cX1_links 18 = .ok (.getfield 81, 3) := dk_180 0 81 (dk_at dksX1_links_0 18 rfl rfl)
theorem dX1_links_21 : decode cX1_links 21 = .ok (.iload_n 2, 1) := dk_28 (dk_at dksX1_links_0 21 rfl rfl)
theorem dX1_links_22 : decode cX1_links 22 = .ok (.invokevirtual 237, 3) := dk_182 0 237 (dk_at dksX1_links_1 0 rfl rfl)
theorem dX1_links_25 : decode cX1_links 25 = .ok (.pop, 1) := dk_87 (dk_at dksX1_links_1 3 rfl rfl)
theorem dX1_links_26 : decode cX1_links 26 = .ok (.iconst 0, 1) := dk_3 (dk_at dksX1_links_1 4 rfl rfl)
theorem dX1_links_27 : decode cX1_links 27 = .ok (.istore_n 3, 1) := dk_62 (dk_at dksX1_links_1 5 rfl rfl)
theorem dX1_links_28 : decode cX1_links 28 = .ok (.iconst 0, 1) := dk_3 (dk_at dksX1_links_1 6 rfl rfl)
theorem dX1_links_29 : decode cX1_links 29 = .ok (.istore 4, 2) := dk_54 4 (dk_at dksX1_links_1 7 rfl rfl)
theorem dX1_links_31 : decode cX1_links 31 = .ok (.iload 4, 2) := dk_21 4 (dk_at dksX1_links_1 9 rfl rfl)
theorem dX1_links_33 : decode cX1_links 33 = .ok (.bipush 40, 2) := dk_16 40 (dk_at dksX1_links_1 11 rfl rfl)
theorem dX1_links_35 : decode cX1_links 35 = .ok (.if_icmp .ge 59, 3) := dk_162 0 59 (dk_at dksX1_links_1 13 rfl rfl)
theorem dX1_links_38 : decode cX1_links 38 = .ok (.iload 4, 2) := dk_21 4 (dk_at dksX1_links_1 16 rfl rfl)
theorem dX1_links_40 : decode cX1_links 40 = .ok (.iconst 1, 1) := dk_4 (dk_at dksX1_links_1 18 rfl rfl)
theorem dX1_links_41 : decode cX1_links 41 = .ok (.iadd, 1) := dk_96 (dk_at dksX1_links_1 19 rfl rfl)
theorem dX1_links_42 : decode cX1_links 42 = .ok (.istore 5, 2) := dk_54 5 (dk_at dksX1_links_1 20 rfl rfl)
theorem dX1_links_44 : decode cX1_links 44 = .ok (.iload 5, 2) := dk_21 5 (dk_at dksX1_links_1 22 rfl rfl)
theorem dX1_links_46 : decode cX1_links 46 = .ok (.bipush 40, 2) := dk_16 40 (dk_at dksX1_links_2 0 rfl rfl)
theorem dX1_links_48 : decode cX1_links 48 = .ok (.if_icmp .ge 40, 3) := dk_162 0 40 (dk_at dksX1_links_2 2 rfl rfl)
theorem dX1_links_51 : decode cX1_links 51 = .ok (.iload_n 3, 1) := dk_29 (dk_at dksX1_links_2 5 rfl rfl)
theorem dX1_links_52 : decode cX1_links 52 = .ok (.aload_n 0, 1) := dk_42 (dk_at dksX1_links_2 6 rfl rfl)
theorem dX1_links_53 : decode cX1_links 53 = .ok (.getfield 81, 3) := dk_180 0 81 (dk_at dksX1_links_2 7 rfl rfl)
theorem dX1_links_56 : decode cX1_links 56 = .ok (.getfield 240, 3) := dk_180 0 240 (dk_at dksX1_links_2 10 rfl rfl)
theorem dX1_links_59 : decode cX1_links 59 = .ok (.aload_n 0, 1) := dk_42 (dk_at dksX1_links_2 13 rfl rfl)
theorem dX1_links_60 : decode cX1_links 60 = .ok (.getfield 81, 3) := dk_180 0 81 (dk_at dksX1_links_2 14 rfl rfl)
theorem dX1_links_63 : decode cX1_links 63 = .ok (.iload_n 1, 1) := dk_27 (dk_at dksX1_links_2 17 rfl rfl)
theorem dX1_links_64 : decode cX1_links 64 = .ok (.iload 4, 2) := dk_21 4 (dk_at dksX1_links_2 18 rfl rfl)
theorem dX1_links_66 : decode cX1_links 66 = .ok (.iload 5, 2) := dk_21 5 (dk_at dksX1_links_2 20 rfl rfl)
theorem dX1_links_68 : decode cX1_links 68 = .ok (.invokevirtual 243, 3) := dk_182 0 243 (dk_at dksX1_links_3 0 rfl rfl)
theorem dX1_links_71 : decode cX1_links 71 = .ok (.baload, 1) := dk_51 (dk_at dksX1_links_3 3 rfl rfl)
theorem dX1_links_72 : decode cX1_links 72 = .ok (.ifCond .eq 7, 3) := dk_153 0 7 (dk_at dksX1_links_3 4 rfl rfl)
theorem dX1_links_75 : decode cX1_links 75 = .ok (.iconst 1, 1) := dk_4 (dk_at dksX1_links_3 7 rfl rfl)
theorem dX1_links_76 : decode cX1_links 76 = .ok (.goto 4, 3) := dk_167 0 4 (dk_at dksX1_links_3 8 rfl rfl)
theorem dX1_links_79 : decode cX1_links 79 = .ok (.iconst 0, 1) := dk_3 (dk_at dksX1_links_3 11 rfl rfl)
theorem dX1_links_80 : decode cX1_links 80 = .ok (.iadd, 1) := dk_96 (dk_at dksX1_links_3 12 rfl rfl)
theorem dX1_links_81 : decode cX1_links 81 = .ok (.istore_n 3, 1) := dk_62 (dk_at dksX1_links_3 13 rfl rfl)
theorem dX1_links_82 : decode cX1_links 82 = .ok (.iinc 5 1, 3) := dk_132 5 1 (dk_at dksX1_links_3 14 rfl rfl)
theorem dX1_links_85 : decode cX1_links 85 = .ok (.goto (-41), 3) := dk_167 255 215 (dk_at dksX1_links_3 17 rfl rfl)
theorem dX1_links_88 : decode cX1_links 88 = .ok (.iinc 4 1, 3) := dk_132 4 1 (dk_at dksX1_links_3 20 rfl rfl)
theorem dX1_links_91 : decode cX1_links 91 = .ok (.goto (-60), 3) := dk_167 255 196 (dk_at dksX1_links_4 0 rfl rfl)
theorem dX1_links_94 : decode cX1_links 94 = .ok (.iload_n 3, 1) := dk_29 (dk_at dksX1_links_4 3 rfl rfl)
theorem dX1_links_95 : decode cX1_links 95 = .ok (.ireturn, 1) := dk_172 (dk_at dksX1_links_4 4 rfl rfl)
def dkwX1_isSort_0 : List UInt8 := [26, 3, 4, 184, 0, 3, 172]
abbrev dktX1_isSort_0 : List UInt8 := dkwX1_isSort_0 ++ []
theorem dksX1_isSort_0 : cX1_isSort.data.toList.drop 0 = dktX1_isSort_0 := by decide +kernel
theorem dX1_isSort_0 : decode cX1_isSort 0 = .ok (.iload_n 0, 1) := dk_26 (dk_at dksX1_isSort_0 0 rfl rfl)
theorem dX1_isSort_1 : decode cX1_isSort 1 = .ok (.iconst 0, 1) := dk_3 (dk_at dksX1_isSort_0 1 rfl rfl)
theorem dX1_isSort_2 : decode cX1_isSort 2 = .ok (.iconst 1, 1) := dk_4 (dk_at dksX1_isSort_0 2 rfl rfl)
theorem dX1_isSort_3 : decode cX1_isSort 3 = .ok (.invokestatic 3, 3) := dk_184 0 3 (dk_at dksX1_isSort_0 3 rfl rfl)
theorem dX1_isSort_6 : decode cX1_isSort 6 = .ok (.ireturn, 1) := dk_172 (dk_at dksX1_isSort_0 6 rfl rfl)
def dkwX1_classOf_2 : List UInt8 := [180, 0, 220, 28, 46, 96, 46, 172]
abbrev dktX1_classOf_2 : List UInt8 := dkwX1_classOf_2 ++ []
def dkwX1_classOf_1 : List UInt8 := [42, 180, 0, 81, 29, 182, 0, 237, 87, 42, 180, 0, 81, 180, 0, 247, 16, 40, 27, 104, 42, 180, 0, 81]
abbrev dktX1_classOf_1 : List UInt8 := dkwX1_classOf_1 ++ dktX1_classOf_2
def dkwX1_classOf_0 : List UInt8 := [27, 184, 0, 234, 153, 0, 18, 28, 184, 0, 183, 153, 0, 11, 42, 29, 182, 0, 213, 154, 0, 5, 2, 172]
abbrev dktX1_classOf_0 : List UInt8 := dkwX1_classOf_0 ++ dktX1_classOf_1
theorem dksX1_classOf_0 : cX1_classOf.data.toList.drop 0 = dktX1_classOf_0 := by decide +kernel
theorem dksX1_classOf_1 : cX1_classOf.data.toList.drop 24 = dktX1_classOf_1 := dk_seg dksX1_classOf_0 24 rfl rfl
theorem dksX1_classOf_2 : cX1_classOf.data.toList.drop 48 = dktX1_classOf_2 := dk_seg dksX1_classOf_1 24 rfl rfl
theorem dX1_classOf_0 : decode cX1_classOf 0 = .ok (.iload_n 1, 1) := dk_27 (dk_at dksX1_classOf_0 0 rfl rfl)
theorem dX1_classOf_1 : decode cX1_classOf 1 = .ok (.invokestatic 234, 3) := dk_184 0 234 (dk_at dksX1_classOf_0 1 rfl rfl)
theorem dX1_classOf_4 : decode cX1_classOf 4 = .ok (.ifCond .eq 18, 3) := dk_153 0 18 (dk_at dksX1_classOf_0 4 rfl rfl)
theorem dX1_classOf_7 : decode cX1_classOf 7 = .ok (.iload_n 2, 1) := dk_28 (dk_at dksX1_classOf_0 7 rfl rfl)
theorem dX1_classOf_8 : decode cX1_classOf 8 = .ok (.invokestatic 183, 3) := dk_184 0 183 (dk_at dksX1_classOf_0 8 rfl rfl)
theorem dX1_classOf_11 : decode cX1_classOf 11 = .ok (.ifCond .eq 11, 3) := dk_153 0 11 (dk_at dksX1_classOf_0 11 rfl rfl)
theorem dX1_classOf_14 : decode cX1_classOf 14 = .ok (.aload_n 0, 1) := dk_42 (dk_at dksX1_classOf_0 14 rfl rfl)
theorem dX1_classOf_15 : decode cX1_classOf 15 = .ok (.iload_n 3, 1) := dk_29 (dk_at dksX1_classOf_0 15 rfl rfl)
theorem dX1_classOf_16 : decode cX1_classOf 16 = .ok (.invokevirtual 213, 3) := dk_182 0 213 (dk_at dksX1_classOf_0 16 rfl rfl)
theorem dX1_classOf_19 : decode cX1_classOf 19 = .ok (.ifCond .ne 5, 3) := dk_154 0 5 (dk_at dksX1_classOf_0 19 rfl rfl)
theorem dX1_classOf_22 : decode cX1_classOf 22 = .ok (.iconst (-1), 1) := dk_2 (dk_at dksX1_classOf_0 22 rfl rfl)
theorem dX1_classOf_23 : decode cX1_classOf 23 = .ok (.ireturn, 1) := dk_172 (dk_at dksX1_classOf_0 23 rfl rfl)
theorem dX1_classOf_24 : decode cX1_classOf 24 = .ok (.aload_n 0, 1) := dk_42 (dk_at dksX1_classOf_1 0 rfl rfl)
theorem dX1_classOf_25 : decode cX1_classOf 25 = .ok (.getfield 81, 3) := dk_180 0 81 (dk_at dksX1_classOf_1 1 rfl rfl)
theorem dX1_classOf_28 : decode cX1_classOf 28 = .ok (.iload_n 3, 1) := dk_29 (dk_at dksX1_classOf_1 4 rfl rfl)
theorem dX1_classOf_29 : decode cX1_classOf 29 = .ok (.invokevirtual 237, 3) := dk_182 0 237 (dk_at dksX1_classOf_1 5 rfl rfl)
theorem dX1_classOf_32 : decode cX1_classOf 32 = .ok (.pop, 1) := dk_87 (dk_at dksX1_classOf_1 8 rfl rfl)
theorem dX1_classOf_33 : decode cX1_classOf 33 = .ok (.aload_n 0, 1) := dk_42 (dk_at dksX1_classOf_1 9 rfl rfl)
theorem dX1_classOf_34 : decode cX1_classOf 34 = .ok (.getfield 81, 3) := dk_180 0 81 (dk_at dksX1_classOf_1 10 rfl rfl)
theorem dX1_classOf_37 : decode cX1_classOf 37 = .ok (.getfield 247, 3) := dk_180 0 247 (dk_at dksX1_classOf_1 13 rfl rfl)
theorem dX1_classOf_40 : decode cX1_classOf 40 = .ok (.bipush 40, 2) := dk_16 40 (dk_at dksX1_classOf_1 16 rfl rfl)
theorem dX1_classOf_42 : decode cX1_classOf 42 = .ok (.iload_n 1, 1) := dk_27 (dk_at dksX1_classOf_1 18 rfl rfl)
theorem dX1_classOf_43 : decode cX1_classOf 43 = .ok (.imul, 1) := dk_104 (dk_at dksX1_classOf_1 19 rfl rfl)
theorem dX1_classOf_44 : decode cX1_classOf 44 = .ok (.aload_n 0, 1) := dk_42 (dk_at dksX1_classOf_1 20 rfl rfl)
theorem dX1_classOf_45 : decode cX1_classOf 45 = .ok (.getfield 81, 3) := dk_180 0 81 (dk_at dksX1_classOf_1 21 rfl rfl)
theorem dX1_classOf_48 : decode cX1_classOf 48 = .ok (.getfield 220, 3) := dk_180 0 220 (dk_at dksX1_classOf_2 0 rfl rfl)
theorem dX1_classOf_51 : decode cX1_classOf 51 = .ok (.iload_n 2, 1) := dk_28 (dk_at dksX1_classOf_2 3 rfl rfl)
theorem dX1_classOf_52 : decode cX1_classOf 52 = .ok (.iaload, 1) := dk_46 (dk_at dksX1_classOf_2 4 rfl rfl)
theorem dX1_classOf_53 : decode cX1_classOf 53 = .ok (.iadd, 1) := dk_96 (dk_at dksX1_classOf_2 5 rfl rfl)
theorem dX1_classOf_54 : decode cX1_classOf 54 = .ok (.iaload, 1) := dk_46 (dk_at dksX1_classOf_2 6 rfl rfl)
theorem dX1_classOf_55 : decode cX1_classOf 55 = .ok (.ireturn, 1) := dk_172 (dk_at dksX1_classOf_2 7 rfl rfl)
def dkwX1_clash_4 : List UInt8 := [42, 180, 0, 81, 180, 1, 7, 172, 2, 172]
abbrev dktX1_clash_4 : List UInt8 := dkwX1_clash_4 ++ []
def dkwX1_clash_3 : List UInt8 := [42, 180, 0, 81, 180, 0, 254, 172, 42, 180, 0, 81, 180, 1, 1, 172, 42, 180, 0, 81, 180, 1, 4, 172]
abbrev dktX1_clash_3 : List UInt8 := dkwX1_clash_3 ++ dktX1_clash_4
def dkwX1_clash_2 : List UInt8 := [170, 0, 0, 0, 0, 0, 63, 0, 0, 0, 0, 0, 0, 0, 3, 0, 0, 0, 31, 0, 0, 0, 39, 0, 0, 0, 47, 0, 0, 0, 55]
abbrev dktX1_clash_2 : List UInt8 := dkwX1_clash_2 ++ dktX1_clash_3
def dkwX1_clash_1 : List UInt8 := [28]
abbrev dktX1_clash_1 : List UInt8 := dkwX1_clash_1 ++ dktX1_clash_2
def dkwX1_clash_0 : List UInt8 := [42, 27, 182, 0, 213, 153, 0, 17, 42, 180, 0, 81, 27, 182, 0, 237, 182, 0, 250, 154, 0, 5, 2, 172]
abbrev dktX1_clash_0 : List UInt8 := dkwX1_clash_0 ++ dktX1_clash_1
theorem dksX1_clash_0 : cX1_clash.data.toList.drop 0 = dktX1_clash_0 := by decide +kernel
theorem dksX1_clash_1 : cX1_clash.data.toList.drop 24 = dktX1_clash_1 := dk_seg dksX1_clash_0 24 rfl rfl
theorem dksX1_clash_2 : cX1_clash.data.toList.drop 25 = dktX1_clash_2 := dk_seg dksX1_clash_1 1 rfl rfl
theorem dksX1_clash_3 : cX1_clash.data.toList.drop 56 = dktX1_clash_3 := dk_seg dksX1_clash_2 31 rfl rfl
theorem dksX1_clash_4 : cX1_clash.data.toList.drop 80 = dktX1_clash_4 := dk_seg dksX1_clash_3 24 rfl rfl
theorem dX1_clash_0 : decode cX1_clash 0 = .ok (.aload_n 0, 1) := dk_42 (dk_at dksX1_clash_0 0 rfl rfl)
theorem dX1_clash_1 : decode cX1_clash 1 = .ok (.iload_n 1, 1) := dk_27 (dk_at dksX1_clash_0 1 rfl rfl)
theorem dX1_clash_2 : decode cX1_clash 2 = .ok (.invokevirtual 213, 3) := dk_182 0 213 (dk_at dksX1_clash_0 2 rfl rfl)
theorem dX1_clash_5 : decode cX1_clash 5 = .ok (.ifCond .eq 17, 3) := dk_153 0 17 (dk_at dksX1_clash_0 5 rfl rfl)
theorem dX1_clash_8 : decode cX1_clash 8 = .ok (.aload_n 0, 1) := dk_42 (dk_at dksX1_clash_0 8 rfl rfl)
theorem dX1_clash_9 : decode cX1_clash 9 = .ok (.getfield 81, 3) := dk_180 0 81 (dk_at dksX1_clash_0 9 rfl rfl)
theorem dX1_clash_12 : decode cX1_clash 12 = .ok (.iload_n 1, 1) := dk_27 (dk_at dksX1_clash_0 12 rfl rfl)
theorem dX1_clash_13 : decode cX1_clash 13 = .ok (.invokevirtual 237, 3) := dk_182 0 237 (dk_at dksX1_clash_0 13 rfl rfl)
theorem dX1_clash_16 : decode cX1_clash 16 = .ok (.invokevirtual 250, 3) := dk_182 0 250 (dk_at dksX1_clash_0 16 rfl rfl)
theorem dX1_clash_19 : decode cX1_clash 19 = .ok (.ifCond .ne 5, 3) := dk_154 0 5 (dk_at dksX1_clash_0 19 rfl rfl)
theorem dX1_clash_22 : decode cX1_clash 22 = .ok (.iconst (-1), 1) := dk_2 (dk_at dksX1_clash_0 22 rfl rfl)
theorem dX1_clash_23 : decode cX1_clash 23 = .ok (.ireturn, 1) := dk_172 (dk_at dksX1_clash_0 23 rfl rfl)
theorem dX1_clash_24 : decode cX1_clash 24 = .ok (.iload_n 2, 1) := dk_28 (dk_at dksX1_clash_1 0 rfl rfl)
theorem dX1_clash_25 : decode cX1_clash 25 = .ok (.tableswitch 63 0 3 #[31, 39, 47, 55], 31) := by decide +kernel
theorem dX1_clash_56 : decode cX1_clash 56 = .ok (.aload_n 0, 1) := dk_42 (dk_at dksX1_clash_3 0 rfl rfl)
theorem dX1_clash_57 : decode cX1_clash 57 = .ok (.getfield 81, 3) := dk_180 0 81 (dk_at dksX1_clash_3 1 rfl rfl)
theorem dX1_clash_60 : decode cX1_clash 60 = .ok (.getfield 254, 3) := dk_180 0 254 (dk_at dksX1_clash_3 4 rfl rfl)
theorem dX1_clash_63 : decode cX1_clash 63 = .ok (.ireturn, 1) := dk_172 (dk_at dksX1_clash_3 7 rfl rfl)
theorem dX1_clash_64 : decode cX1_clash 64 = .ok (.aload_n 0, 1) := dk_42 (dk_at dksX1_clash_3 8 rfl rfl)
theorem dX1_clash_65 : decode cX1_clash 65 = .ok (.getfield 81, 3) := dk_180 0 81 (dk_at dksX1_clash_3 9 rfl rfl)
theorem dX1_clash_68 : decode cX1_clash 68 = .ok (.getfield 257, 3) := dk_180 1 1 (dk_at dksX1_clash_3 12 rfl rfl)
theorem dX1_clash_71 : decode cX1_clash 71 = .ok (.ireturn, 1) := dk_172 (dk_at dksX1_clash_3 15 rfl rfl)
theorem dX1_clash_72 : decode cX1_clash 72 = .ok (.aload_n 0, 1) := dk_42 (dk_at dksX1_clash_3 16 rfl rfl)
theorem dX1_clash_73 : decode cX1_clash 73 = .ok (.getfield 81, 3) := dk_180 0 81 (dk_at dksX1_clash_3 17 rfl rfl)
theorem dX1_clash_76 : decode cX1_clash 76 = .ok (.getfield 260, 3) := dk_180 1 4 (dk_at dksX1_clash_3 20 rfl rfl)
theorem dX1_clash_79 : decode cX1_clash 79 = .ok (.ireturn, 1) := dk_172 (dk_at dksX1_clash_3 23 rfl rfl)
theorem dX1_clash_80 : decode cX1_clash 80 = .ok (.aload_n 0, 1) := dk_42 (dk_at dksX1_clash_4 0 rfl rfl)
theorem dX1_clash_81 : decode cX1_clash 81 = .ok (.getfield 81, 3) := dk_180 0 81 (dk_at dksX1_clash_4 1 rfl rfl)
theorem dX1_clash_84 : decode cX1_clash 84 = .ok (.getfield 263, 3) := dk_180 1 7 (dk_at dksX1_clash_4 4 rfl rfl)
theorem dX1_clash_87 : decode cX1_clash 87 = .ok (.ireturn, 1) := dk_172 (dk_at dksX1_clash_4 7 rfl rfl)
theorem dX1_clash_88 : decode cX1_clash 88 = .ok (.iconst (-1), 1) := dk_2 (dk_at dksX1_clash_4 8 rfl rfl)
theorem dX1_clash_89 : decode cX1_clash 89 = .ok (.ireturn, 1) := dk_172 (dk_at dksX1_clash_4 9 rfl rfl)
def dkwX1_reason_4 : List UInt8 := [46, 167, 0, 4, 2, 172]
abbrev dktX1_reason_4 : List UInt8 := dkwX1_reason_4 ++ []
def dkwX1_reason_3 : List UInt8 := [180, 0, 81, 180, 1, 19, 28, 46, 167, 0, 21, 29, 5, 160, 0, 15, 42, 180, 0, 81, 180, 1, 22, 28]
abbrev dktX1_reason_3 : List UInt8 := dkwX1_reason_3 ++ dktX1_reason_4
def dkwX1_reason_2 : List UInt8 := [2, 172, 29, 154, 0, 15, 42, 180, 0, 81, 180, 1, 16, 28, 46, 167, 0, 38, 29, 4, 160, 0, 15, 42]
abbrev dktX1_reason_2 : List UInt8 := dkwX1_reason_2 ++ dktX1_reason_3
def dkwX1_reason_1 : List UInt8 := [42, 180, 0, 81, 182, 1, 10, 28, 3, 42, 180, 0, 81, 180, 1, 13, 4, 100, 184, 0, 3, 154, 0, 5]
abbrev dktX1_reason_1 : List UInt8 := dkwX1_reason_1 ++ dktX1_reason_2
def dkwX1_reason_0 : List UInt8 := [42, 27, 182, 0, 213, 153, 0, 17, 42, 180, 0, 81, 27, 182, 0, 237, 182, 0, 250, 154, 0, 5, 2, 172]
abbrev dktX1_reason_0 : List UInt8 := dkwX1_reason_0 ++ dktX1_reason_1
theorem dksX1_reason_0 : cX1_reason.data.toList.drop 0 = dktX1_reason_0 := by decide +kernel
theorem dksX1_reason_1 : cX1_reason.data.toList.drop 24 = dktX1_reason_1 := dk_seg dksX1_reason_0 24 rfl rfl
theorem dksX1_reason_2 : cX1_reason.data.toList.drop 48 = dktX1_reason_2 := dk_seg dksX1_reason_1 24 rfl rfl
theorem dksX1_reason_3 : cX1_reason.data.toList.drop 72 = dktX1_reason_3 := dk_seg dksX1_reason_2 24 rfl rfl
theorem dksX1_reason_4 : cX1_reason.data.toList.drop 96 = dktX1_reason_4 := dk_seg dksX1_reason_3 24 rfl rfl
theorem dX1_reason_0 : decode cX1_reason 0 = .ok (.aload_n 0, 1) := dk_42 (dk_at dksX1_reason_0 0 rfl rfl)
theorem dX1_reason_1 : decode cX1_reason 1 = .ok (.iload_n 1, 1) := dk_27 (dk_at dksX1_reason_0 1 rfl rfl)
theorem dX1_reason_2 : decode cX1_reason 2 = .ok (.invokevirtual 213, 3) := dk_182 0 213 (dk_at dksX1_reason_0 2 rfl rfl)
theorem dX1_reason_5 : decode cX1_reason 5 = .ok (.ifCond .eq 17, 3) := dk_153 0 17 (dk_at dksX1_reason_0 5 rfl rfl)
theorem dX1_reason_8 : decode cX1_reason 8 = .ok (.aload_n 0, 1) := dk_42 (dk_at dksX1_reason_0 8 rfl rfl)
theorem dX1_reason_9 : decode cX1_reason 9 = .ok (.getfield 81, 3) := dk_180 0 81 (dk_at dksX1_reason_0 9 rfl rfl)
theorem dX1_reason_12 : decode cX1_reason 12 = .ok (.iload_n 1, 1) := dk_27 (dk_at dksX1_reason_0 12 rfl rfl)
theorem dX1_reason_13 : decode cX1_reason 13 = .ok (.invokevirtual 237, 3) := dk_182 0 237 (dk_at dksX1_reason_0 13 rfl rfl)
theorem dX1_reason_16 : decode cX1_reason 16 = .ok (.invokevirtual 250, 3) := dk_182 0 250 (dk_at dksX1_reason_0 16 rfl rfl)
theorem dX1_reason_19 : decode cX1_reason 19 = .ok (.ifCond .ne 5, 3) := dk_154 0 5 (dk_at dksX1_reason_0 19 rfl rfl)
theorem dX1_reason_22 : decode cX1_reason 22 = .ok (.iconst (-1), 1) := dk_2 (dk_at dksX1_reason_0 22 rfl rfl)
theorem dX1_reason_23 : decode cX1_reason 23 = .ok (.ireturn, 1) := dk_172 (dk_at dksX1_reason_0 23 rfl rfl)
theorem dX1_reason_24 : decode cX1_reason 24 = .ok (.aload_n 0, 1) := dk_42 (dk_at dksX1_reason_1 0 rfl rfl)
theorem dX1_reason_25 : decode cX1_reason 25 = .ok (.getfield 81, 3) := dk_180 0 81 (dk_at dksX1_reason_1 1 rfl rfl)
theorem dX1_reason_28 : decode cX1_reason 28 = .ok (.invokevirtual 266, 3) := dk_182 1 10 (dk_at dksX1_reason_1 4 rfl rfl)
theorem dX1_reason_31 : decode cX1_reason 31 = .ok (.iload_n 2, 1) := dk_28 (dk_at dksX1_reason_1 7 rfl rfl)
theorem dX1_reason_32 : decode cX1_reason 32 = .ok (.iconst 0, 1) := dk_3 (dk_at dksX1_reason_1 8 rfl rfl)
theorem dX1_reason_33 : decode cX1_reason 33 = .ok (.aload_n 0, 1) := dk_42 (dk_at dksX1_reason_1 9 rfl rfl)
theorem dX1_reason_34 : decode cX1_reason 34 = .ok (.getfield 81, 3) := dk_180 0 81 (dk_at dksX1_reason_1 10 rfl rfl)
theorem dX1_reason_37 : decode cX1_reason 37 = .ok (.getfield 269, 3) := dk_180 1 13 (dk_at dksX1_reason_1 13 rfl rfl)
theorem dX1_reason_40 : decode cX1_reason 40 = .ok (.iconst 1, 1) := dk_4 (dk_at dksX1_reason_1 16 rfl rfl)
theorem dX1_reason_41 : decode cX1_reason 41 = .ok (.isub, 1) := dk_100 (dk_at dksX1_reason_1 17 rfl rfl)
theorem dX1_reason_42 : decode cX1_reason 42 = .ok (.invokestatic 3, 3) := dk_184 0 3 (dk_at dksX1_reason_1 18 rfl rfl)
theorem dX1_reason_45 : decode cX1_reason 45 = .ok (.ifCond .ne 5, 3) := dk_154 0 5 (dk_at dksX1_reason_1 21 rfl rfl)
theorem dX1_reason_48 : decode cX1_reason 48 = .ok (.iconst (-1), 1) := dk_2 (dk_at dksX1_reason_2 0 rfl rfl)
theorem dX1_reason_49 : decode cX1_reason 49 = .ok (.ireturn, 1) := dk_172 (dk_at dksX1_reason_2 1 rfl rfl)
theorem dX1_reason_50 : decode cX1_reason 50 = .ok (.iload_n 3, 1) := dk_29 (dk_at dksX1_reason_2 2 rfl rfl)
theorem dX1_reason_51 : decode cX1_reason 51 = .ok (.ifCond .ne 15, 3) := dk_154 0 15 (dk_at dksX1_reason_2 3 rfl rfl)
theorem dX1_reason_54 : decode cX1_reason 54 = .ok (.aload_n 0, 1) := dk_42 (dk_at dksX1_reason_2 6 rfl rfl)
theorem dX1_reason_55 : decode cX1_reason 55 = .ok (.getfield 81, 3) := dk_180 0 81 (dk_at dksX1_reason_2 7 rfl rfl)
theorem dX1_reason_58 : decode cX1_reason 58 = .ok (.getfield 272, 3) := dk_180 1 16 (dk_at dksX1_reason_2 10 rfl rfl)
theorem dX1_reason_61 : decode cX1_reason 61 = .ok (.iload_n 2, 1) := dk_28 (dk_at dksX1_reason_2 13 rfl rfl)
theorem dX1_reason_62 : decode cX1_reason 62 = .ok (.iaload, 1) := dk_46 (dk_at dksX1_reason_2 14 rfl rfl)
theorem dX1_reason_63 : decode cX1_reason 63 = .ok (.goto 38, 3) := dk_167 0 38 (dk_at dksX1_reason_2 15 rfl rfl)
theorem dX1_reason_66 : decode cX1_reason 66 = .ok (.iload_n 3, 1) := dk_29 (dk_at dksX1_reason_2 18 rfl rfl)
theorem dX1_reason_67 : decode cX1_reason 67 = .ok (.iconst 1, 1) := dk_4 (dk_at dksX1_reason_2 19 rfl rfl)
theorem dX1_reason_68 : decode cX1_reason 68 = .ok (.if_icmp .ne 15, 3) := dk_160 0 15 (dk_at dksX1_reason_2 20 rfl rfl)
theorem dX1_reason_71 : decode cX1_reason 71 = .ok (.aload_n 0, 1) := dk_42 (dk_at dksX1_reason_2 23 rfl rfl)
theorem dX1_reason_72 : decode cX1_reason 72 = .ok (.getfield 81, 3) := dk_180 0 81 (dk_at dksX1_reason_3 0 rfl rfl)
theorem dX1_reason_75 : decode cX1_reason 75 = .ok (.getfield 275, 3) := dk_180 1 19 (dk_at dksX1_reason_3 3 rfl rfl)
theorem dX1_reason_78 : decode cX1_reason 78 = .ok (.iload_n 2, 1) := dk_28 (dk_at dksX1_reason_3 6 rfl rfl)
theorem dX1_reason_79 : decode cX1_reason 79 = .ok (.iaload, 1) := dk_46 (dk_at dksX1_reason_3 7 rfl rfl)
theorem dX1_reason_80 : decode cX1_reason 80 = .ok (.goto 21, 3) := dk_167 0 21 (dk_at dksX1_reason_3 8 rfl rfl)
theorem dX1_reason_83 : decode cX1_reason 83 = .ok (.iload_n 3, 1) := dk_29 (dk_at dksX1_reason_3 11 rfl rfl)
theorem dX1_reason_84 : decode cX1_reason 84 = .ok (.iconst 2, 1) := dk_5 (dk_at dksX1_reason_3 12 rfl rfl)
theorem dX1_reason_85 : decode cX1_reason 85 = .ok (.if_icmp .ne 15, 3) := dk_160 0 15 (dk_at dksX1_reason_3 13 rfl rfl)
theorem dX1_reason_88 : decode cX1_reason 88 = .ok (.aload_n 0, 1) := dk_42 (dk_at dksX1_reason_3 16 rfl rfl)
theorem dX1_reason_89 : decode cX1_reason 89 = .ok (.getfield 81, 3) := dk_180 0 81 (dk_at dksX1_reason_3 17 rfl rfl)
theorem dX1_reason_92 : decode cX1_reason 92 = .ok (.getfield 278, 3) := dk_180 1 22 (dk_at dksX1_reason_3 20 rfl rfl)
theorem dX1_reason_95 : decode cX1_reason 95 = .ok (.iload_n 2, 1) := dk_28 (dk_at dksX1_reason_3 23 rfl rfl)
theorem dX1_reason_96 : decode cX1_reason 96 = .ok (.iaload, 1) := dk_46 (dk_at dksX1_reason_4 0 rfl rfl)
theorem dX1_reason_97 : decode cX1_reason 97 = .ok (.goto 4, 3) := dk_167 0 4 (dk_at dksX1_reason_4 1 rfl rfl)
theorem dX1_reason_100 : decode cX1_reason 100 = .ok (.iconst (-1), 1) := dk_2 (dk_at dksX1_reason_4 4 rfl rfl)
theorem dX1_reason_101 : decode cX1_reason 101 = .ok (.ireturn, 1) := dk_172 (dk_at dksX1_reason_4 5 rfl rfl)
def dkwX1_name_2 : List UInt8 := [27, 44, 183, 1, 44, 182, 0, 152, 87, 42, 180, 0, 36, 182, 0, 121, 4, 100, 172]
abbrev dktX1_name_2 : List UInt8 := dkwX1_name_2 ++ []
def dkwX1_name_1 : List UInt8 := [16, 6, 160, 0, 5, 2, 172, 42, 3, 181, 0, 126, 42, 180, 0, 36, 187, 1, 42, 89, 42, 180, 0, 118]
abbrev dktX1_name_1 : List UInt8 := dkwX1_name_1 ++ dktX1_name_2
def dkwX1_name_0 : List UInt8 := [42, 182, 1, 38, 77, 42, 27, 182, 0, 198, 153, 0, 19, 44, 198, 0, 15, 42, 180, 0, 36, 182, 0, 121]
abbrev dktX1_name_0 : List UInt8 := dkwX1_name_0 ++ dktX1_name_1
theorem dksX1_name_0 : cX1_name.data.toList.drop 0 = dktX1_name_0 := by decide +kernel
theorem dksX1_name_1 : cX1_name.data.toList.drop 24 = dktX1_name_1 := dk_seg dksX1_name_0 24 rfl rfl
theorem dksX1_name_2 : cX1_name.data.toList.drop 48 = dktX1_name_2 := dk_seg dksX1_name_1 24 rfl rfl
theorem dX1_name_0 : decode cX1_name 0 = .ok (.aload_n 0, 1) := dk_42 (dk_at dksX1_name_0 0 rfl rfl)
theorem dX1_name_1 : decode cX1_name 1 = .ok (.invokevirtual 294, 3) := dk_182 1 38 (dk_at dksX1_name_0 1 rfl rfl)
theorem dX1_name_4 : decode cX1_name 4 = .ok (.astore_n 2, 1) := dk_77 (dk_at dksX1_name_0 4 rfl rfl)
theorem dX1_name_5 : decode cX1_name 5 = .ok (.aload_n 0, 1) := dk_42 (dk_at dksX1_name_0 5 rfl rfl)
theorem dX1_name_6 : decode cX1_name 6 = .ok (.iload_n 1, 1) := dk_27 (dk_at dksX1_name_0 6 rfl rfl)
theorem dX1_name_7 : decode cX1_name 7 = .ok (.invokevirtual 198, 3) := dk_182 0 198 (dk_at dksX1_name_0 7 rfl rfl)
theorem dX1_name_10 : decode cX1_name 10 = .ok (.ifCond .eq 19, 3) := dk_153 0 19 (dk_at dksX1_name_0 10 rfl rfl)
theorem dX1_name_13 : decode cX1_name 13 = .ok (.aload_n 2, 1) := dk_44 (dk_at dksX1_name_0 13 rfl rfl)
theorem dX1_name_14 : decode cX1_name 14 = .ok (.ifnull 15, 3) := dk_198 0 15 (dk_at dksX1_name_0 14 rfl rfl)
theorem dX1_name_17 : decode cX1_name 17 = .ok (.aload_n 0, 1) := dk_42 (dk_at dksX1_name_0 17 rfl rfl)
theorem dX1_name_18 : decode cX1_name 18 = .ok (.getfield 36, 3) := dk_180 0 36 (dk_at dksX1_name_0 18 rfl rfl)
theorem dX1_name_21 : decode cX1_name 21 = .ok (.invokevirtual 121, 3) := dk_182 0 121 (dk_at dksX1_name_0 21 rfl rfl)
theorem dX1_name_24 : decode cX1_name 24 = .ok (.bipush 6, 2) := dk_16 6 (dk_at dksX1_name_1 0 rfl rfl)
theorem dX1_name_26 : decode cX1_name 26 = .ok (.if_icmp .ne 5, 3) := dk_160 0 5 (dk_at dksX1_name_1 2 rfl rfl)
theorem dX1_name_29 : decode cX1_name 29 = .ok (.iconst (-1), 1) := dk_2 (dk_at dksX1_name_1 5 rfl rfl)
theorem dX1_name_30 : decode cX1_name 30 = .ok (.ireturn, 1) := dk_172 (dk_at dksX1_name_1 6 rfl rfl)
theorem dX1_name_31 : decode cX1_name 31 = .ok (.aload_n 0, 1) := dk_42 (dk_at dksX1_name_1 7 rfl rfl)
theorem dX1_name_32 : decode cX1_name 32 = .ok (.iconst 0, 1) := dk_3 (dk_at dksX1_name_1 8 rfl rfl)
theorem dX1_name_33 : decode cX1_name 33 = .ok (.putfield 126, 3) := dk_181 0 126 (dk_at dksX1_name_1 9 rfl rfl)
theorem dX1_name_36 : decode cX1_name 36 = .ok (.aload_n 0, 1) := dk_42 (dk_at dksX1_name_1 12 rfl rfl)
theorem dX1_name_37 : decode cX1_name 37 = .ok (.getfield 36, 3) := dk_180 0 36 (dk_at dksX1_name_1 13 rfl rfl)
theorem dX1_name_40 : decode cX1_name 40 = .ok (.new 298, 3) := dk_187 1 42 (dk_at dksX1_name_1 16 rfl rfl)
theorem dX1_name_43 : decode cX1_name 43 = .ok (.dup, 1) := dk_89 (dk_at dksX1_name_1 19 rfl rfl)
theorem dX1_name_44 : decode cX1_name 44 = .ok (.aload_n 0, 1) := dk_42 (dk_at dksX1_name_1 20 rfl rfl)
theorem dX1_name_45 : decode cX1_name 45 = .ok (.getfield 118, 3) := dk_180 0 118 (dk_at dksX1_name_1 21 rfl rfl)
theorem dX1_name_48 : decode cX1_name 48 = .ok (.iload_n 1, 1) := dk_27 (dk_at dksX1_name_2 0 rfl rfl)
theorem dX1_name_49 : decode cX1_name 49 = .ok (.aload_n 2, 1) := dk_44 (dk_at dksX1_name_2 1 rfl rfl)
theorem dX1_name_50 : decode cX1_name 50 = .ok (.invokespecial 300, 3) := dk_183 1 44 (dk_at dksX1_name_2 2 rfl rfl)
theorem dX1_name_53 : decode cX1_name 53 = .ok (.invokevirtual 152, 3) := dk_182 0 152 (dk_at dksX1_name_2 5 rfl rfl)
theorem dX1_name_56 : decode cX1_name 56 = .ok (.pop, 1) := dk_87 (dk_at dksX1_name_2 8 rfl rfl)
theorem dX1_name_57 : decode cX1_name 57 = .ok (.aload_n 0, 1) := dk_42 (dk_at dksX1_name_2 9 rfl rfl)
theorem dX1_name_58 : decode cX1_name 58 = .ok (.getfield 36, 3) := dk_180 0 36 (dk_at dksX1_name_2 10 rfl rfl)
theorem dX1_name_61 : decode cX1_name 61 = .ok (.invokevirtual 121, 3) := dk_182 0 121 (dk_at dksX1_name_2 13 rfl rfl)
theorem dX1_name_64 : decode cX1_name 64 = .ok (.iconst 1, 1) := dk_4 (dk_at dksX1_name_2 16 rfl rfl)
theorem dX1_name_65 : decode cX1_name 65 = .ok (.isub, 1) := dk_100 (dk_at dksX1_name_2 17 rfl rfl)
theorem dX1_name_66 : decode cX1_name 66 = .ok (.ireturn, 1) := dk_172 (dk_at dksX1_name_2 18 rfl rfl)
def dkwX1_nameTold_2 : List UInt8 := [1, 176, 43, 28, 42, 180, 0, 65, 28, 51, 84, 132, 2, 1, 167, 255, 218, 43, 176]
abbrev dktX1_nameTold_2 : List UInt8 := dkwX1_nameTold_2 ++ []
def dkwX1_nameTold_1 : List UInt8 := [28, 42, 180, 0, 126, 162, 0, 36, 42, 180, 0, 65, 28, 51, 16, 97, 16, 122, 184, 0, 3, 154, 0, 5]
abbrev dktX1_nameTold_1 : List UInt8 := dkwX1_nameTold_1 ++ dktX1_nameTold_2
def dkwX1_nameTold_0 : List UInt8 := [42, 180, 0, 126, 4, 16, 8, 184, 0, 3, 154, 0, 5, 1, 176, 42, 180, 0, 126, 188, 8, 76, 3, 61]
abbrev dktX1_nameTold_0 : List UInt8 := dkwX1_nameTold_0 ++ dktX1_nameTold_1
theorem dksX1_nameTold_0 : cX1_nameTold.data.toList.drop 0 = dktX1_nameTold_0 := by decide +kernel
theorem dksX1_nameTold_1 : cX1_nameTold.data.toList.drop 24 = dktX1_nameTold_1 := dk_seg dksX1_nameTold_0 24 rfl rfl
theorem dksX1_nameTold_2 : cX1_nameTold.data.toList.drop 48 = dktX1_nameTold_2 := dk_seg dksX1_nameTold_1 24 rfl rfl
theorem dX1_nameTold_0 : decode cX1_nameTold 0 = .ok (.aload_n 0, 1) := dk_42 (dk_at dksX1_nameTold_0 0 rfl rfl)
theorem dX1_nameTold_1 : decode cX1_nameTold 1 = .ok (.getfield 126, 3) := dk_180 0 126 (dk_at dksX1_nameTold_0 1 rfl rfl)
theorem dX1_nameTold_4 : decode cX1_nameTold 4 = .ok (.iconst 1, 1) := dk_4 (dk_at dksX1_nameTold_0 4 rfl rfl)
theorem dX1_nameTold_5 : decode cX1_nameTold 5 = .ok (.bipush 8, 2) := dk_16 8 (dk_at dksX1_nameTold_0 5 rfl rfl)
theorem dX1_nameTold_7 : decode cX1_nameTold 7 = .ok (.invokestatic 3, 3) := dk_184 0 3 (dk_at dksX1_nameTold_0 7 rfl rfl)
theorem dX1_nameTold_10 : decode cX1_nameTold 10 = .ok (.ifCond .ne 5, 3) := dk_154 0 5 (dk_at dksX1_nameTold_0 10 rfl rfl)
theorem dX1_nameTold_13 : decode cX1_nameTold 13 = .ok (.aconst_null, 1) := dk_1 (dk_at dksX1_nameTold_0 13 rfl rfl)
theorem dX1_nameTold_14 : decode cX1_nameTold 14 = .ok (.areturn, 1) := dk_176 (dk_at dksX1_nameTold_0 14 rfl rfl)
theorem dX1_nameTold_15 : decode cX1_nameTold 15 = .ok (.aload_n 0, 1) := dk_42 (dk_at dksX1_nameTold_0 15 rfl rfl)
theorem dX1_nameTold_16 : decode cX1_nameTold 16 = .ok (.getfield 126, 3) := dk_180 0 126 (dk_at dksX1_nameTold_0 16 rfl rfl)
theorem dX1_nameTold_19 : decode cX1_nameTold 19 = .ok (.newarray .byte, 2) := dk_188_8 (dk_at dksX1_nameTold_0 19 rfl rfl)
theorem dX1_nameTold_21 : decode cX1_nameTold 21 = .ok (.astore_n 1, 1) := dk_76 (dk_at dksX1_nameTold_0 21 rfl rfl)
theorem dX1_nameTold_22 : decode cX1_nameTold 22 = .ok (.iconst 0, 1) := dk_3 (dk_at dksX1_nameTold_0 22 rfl rfl)
theorem dX1_nameTold_23 : decode cX1_nameTold 23 = .ok (.istore_n 2, 1) := dk_61 (dk_at dksX1_nameTold_0 23 rfl rfl)
theorem dX1_nameTold_24 : decode cX1_nameTold 24 = .ok (.iload_n 2, 1) := dk_28 (dk_at dksX1_nameTold_1 0 rfl rfl)
theorem dX1_nameTold_25 : decode cX1_nameTold 25 = .ok (.aload_n 0, 1) := dk_42 (dk_at dksX1_nameTold_1 1 rfl rfl)
theorem dX1_nameTold_26 : decode cX1_nameTold 26 = .ok (.getfield 126, 3) := dk_180 0 126 (dk_at dksX1_nameTold_1 2 rfl rfl)
theorem dX1_nameTold_29 : decode cX1_nameTold 29 = .ok (.if_icmp .ge 36, 3) := dk_162 0 36 (dk_at dksX1_nameTold_1 5 rfl rfl)
theorem dX1_nameTold_32 : decode cX1_nameTold 32 = .ok (.aload_n 0, 1) := dk_42 (dk_at dksX1_nameTold_1 8 rfl rfl)
theorem dX1_nameTold_33 : decode cX1_nameTold 33 = .ok (.getfield 65, 3) := dk_180 0 65 (dk_at dksX1_nameTold_1 9 rfl rfl)
theorem dX1_nameTold_36 : decode cX1_nameTold 36 = .ok (.iload_n 2, 1) := dk_28 (dk_at dksX1_nameTold_1 12 rfl rfl)
theorem dX1_nameTold_37 : decode cX1_nameTold 37 = .ok (.baload, 1) := dk_51 (dk_at dksX1_nameTold_1 13 rfl rfl)
theorem dX1_nameTold_38 : decode cX1_nameTold 38 = .ok (.bipush 97, 2) := dk_16 97 (dk_at dksX1_nameTold_1 14 rfl rfl)
theorem dX1_nameTold_40 : decode cX1_nameTold 40 = .ok (.bipush 122, 2) := dk_16 122 (dk_at dksX1_nameTold_1 16 rfl rfl)
theorem dX1_nameTold_42 : decode cX1_nameTold 42 = .ok (.invokestatic 3, 3) := dk_184 0 3 (dk_at dksX1_nameTold_1 18 rfl rfl)
theorem dX1_nameTold_45 : decode cX1_nameTold 45 = .ok (.ifCond .ne 5, 3) := dk_154 0 5 (dk_at dksX1_nameTold_1 21 rfl rfl)
theorem dX1_nameTold_48 : decode cX1_nameTold 48 = .ok (.aconst_null, 1) := dk_1 (dk_at dksX1_nameTold_2 0 rfl rfl)
theorem dX1_nameTold_49 : decode cX1_nameTold 49 = .ok (.areturn, 1) := dk_176 (dk_at dksX1_nameTold_2 1 rfl rfl)
theorem dX1_nameTold_50 : decode cX1_nameTold 50 = .ok (.aload_n 1, 1) := dk_43 (dk_at dksX1_nameTold_2 2 rfl rfl)
theorem dX1_nameTold_51 : decode cX1_nameTold 51 = .ok (.iload_n 2, 1) := dk_28 (dk_at dksX1_nameTold_2 3 rfl rfl)
theorem dX1_nameTold_52 : decode cX1_nameTold 52 = .ok (.aload_n 0, 1) := dk_42 (dk_at dksX1_nameTold_2 4 rfl rfl)
theorem dX1_nameTold_53 : decode cX1_nameTold 53 = .ok (.getfield 65, 3) := dk_180 0 65 (dk_at dksX1_nameTold_2 5 rfl rfl)
theorem dX1_nameTold_56 : decode cX1_nameTold 56 = .ok (.iload_n 2, 1) := dk_28 (dk_at dksX1_nameTold_2 8 rfl rfl)
theorem dX1_nameTold_57 : decode cX1_nameTold 57 = .ok (.baload, 1) := dk_51 (dk_at dksX1_nameTold_2 9 rfl rfl)
theorem dX1_nameTold_58 : decode cX1_nameTold 58 = .ok (.bastore, 1) := dk_84 (dk_at dksX1_nameTold_2 10 rfl rfl)
theorem dX1_nameTold_59 : decode cX1_nameTold 59 = .ok (.iinc 2 1, 3) := dk_132 2 1 (dk_at dksX1_nameTold_2 11 rfl rfl)
theorem dX1_nameTold_62 : decode cX1_nameTold 62 = .ok (.goto (-38), 3) := dk_167 255 218 (dk_at dksX1_nameTold_2 14 rfl rfl)
theorem dX1_nameTold_65 : decode cX1_nameTold 65 = .ok (.aload_n 1, 1) := dk_43 (dk_at dksX1_nameTold_2 17 rfl rfl)
theorem dX1_nameTold_66 : decode cX1_nameTold 66 = .ok (.areturn, 1) := dk_176 (dk_at dksX1_nameTold_2 18 rfl rfl)
def dkwX1_isTablet_0 : List UInt8 := [27, 3, 42, 180, 0, 26, 182, 0, 121, 4, 100, 184, 0, 3, 172]
abbrev dktX1_isTablet_0 : List UInt8 := dkwX1_isTablet_0 ++ []
theorem dksX1_isTablet_0 : cX1_isTablet.data.toList.drop 0 = dktX1_isTablet_0 := by decide +kernel
theorem dX1_isTablet_0 : decode cX1_isTablet 0 = .ok (.iload_n 1, 1) := dk_27 (dk_at dksX1_isTablet_0 0 rfl rfl)
theorem dX1_isTablet_1 : decode cX1_isTablet 1 = .ok (.iconst 0, 1) := dk_3 (dk_at dksX1_isTablet_0 1 rfl rfl)
theorem dX1_isTablet_2 : decode cX1_isTablet 2 = .ok (.aload_n 0, 1) := dk_42 (dk_at dksX1_isTablet_0 2 rfl rfl)
theorem dX1_isTablet_3 : decode cX1_isTablet 3 = .ok (.getfield 26, 3) := dk_180 0 26 (dk_at dksX1_isTablet_0 3 rfl rfl)
theorem dX1_isTablet_6 : decode cX1_isTablet 6 = .ok (.invokevirtual 121, 3) := dk_182 0 121 (dk_at dksX1_isTablet_0 6 rfl rfl)
theorem dX1_isTablet_9 : decode cX1_isTablet 9 = .ok (.iconst 1, 1) := dk_4 (dk_at dksX1_isTablet_0 9 rfl rfl)
theorem dX1_isTablet_10 : decode cX1_isTablet 10 = .ok (.isub, 1) := dk_100 (dk_at dksX1_isTablet_0 10 rfl rfl)
theorem dX1_isTablet_11 : decode cX1_isTablet 11 = .ok (.invokestatic 3, 3) := dk_184 0 3 (dk_at dksX1_isTablet_0 11 rfl rfl)
theorem dX1_isTablet_14 : decode cX1_isTablet 14 = .ok (.ireturn, 1) := dk_172 (dk_at dksX1_isTablet_0 14 rfl rfl)
def dkwX1_spelled_2 : List UInt8 := [167, 0, 4, 2, 172]
abbrev dktX1_spelled_2 : List UInt8 := dkwX1_spelled_2 ++ []
def dkwX1_spelled_1 : List UInt8 := [192, 1, 42, 180, 1, 50, 42, 180, 0, 81, 28, 182, 0, 216, 180, 0, 223, 42, 180, 0, 85, 184, 1, 53]
abbrev dktX1_spelled_1 : List UInt8 := dkwX1_spelled_1 ++ dktX1_spelled_2
def dkwX1_spelled_0 : List UInt8 := [42, 27, 182, 1, 47, 153, 0, 46, 42, 28, 182, 0, 213, 153, 0, 38, 42, 180, 0, 36, 27, 182, 0, 169]
abbrev dktX1_spelled_0 : List UInt8 := dkwX1_spelled_0 ++ dktX1_spelled_1
theorem dksX1_spelled_0 : cX1_spelled.data.toList.drop 0 = dktX1_spelled_0 := by decide +kernel
theorem dksX1_spelled_1 : cX1_spelled.data.toList.drop 24 = dktX1_spelled_1 := dk_seg dksX1_spelled_0 24 rfl rfl
theorem dksX1_spelled_2 : cX1_spelled.data.toList.drop 48 = dktX1_spelled_2 := dk_seg dksX1_spelled_1 24 rfl rfl
theorem dX1_spelled_0 : decode cX1_spelled 0 = .ok (.aload_n 0, 1) := dk_42 (dk_at dksX1_spelled_0 0 rfl rfl)
theorem dX1_spelled_1 : decode cX1_spelled 1 = .ok (.iload_n 1, 1) := dk_27 (dk_at dksX1_spelled_0 1 rfl rfl)
theorem dX1_spelled_2 : decode cX1_spelled 2 = .ok (.invokevirtual 303, 3) := dk_182 1 47 (dk_at dksX1_spelled_0 2 rfl rfl)
theorem dX1_spelled_5 : decode cX1_spelled 5 = .ok (.ifCond .eq 46, 3) := dk_153 0 46 (dk_at dksX1_spelled_0 5 rfl rfl)
theorem dX1_spelled_8 : decode cX1_spelled 8 = .ok (.aload_n 0, 1) := dk_42 (dk_at dksX1_spelled_0 8 rfl rfl)
theorem dX1_spelled_9 : decode cX1_spelled 9 = .ok (.iload_n 2, 1) := dk_28 (dk_at dksX1_spelled_0 9 rfl rfl)
theorem dX1_spelled_10 : decode cX1_spelled 10 = .ok (.invokevirtual 213, 3) := dk_182 0 213 (dk_at dksX1_spelled_0 10 rfl rfl)
theorem dX1_spelled_13 : decode cX1_spelled 13 = .ok (.ifCond .eq 38, 3) := dk_153 0 38 (dk_at dksX1_spelled_0 13 rfl rfl)
theorem dX1_spelled_16 : decode cX1_spelled 16 = .ok (.aload_n 0, 1) := dk_42 (dk_at dksX1_spelled_0 16 rfl rfl)
theorem dX1_spelled_17 : decode cX1_spelled 17 = .ok (.getfield 36, 3) := dk_180 0 36 (dk_at dksX1_spelled_0 17 rfl rfl)
theorem dX1_spelled_20 : decode cX1_spelled 20 = .ok (.iload_n 1, 1) := dk_27 (dk_at dksX1_spelled_0 20 rfl rfl)
theorem dX1_spelled_21 : decode cX1_spelled 21 = .ok (.invokevirtual 169, 3) := dk_182 0 169 (dk_at dksX1_spelled_0 21 rfl rfl)
theorem dX1_spelled_24 : decode cX1_spelled 24 = .ok (.checkcast 298, 3) := dk_192 1 42 (dk_at dksX1_spelled_1 0 rfl rfl)
theorem dX1_spelled_27 : decode cX1_spelled 27 = .ok (.getfield 306, 3) := dk_180 1 50 (dk_at dksX1_spelled_1 3 rfl rfl)
theorem dX1_spelled_30 : decode cX1_spelled 30 = .ok (.aload_n 0, 1) := dk_42 (dk_at dksX1_spelled_1 6 rfl rfl)
theorem dX1_spelled_31 : decode cX1_spelled 31 = .ok (.getfield 81, 3) := dk_180 0 81 (dk_at dksX1_spelled_1 7 rfl rfl)
theorem dX1_spelled_34 : decode cX1_spelled 34 = .ok (.iload_n 2, 1) := dk_28 (dk_at dksX1_spelled_1 10 rfl rfl)
theorem dX1_spelled_35 : decode cX1_spelled 35 = .ok (.invokevirtual 216, 3) := dk_182 0 216 (dk_at dksX1_spelled_1 11 rfl rfl)
theorem dX1_spelled_38 : decode cX1_spelled 38 = .ok (.getfield 223, 3) := dk_180 0 223 (dk_at dksX1_spelled_1 14 rfl rfl)
theorem dX1_spelled_41 : decode cX1_spelled 41 = .ok (.aload_n 0, 1) := dk_42 (dk_at dksX1_spelled_1 17 rfl rfl)
theorem dX1_spelled_42 : decode cX1_spelled 42 = .ok (.getfield 85, 3) := dk_180 0 85 (dk_at dksX1_spelled_1 18 rfl rfl)
theorem dX1_spelled_45 : decode cX1_spelled 45 = .ok (.invokestatic 309, 3) := dk_184 1 53 (dk_at dksX1_spelled_1 21 rfl rfl)
theorem dX1_spelled_48 : decode cX1_spelled 48 = .ok (.goto 4, 3) := dk_167 0 4 (dk_at dksX1_spelled_2 0 rfl rfl)
theorem dX1_spelled_51 : decode cX1_spelled 51 = .ok (.iconst (-1), 1) := dk_2 (dk_at dksX1_spelled_2 3 rfl rfl)
theorem dX1_spelled_52 : decode cX1_spelled 52 = .ok (.ireturn, 1) := dk_172 (dk_at dksX1_spelled_2 4 rfl rfl)
def dkwX1_isName_0 : List UInt8 := [27, 3, 42, 180, 0, 36, 182, 0, 121, 4, 100, 184, 0, 3, 172]
abbrev dktX1_isName_0 : List UInt8 := dkwX1_isName_0 ++ []
theorem dksX1_isName_0 : cX1_isName.data.toList.drop 0 = dktX1_isName_0 := by decide +kernel
theorem dX1_isName_0 : decode cX1_isName 0 = .ok (.iload_n 1, 1) := dk_27 (dk_at dksX1_isName_0 0 rfl rfl)
theorem dX1_isName_1 : decode cX1_isName 1 = .ok (.iconst 0, 1) := dk_3 (dk_at dksX1_isName_0 1 rfl rfl)
theorem dX1_isName_2 : decode cX1_isName 2 = .ok (.aload_n 0, 1) := dk_42 (dk_at dksX1_isName_0 2 rfl rfl)
theorem dX1_isName_3 : decode cX1_isName 3 = .ok (.getfield 36, 3) := dk_180 0 36 (dk_at dksX1_isName_0 3 rfl rfl)
theorem dX1_isName_6 : decode cX1_isName 6 = .ok (.invokevirtual 121, 3) := dk_182 0 121 (dk_at dksX1_isName_0 6 rfl rfl)
theorem dX1_isName_9 : decode cX1_isName 9 = .ok (.iconst 1, 1) := dk_4 (dk_at dksX1_isName_0 9 rfl rfl)
theorem dX1_isName_10 : decode cX1_isName 10 = .ok (.isub, 1) := dk_100 (dk_at dksX1_isName_0 10 rfl rfl)
theorem dX1_isName_11 : decode cX1_isName 11 = .ok (.invokestatic 3, 3) := dk_184 0 3 (dk_at dksX1_isName_0 11 rfl rfl)
theorem dX1_isName_14 : decode cX1_isName 14 = .ok (.ireturn, 1) := dk_172 (dk_at dksX1_isName_0 14 rfl rfl)
def dkwX1_spell_9 : List UInt8 := [132, 7, 1, 167, 255, 99, 21, 5, 172]
abbrev dktX1_spell_9 : List UInt8 := dkwX1_spell_9 ++ []
def dkwX1_spell_8 : List UInt8 := [159, 0, 8, 21, 10, 167, 0, 12, 42, 43, 21, 7, 21, 4, 184, 1, 34, 96, 79, 132, 5, 1]
abbrev dktX1_spell_8 : List UInt8 := dkwX1_spell_8 ++ dktX1_spell_9
def dkwX1_spell_7 : List UInt8 := [43, 21, 8, 182, 1, 31, 154, 0, 40, 44, 21, 5, 8, 21, 8, 16, 97, 100, 4, 96, 104, 21, 10, 2]
abbrev dktX1_spell_7 : List UInt8 := dkwX1_spell_7 ++ dktX1_spell_8
def dkwX1_spell_6 : List UInt8 := [160, 0, 6, 167, 0, 67, 44, 21, 5, 21, 9, 79, 132, 5, 1, 167, 0, 55, 21, 10, 2, 160, 0, 12]
abbrev dktX1_spell_6 : List UInt8 := dkwX1_spell_6 ++ dktX1_spell_7
def dkwX1_spell_5 : List UInt8 := [21, 9, 54, 4, 21, 7, 158, 0, 23, 43, 42, 21, 7, 4, 100, 51, 182, 1, 25, 184, 1, 28, 2]
abbrev dktX1_spell_5 : List UInt8 := dkwX1_spell_5 ++ dktX1_spell_6
def dkwX1_spell_4 : List UInt8 := [42, 21, 7, 4, 96, 51, 182, 1, 25, 184, 1, 28, 167, 0, 4, 2, 54, 10, 21, 9, 2, 159, 0, 44]
abbrev dktX1_spell_4 : List UInt8 := dkwX1_spell_4 ++ dktX1_spell_5
def dkwX1_spell_3 : List UInt8 := [21, 7, 51, 182, 1, 25, 54, 8, 21, 8, 184, 1, 28, 54, 9, 21, 7, 4, 96, 29, 162, 0, 19, 43]
abbrev dktX1_spell_3 : List UInt8 := dkwX1_spell_3 ++ dktX1_spell_4
def dkwX1_spell_2 : List UInt8 := [54, 6, 132, 7, 1, 167, 255, 220, 3, 54, 7, 21, 7, 29, 162, 0, 157, 21, 6, 153, 0, 152, 43, 42]
abbrev dktX1_spell_2 : List UInt8 := dkwX1_spell_2 ++ dktX1_spell_3
def dkwX1_spell_1 : List UInt8 := [154, 0, 18, 43, 42, 21, 7, 51, 182, 1, 25, 184, 1, 28, 2, 159, 0, 7, 4, 167, 0, 4, 3]
abbrev dktX1_spell_1 : List UInt8 := dkwX1_spell_1 ++ dktX1_spell_2
def dkwX1_spell_0 : List UInt8 := [42, 190, 62, 2, 54, 4, 3, 54, 5, 3, 54, 6, 3, 54, 7, 21, 7, 29, 162, 0, 36, 21, 6]
abbrev dktX1_spell_0 : List UInt8 := dkwX1_spell_0 ++ dktX1_spell_1
theorem dksX1_spell_0 : cX1_spell.data.toList.drop 0 = dktX1_spell_0 := by decide +kernel
theorem dksX1_spell_1 : cX1_spell.data.toList.drop 23 = dktX1_spell_1 := dk_seg dksX1_spell_0 23 rfl rfl
theorem dksX1_spell_2 : cX1_spell.data.toList.drop 46 = dktX1_spell_2 := dk_seg dksX1_spell_1 23 rfl rfl
theorem dksX1_spell_3 : cX1_spell.data.toList.drop 70 = dktX1_spell_3 := dk_seg dksX1_spell_2 24 rfl rfl
theorem dksX1_spell_4 : cX1_spell.data.toList.drop 94 = dktX1_spell_4 := dk_seg dksX1_spell_3 24 rfl rfl
theorem dksX1_spell_5 : cX1_spell.data.toList.drop 118 = dktX1_spell_5 := dk_seg dksX1_spell_4 24 rfl rfl
theorem dksX1_spell_6 : cX1_spell.data.toList.drop 141 = dktX1_spell_6 := dk_seg dksX1_spell_5 23 rfl rfl
theorem dksX1_spell_7 : cX1_spell.data.toList.drop 165 = dktX1_spell_7 := dk_seg dksX1_spell_6 24 rfl rfl
theorem dksX1_spell_8 : cX1_spell.data.toList.drop 189 = dktX1_spell_8 := dk_seg dksX1_spell_7 24 rfl rfl
theorem dksX1_spell_9 : cX1_spell.data.toList.drop 211 = dktX1_spell_9 := dk_seg dksX1_spell_8 22 rfl rfl
theorem dX1_spell_0 : decode cX1_spell 0 = .ok (.aload_n 0, 1) := dk_42 (dk_at dksX1_spell_0 0 rfl rfl)
theorem dX1_spell_1 : decode cX1_spell 1 = .ok (.arraylength, 1) := dk_190 (dk_at dksX1_spell_0 1 rfl rfl)
theorem dX1_spell_2 : decode cX1_spell 2 = .ok (.istore_n 3, 1) := dk_62 (dk_at dksX1_spell_0 2 rfl rfl)
theorem dX1_spell_3 : decode cX1_spell 3 = .ok (.iconst (-1), 1) := dk_2 (dk_at dksX1_spell_0 3 rfl rfl)
theorem dX1_spell_4 : decode cX1_spell 4 = .ok (.istore 4, 2) := dk_54 4 (dk_at dksX1_spell_0 4 rfl rfl)
theorem dX1_spell_6 : decode cX1_spell 6 = .ok (.iconst 0, 1) := dk_3 (dk_at dksX1_spell_0 6 rfl rfl)
theorem dX1_spell_7 : decode cX1_spell 7 = .ok (.istore 5, 2) := dk_54 5 (dk_at dksX1_spell_0 7 rfl rfl)
theorem dX1_spell_9 : decode cX1_spell 9 = .ok (.iconst 0, 1) := dk_3 (dk_at dksX1_spell_0 9 rfl rfl)
theorem dX1_spell_10 : decode cX1_spell 10 = .ok (.istore 6, 2) := dk_54 6 (dk_at dksX1_spell_0 10 rfl rfl)
theorem dX1_spell_12 : decode cX1_spell 12 = .ok (.iconst 0, 1) := dk_3 (dk_at dksX1_spell_0 12 rfl rfl)
theorem dX1_spell_13 : decode cX1_spell 13 = .ok (.istore 7, 2) := dk_54 7 (dk_at dksX1_spell_0 13 rfl rfl)
theorem dX1_spell_15 : decode cX1_spell 15 = .ok (.iload 7, 2) := dk_21 7 (dk_at dksX1_spell_0 15 rfl rfl)
theorem dX1_spell_17 : decode cX1_spell 17 = .ok (.iload_n 3, 1) := dk_29 (dk_at dksX1_spell_0 17 rfl rfl)
theorem dX1_spell_18 : decode cX1_spell 18 = .ok (.if_icmp .ge 36, 3) := dk_162 0 36 (dk_at dksX1_spell_0 18 rfl rfl)
theorem dX1_spell_21 : decode cX1_spell 21 = .ok (.iload 6, 2) := dk_21 6 (dk_at dksX1_spell_0 21 rfl rfl)
theorem dX1_spell_23 : decode cX1_spell 23 = .ok (.ifCond .ne 18, 3) := dk_154 0 18 (dk_at dksX1_spell_1 0 rfl rfl)
theorem dX1_spell_26 : decode cX1_spell 26 = .ok (.aload_n 1, 1) := dk_43 (dk_at dksX1_spell_1 3 rfl rfl)
theorem dX1_spell_27 : decode cX1_spell 27 = .ok (.aload_n 0, 1) := dk_42 (dk_at dksX1_spell_1 4 rfl rfl)
theorem dX1_spell_28 : decode cX1_spell 28 = .ok (.iload 7, 2) := dk_21 7 (dk_at dksX1_spell_1 5 rfl rfl)
theorem dX1_spell_30 : decode cX1_spell 30 = .ok (.baload, 1) := dk_51 (dk_at dksX1_spell_1 7 rfl rfl)
theorem dX1_spell_31 : decode cX1_spell 31 = .ok (.invokevirtual 281, 3) := dk_182 1 25 (dk_at dksX1_spell_1 8 rfl rfl)
theorem dX1_spell_34 : decode cX1_spell 34 = .ok (.invokestatic 284, 3) := dk_184 1 28 (dk_at dksX1_spell_1 11 rfl rfl)
theorem dX1_spell_37 : decode cX1_spell 37 = .ok (.iconst (-1), 1) := dk_2 (dk_at dksX1_spell_1 14 rfl rfl)
theorem dX1_spell_38 : decode cX1_spell 38 = .ok (.if_icmp .eq 7, 3) := dk_159 0 7 (dk_at dksX1_spell_1 15 rfl rfl)
theorem dX1_spell_41 : decode cX1_spell 41 = .ok (.iconst 1, 1) := dk_4 (dk_at dksX1_spell_1 18 rfl rfl)
theorem dX1_spell_42 : decode cX1_spell 42 = .ok (.goto 4, 3) := dk_167 0 4 (dk_at dksX1_spell_1 19 rfl rfl)
theorem dX1_spell_45 : decode cX1_spell 45 = .ok (.iconst 0, 1) := dk_3 (dk_at dksX1_spell_1 22 rfl rfl)
theorem dX1_spell_46 : decode cX1_spell 46 = .ok (.istore 6, 2) := dk_54 6 (dk_at dksX1_spell_2 0 rfl rfl)
theorem dX1_spell_48 : decode cX1_spell 48 = .ok (.iinc 7 1, 3) := dk_132 7 1 (dk_at dksX1_spell_2 2 rfl rfl)
theorem dX1_spell_51 : decode cX1_spell 51 = .ok (.goto (-36), 3) := dk_167 255 220 (dk_at dksX1_spell_2 5 rfl rfl)
theorem dX1_spell_54 : decode cX1_spell 54 = .ok (.iconst 0, 1) := dk_3 (dk_at dksX1_spell_2 8 rfl rfl)
theorem dX1_spell_55 : decode cX1_spell 55 = .ok (.istore 7, 2) := dk_54 7 (dk_at dksX1_spell_2 9 rfl rfl)
theorem dX1_spell_57 : decode cX1_spell 57 = .ok (.iload 7, 2) := dk_21 7 (dk_at dksX1_spell_2 11 rfl rfl)
theorem dX1_spell_59 : decode cX1_spell 59 = .ok (.iload_n 3, 1) := dk_29 (dk_at dksX1_spell_2 13 rfl rfl)
theorem dX1_spell_60 : decode cX1_spell 60 = .ok (.if_icmp .ge 157, 3) := dk_162 0 157 (dk_at dksX1_spell_2 14 rfl rfl)
theorem dX1_spell_63 : decode cX1_spell 63 = .ok (.iload 6, 2) := dk_21 6 (dk_at dksX1_spell_2 17 rfl rfl)
theorem dX1_spell_65 : decode cX1_spell 65 = .ok (.ifCond .eq 152, 3) := dk_153 0 152 (dk_at dksX1_spell_2 19 rfl rfl)
theorem dX1_spell_68 : decode cX1_spell 68 = .ok (.aload_n 1, 1) := dk_43 (dk_at dksX1_spell_2 22 rfl rfl)
theorem dX1_spell_69 : decode cX1_spell 69 = .ok (.aload_n 0, 1) := dk_42 (dk_at dksX1_spell_2 23 rfl rfl)
theorem dX1_spell_70 : decode cX1_spell 70 = .ok (.iload 7, 2) := dk_21 7 (dk_at dksX1_spell_3 0 rfl rfl)
theorem dX1_spell_72 : decode cX1_spell 72 = .ok (.baload, 1) := dk_51 (dk_at dksX1_spell_3 2 rfl rfl)
theorem dX1_spell_73 : decode cX1_spell 73 = .ok (.invokevirtual 281, 3) := dk_182 1 25 (dk_at dksX1_spell_3 3 rfl rfl)
theorem dX1_spell_76 : decode cX1_spell 76 = .ok (.istore 8, 2) := dk_54 8 (dk_at dksX1_spell_3 6 rfl rfl)
theorem dX1_spell_78 : decode cX1_spell 78 = .ok (.iload 8, 2) := dk_21 8 (dk_at dksX1_spell_3 8 rfl rfl)
theorem dX1_spell_80 : decode cX1_spell 80 = .ok (.invokestatic 284, 3) := dk_184 1 28 (dk_at dksX1_spell_3 10 rfl rfl)
theorem dX1_spell_83 : decode cX1_spell 83 = .ok (.istore 9, 2) := dk_54 9 (dk_at dksX1_spell_3 13 rfl rfl)
theorem dX1_spell_85 : decode cX1_spell 85 = .ok (.iload 7, 2) := dk_21 7 (dk_at dksX1_spell_3 15 rfl rfl)
theorem dX1_spell_87 : decode cX1_spell 87 = .ok (.iconst 1, 1) := dk_4 (dk_at dksX1_spell_3 17 rfl rfl)
theorem dX1_spell_88 : decode cX1_spell 88 = .ok (.iadd, 1) := dk_96 (dk_at dksX1_spell_3 18 rfl rfl)
theorem dX1_spell_89 : decode cX1_spell 89 = .ok (.iload_n 3, 1) := dk_29 (dk_at dksX1_spell_3 19 rfl rfl)
theorem dX1_spell_90 : decode cX1_spell 90 = .ok (.if_icmp .ge 19, 3) := dk_162 0 19 (dk_at dksX1_spell_3 20 rfl rfl)
theorem dX1_spell_93 : decode cX1_spell 93 = .ok (.aload_n 1, 1) := dk_43 (dk_at dksX1_spell_3 23 rfl rfl)
theorem dX1_spell_94 : decode cX1_spell 94 = .ok (.aload_n 0, 1) := dk_42 (dk_at dksX1_spell_4 0 rfl rfl)
theorem dX1_spell_95 : decode cX1_spell 95 = .ok (.iload 7, 2) := dk_21 7 (dk_at dksX1_spell_4 1 rfl rfl)
theorem dX1_spell_97 : decode cX1_spell 97 = .ok (.iconst 1, 1) := dk_4 (dk_at dksX1_spell_4 3 rfl rfl)
theorem dX1_spell_98 : decode cX1_spell 98 = .ok (.iadd, 1) := dk_96 (dk_at dksX1_spell_4 4 rfl rfl)
theorem dX1_spell_99 : decode cX1_spell 99 = .ok (.baload, 1) := dk_51 (dk_at dksX1_spell_4 5 rfl rfl)
theorem dX1_spell_100 : decode cX1_spell 100 = .ok (.invokevirtual 281, 3) := dk_182 1 25 (dk_at dksX1_spell_4 6 rfl rfl)
theorem dX1_spell_103 : decode cX1_spell 103 = .ok (.invokestatic 284, 3) := dk_184 1 28 (dk_at dksX1_spell_4 9 rfl rfl)
theorem dX1_spell_106 : decode cX1_spell 106 = .ok (.goto 4, 3) := dk_167 0 4 (dk_at dksX1_spell_4 12 rfl rfl)
theorem dX1_spell_109 : decode cX1_spell 109 = .ok (.iconst (-1), 1) := dk_2 (dk_at dksX1_spell_4 15 rfl rfl)
theorem dX1_spell_110 : decode cX1_spell 110 = .ok (.istore 10, 2) := dk_54 10 (dk_at dksX1_spell_4 16 rfl rfl)
theorem dX1_spell_112 : decode cX1_spell 112 = .ok (.iload 9, 2) := dk_21 9 (dk_at dksX1_spell_4 18 rfl rfl)
theorem dX1_spell_114 : decode cX1_spell 114 = .ok (.iconst (-1), 1) := dk_2 (dk_at dksX1_spell_4 20 rfl rfl)
theorem dX1_spell_115 : decode cX1_spell 115 = .ok (.if_icmp .eq 44, 3) := dk_159 0 44 (dk_at dksX1_spell_4 21 rfl rfl)
theorem dX1_spell_118 : decode cX1_spell 118 = .ok (.iload 9, 2) := dk_21 9 (dk_at dksX1_spell_5 0 rfl rfl)
theorem dX1_spell_120 : decode cX1_spell 120 = .ok (.istore 4, 2) := dk_54 4 (dk_at dksX1_spell_5 2 rfl rfl)
theorem dX1_spell_122 : decode cX1_spell 122 = .ok (.iload 7, 2) := dk_21 7 (dk_at dksX1_spell_5 4 rfl rfl)
theorem dX1_spell_124 : decode cX1_spell 124 = .ok (.ifCond .le 23, 3) := dk_158 0 23 (dk_at dksX1_spell_5 6 rfl rfl)
theorem dX1_spell_127 : decode cX1_spell 127 = .ok (.aload_n 1, 1) := dk_43 (dk_at dksX1_spell_5 9 rfl rfl)
theorem dX1_spell_128 : decode cX1_spell 128 = .ok (.aload_n 0, 1) := dk_42 (dk_at dksX1_spell_5 10 rfl rfl)
theorem dX1_spell_129 : decode cX1_spell 129 = .ok (.iload 7, 2) := dk_21 7 (dk_at dksX1_spell_5 11 rfl rfl)
theorem dX1_spell_131 : decode cX1_spell 131 = .ok (.iconst 1, 1) := dk_4 (dk_at dksX1_spell_5 13 rfl rfl)
theorem dX1_spell_132 : decode cX1_spell 132 = .ok (.isub, 1) := dk_100 (dk_at dksX1_spell_5 14 rfl rfl)
theorem dX1_spell_133 : decode cX1_spell 133 = .ok (.baload, 1) := dk_51 (dk_at dksX1_spell_5 15 rfl rfl)
theorem dX1_spell_134 : decode cX1_spell 134 = .ok (.invokevirtual 281, 3) := dk_182 1 25 (dk_at dksX1_spell_5 16 rfl rfl)
theorem dX1_spell_137 : decode cX1_spell 137 = .ok (.invokestatic 284, 3) := dk_184 1 28 (dk_at dksX1_spell_5 19 rfl rfl)
theorem dX1_spell_140 : decode cX1_spell 140 = .ok (.iconst (-1), 1) := dk_2 (dk_at dksX1_spell_5 22 rfl rfl)
theorem dX1_spell_141 : decode cX1_spell 141 = .ok (.if_icmp .ne 6, 3) := dk_160 0 6 (dk_at dksX1_spell_6 0 rfl rfl)
theorem dX1_spell_144 : decode cX1_spell 144 = .ok (.goto 67, 3) := dk_167 0 67 (dk_at dksX1_spell_6 3 rfl rfl)
theorem dX1_spell_147 : decode cX1_spell 147 = .ok (.aload_n 2, 1) := dk_44 (dk_at dksX1_spell_6 6 rfl rfl)
theorem dX1_spell_148 : decode cX1_spell 148 = .ok (.iload 5, 2) := dk_21 5 (dk_at dksX1_spell_6 7 rfl rfl)
theorem dX1_spell_150 : decode cX1_spell 150 = .ok (.iload 9, 2) := dk_21 9 (dk_at dksX1_spell_6 9 rfl rfl)
theorem dX1_spell_152 : decode cX1_spell 152 = .ok (.iastore, 1) := dk_79 (dk_at dksX1_spell_6 11 rfl rfl)
theorem dX1_spell_153 : decode cX1_spell 153 = .ok (.iinc 5 1, 3) := dk_132 5 1 (dk_at dksX1_spell_6 12 rfl rfl)
theorem dX1_spell_156 : decode cX1_spell 156 = .ok (.goto 55, 3) := dk_167 0 55 (dk_at dksX1_spell_6 15 rfl rfl)
theorem dX1_spell_159 : decode cX1_spell 159 = .ok (.iload 10, 2) := dk_21 10 (dk_at dksX1_spell_6 18 rfl rfl)
theorem dX1_spell_161 : decode cX1_spell 161 = .ok (.iconst (-1), 1) := dk_2 (dk_at dksX1_spell_6 20 rfl rfl)
theorem dX1_spell_162 : decode cX1_spell 162 = .ok (.if_icmp .ne 12, 3) := dk_160 0 12 (dk_at dksX1_spell_6 21 rfl rfl)
theorem dX1_spell_165 : decode cX1_spell 165 = .ok (.aload_n 1, 1) := dk_43 (dk_at dksX1_spell_7 0 rfl rfl)
theorem dX1_spell_166 : decode cX1_spell 166 = .ok (.iload 8, 2) := dk_21 8 (dk_at dksX1_spell_7 1 rfl rfl)
theorem dX1_spell_168 : decode cX1_spell 168 = .ok (.invokevirtual 287, 3) := dk_182 1 31 (dk_at dksX1_spell_7 3 rfl rfl)
theorem dX1_spell_171 : decode cX1_spell 171 = .ok (.ifCond .ne 40, 3) := dk_154 0 40 (dk_at dksX1_spell_7 6 rfl rfl)
theorem dX1_spell_174 : decode cX1_spell 174 = .ok (.aload_n 2, 1) := dk_44 (dk_at dksX1_spell_7 9 rfl rfl)
theorem dX1_spell_175 : decode cX1_spell 175 = .ok (.iload 5, 2) := dk_21 5 (dk_at dksX1_spell_7 10 rfl rfl)
theorem dX1_spell_177 : decode cX1_spell 177 = .ok (.iconst 5, 1) := dk_8 (dk_at dksX1_spell_7 12 rfl rfl)
theorem dX1_spell_178 : decode cX1_spell 178 = .ok (.iload 8, 2) := dk_21 8 (dk_at dksX1_spell_7 13 rfl rfl)
theorem dX1_spell_180 : decode cX1_spell 180 = .ok (.bipush 97, 2) := dk_16 97 (dk_at dksX1_spell_7 15 rfl rfl)
theorem dX1_spell_182 : decode cX1_spell 182 = .ok (.isub, 1) := dk_100 (dk_at dksX1_spell_7 17 rfl rfl)
theorem dX1_spell_183 : decode cX1_spell 183 = .ok (.iconst 1, 1) := dk_4 (dk_at dksX1_spell_7 18 rfl rfl)
theorem dX1_spell_184 : decode cX1_spell 184 = .ok (.iadd, 1) := dk_96 (dk_at dksX1_spell_7 19 rfl rfl)
theorem dX1_spell_185 : decode cX1_spell 185 = .ok (.imul, 1) := dk_104 (dk_at dksX1_spell_7 20 rfl rfl)
theorem dX1_spell_186 : decode cX1_spell 186 = .ok (.iload 10, 2) := dk_21 10 (dk_at dksX1_spell_7 21 rfl rfl)
theorem dX1_spell_188 : decode cX1_spell 188 = .ok (.iconst (-1), 1) := dk_2 (dk_at dksX1_spell_7 23 rfl rfl)
theorem dX1_spell_189 : decode cX1_spell 189 = .ok (.if_icmp .eq 8, 3) := dk_159 0 8 (dk_at dksX1_spell_8 0 rfl rfl)
theorem dX1_spell_192 : decode cX1_spell 192 = .ok (.iload 10, 2) := dk_21 10 (dk_at dksX1_spell_8 3 rfl rfl)
theorem dX1_spell_194 : decode cX1_spell 194 = .ok (.goto 12, 3) := dk_167 0 12 (dk_at dksX1_spell_8 5 rfl rfl)
theorem dX1_spell_197 : decode cX1_spell 197 = .ok (.aload_n 0, 1) := dk_42 (dk_at dksX1_spell_8 8 rfl rfl)
theorem dX1_spell_198 : decode cX1_spell 198 = .ok (.aload_n 1, 1) := dk_43 (dk_at dksX1_spell_8 9 rfl rfl)
theorem dX1_spell_199 : decode cX1_spell 199 = .ok (.iload 7, 2) := dk_21 7 (dk_at dksX1_spell_8 10 rfl rfl)
theorem dX1_spell_201 : decode cX1_spell 201 = .ok (.iload 4, 2) := dk_21 4 (dk_at dksX1_spell_8 12 rfl rfl)
theorem dX1_spell_203 : decode cX1_spell 203 = .ok (.invokestatic 290, 3) := dk_184 1 34 (dk_at dksX1_spell_8 14 rfl rfl)
theorem dX1_spell_206 : decode cX1_spell 206 = .ok (.iadd, 1) := dk_96 (dk_at dksX1_spell_8 17 rfl rfl)
theorem dX1_spell_207 : decode cX1_spell 207 = .ok (.iastore, 1) := dk_79 (dk_at dksX1_spell_8 18 rfl rfl)
theorem dX1_spell_208 : decode cX1_spell 208 = .ok (.iinc 5 1, 3) := dk_132 5 1 (dk_at dksX1_spell_8 19 rfl rfl)
theorem dX1_spell_211 : decode cX1_spell 211 = .ok (.iinc 7 1, 3) := dk_132 7 1 (dk_at dksX1_spell_9 0 rfl rfl)
theorem dX1_spell_214 : decode cX1_spell 214 = .ok (.goto (-157), 3) := dk_167 255 99 (dk_at dksX1_spell_9 3 rfl rfl)
theorem dX1_spell_217 : decode cX1_spell 217 = .ok (.iload 5, 2) := dk_21 5 (dk_at dksX1_spell_9 6 rfl rfl)
theorem dX1_spell_219 : decode cX1_spell 219 = .ok (.ireturn, 1) := dk_172 (dk_at dksX1_spell_9 8 rfl rfl)
def dkwX1_behind_1 : List UInt8 := [159, 0, 15, 43, 42, 21, 4, 51, 182, 1, 25, 184, 1, 28, 172, 132, 4, 1, 167, 255, 219, 29, 172]
abbrev dktX1_behind_1 : List UInt8 := dkwX1_behind_1 ++ []
def dkwX1_behind_0 : List UInt8 := [28, 4, 96, 54, 4, 21, 4, 42, 190, 162, 0, 36, 43, 42, 21, 4, 51, 182, 1, 25, 184, 1, 28, 2]
abbrev dktX1_behind_0 : List UInt8 := dkwX1_behind_0 ++ dktX1_behind_1
theorem dksX1_behind_0 : cX1_behind.data.toList.drop 0 = dktX1_behind_0 := by decide +kernel
theorem dksX1_behind_1 : cX1_behind.data.toList.drop 24 = dktX1_behind_1 := dk_seg dksX1_behind_0 24 rfl rfl
theorem dX1_behind_0 : decode cX1_behind 0 = .ok (.iload_n 2, 1) := dk_28 (dk_at dksX1_behind_0 0 rfl rfl)
theorem dX1_behind_1 : decode cX1_behind 1 = .ok (.iconst 1, 1) := dk_4 (dk_at dksX1_behind_0 1 rfl rfl)
theorem dX1_behind_2 : decode cX1_behind 2 = .ok (.iadd, 1) := dk_96 (dk_at dksX1_behind_0 2 rfl rfl)
theorem dX1_behind_3 : decode cX1_behind 3 = .ok (.istore 4, 2) := dk_54 4 (dk_at dksX1_behind_0 3 rfl rfl)
theorem dX1_behind_5 : decode cX1_behind 5 = .ok (.iload 4, 2) := dk_21 4 (dk_at dksX1_behind_0 5 rfl rfl)
theorem dX1_behind_7 : decode cX1_behind 7 = .ok (.aload_n 0, 1) := dk_42 (dk_at dksX1_behind_0 7 rfl rfl)
theorem dX1_behind_8 : decode cX1_behind 8 = .ok (.arraylength, 1) := dk_190 (dk_at dksX1_behind_0 8 rfl rfl)
theorem dX1_behind_9 : decode cX1_behind 9 = .ok (.if_icmp .ge 36, 3) := dk_162 0 36 (dk_at dksX1_behind_0 9 rfl rfl)
theorem dX1_behind_12 : decode cX1_behind 12 = .ok (.aload_n 1, 1) := dk_43 (dk_at dksX1_behind_0 12 rfl rfl)
theorem dX1_behind_13 : decode cX1_behind 13 = .ok (.aload_n 0, 1) := dk_42 (dk_at dksX1_behind_0 13 rfl rfl)
theorem dX1_behind_14 : decode cX1_behind 14 = .ok (.iload 4, 2) := dk_21 4 (dk_at dksX1_behind_0 14 rfl rfl)
theorem dX1_behind_16 : decode cX1_behind 16 = .ok (.baload, 1) := dk_51 (dk_at dksX1_behind_0 16 rfl rfl)
theorem dX1_behind_17 : decode cX1_behind 17 = .ok (.invokevirtual 281, 3) := dk_182 1 25 (dk_at dksX1_behind_0 17 rfl rfl)
theorem dX1_behind_20 : decode cX1_behind 20 = .ok (.invokestatic 284, 3) := dk_184 1 28 (dk_at dksX1_behind_0 20 rfl rfl)
theorem dX1_behind_23 : decode cX1_behind 23 = .ok (.iconst (-1), 1) := dk_2 (dk_at dksX1_behind_0 23 rfl rfl)
theorem dX1_behind_24 : decode cX1_behind 24 = .ok (.if_icmp .eq 15, 3) := dk_159 0 15 (dk_at dksX1_behind_1 0 rfl rfl)
theorem dX1_behind_27 : decode cX1_behind 27 = .ok (.aload_n 1, 1) := dk_43 (dk_at dksX1_behind_1 3 rfl rfl)
theorem dX1_behind_28 : decode cX1_behind 28 = .ok (.aload_n 0, 1) := dk_42 (dk_at dksX1_behind_1 4 rfl rfl)
theorem dX1_behind_29 : decode cX1_behind 29 = .ok (.iload 4, 2) := dk_21 4 (dk_at dksX1_behind_1 5 rfl rfl)
theorem dX1_behind_31 : decode cX1_behind 31 = .ok (.baload, 1) := dk_51 (dk_at dksX1_behind_1 7 rfl rfl)
theorem dX1_behind_32 : decode cX1_behind 32 = .ok (.invokevirtual 281, 3) := dk_182 1 25 (dk_at dksX1_behind_1 8 rfl rfl)
theorem dX1_behind_35 : decode cX1_behind 35 = .ok (.invokestatic 284, 3) := dk_184 1 28 (dk_at dksX1_behind_1 11 rfl rfl)
theorem dX1_behind_38 : decode cX1_behind 38 = .ok (.ireturn, 1) := dk_172 (dk_at dksX1_behind_1 14 rfl rfl)
theorem dX1_behind_39 : decode cX1_behind 39 = .ok (.iinc 4 1, 3) := dk_132 4 1 (dk_at dksX1_behind_1 15 rfl rfl)
theorem dX1_behind_42 : decode cX1_behind 42 = .ok (.goto (-37), 3) := dk_167 255 219 (dk_at dksX1_behind_1 18 rfl rfl)
theorem dX1_behind_45 : decode cX1_behind 45 = .ok (.iload_n 3, 1) := dk_29 (dk_at dksX1_behind_1 21 rfl rfl)
theorem dX1_behind_46 : decode cX1_behind 46 = .ok (.ireturn, 1) := dk_172 (dk_at dksX1_behind_1 22 rfl rfl)
def dkwX1_cell_3 : List UInt8 := [167, 0, 4, 2, 172]
abbrev dktX1_cell_3 : List UInt8 := dkwX1_cell_3 ++ []
def dkwX1_cell_2 : List UInt8 := [184, 1, 53, 54, 4, 28, 3, 21, 4, 4, 100, 184, 0, 3, 153, 0, 12, 42, 180, 0, 85, 28, 46]
abbrev dktX1_cell_2 : List UInt8 := dkwX1_cell_2 ++ dktX1_cell_3
def dkwX1_cell_1 : List UInt8 := [182, 0, 169, 192, 1, 42, 180, 1, 50, 42, 180, 0, 81, 29, 182, 0, 216, 180, 0, 223, 42, 180, 0, 85]
abbrev dktX1_cell_1 : List UInt8 := dkwX1_cell_1 ++ dktX1_cell_2
def dkwX1_cell_0 : List UInt8 := [42, 27, 182, 1, 47, 153, 0, 11, 42, 29, 182, 0, 213, 154, 0, 5, 2, 172, 42, 180, 0, 36, 27]
abbrev dktX1_cell_0 : List UInt8 := dkwX1_cell_0 ++ dktX1_cell_1
theorem dksX1_cell_0 : cX1_cell.data.toList.drop 0 = dktX1_cell_0 := by decide +kernel
theorem dksX1_cell_1 : cX1_cell.data.toList.drop 23 = dktX1_cell_1 := dk_seg dksX1_cell_0 23 rfl rfl
theorem dksX1_cell_2 : cX1_cell.data.toList.drop 47 = dktX1_cell_2 := dk_seg dksX1_cell_1 24 rfl rfl
theorem dksX1_cell_3 : cX1_cell.data.toList.drop 70 = dktX1_cell_3 := dk_seg dksX1_cell_2 23 rfl rfl
theorem dX1_cell_0 : decode cX1_cell 0 = .ok (.aload_n 0, 1) := dk_42 (dk_at dksX1_cell_0 0 rfl rfl)
theorem dX1_cell_1 : decode cX1_cell 1 = .ok (.iload_n 1, 1) := dk_27 (dk_at dksX1_cell_0 1 rfl rfl)
theorem dX1_cell_2 : decode cX1_cell 2 = .ok (.invokevirtual 303, 3) := dk_182 1 47 (dk_at dksX1_cell_0 2 rfl rfl)
theorem dX1_cell_5 : decode cX1_cell 5 = .ok (.ifCond .eq 11, 3) := dk_153 0 11 (dk_at dksX1_cell_0 5 rfl rfl)
theorem dX1_cell_8 : decode cX1_cell 8 = .ok (.aload_n 0, 1) := dk_42 (dk_at dksX1_cell_0 8 rfl rfl)
theorem dX1_cell_9 : decode cX1_cell 9 = .ok (.iload_n 3, 1) := dk_29 (dk_at dksX1_cell_0 9 rfl rfl)
theorem dX1_cell_10 : decode cX1_cell 10 = .ok (.invokevirtual 213, 3) := dk_182 0 213 (dk_at dksX1_cell_0 10 rfl rfl)
theorem dX1_cell_13 : decode cX1_cell 13 = .ok (.ifCond .ne 5, 3) := dk_154 0 5 (dk_at dksX1_cell_0 13 rfl rfl)
theorem dX1_cell_16 : decode cX1_cell 16 = .ok (.iconst (-1), 1) := dk_2 (dk_at dksX1_cell_0 16 rfl rfl)
theorem dX1_cell_17 : decode cX1_cell 17 = .ok (.ireturn, 1) := dk_172 (dk_at dksX1_cell_0 17 rfl rfl)
theorem dX1_cell_18 : decode cX1_cell 18 = .ok (.aload_n 0, 1) := dk_42 (dk_at dksX1_cell_0 18 rfl rfl)
theorem dX1_cell_19 : decode cX1_cell 19 = .ok (.getfield 36, 3) := dk_180 0 36 (dk_at dksX1_cell_0 19 rfl rfl)
theorem dX1_cell_22 : decode cX1_cell 22 = .ok (.iload_n 1, 1) := dk_27 (dk_at dksX1_cell_0 22 rfl rfl)
theorem dX1_cell_23 : decode cX1_cell 23 = .ok (.invokevirtual 169, 3) := dk_182 0 169 (dk_at dksX1_cell_1 0 rfl rfl)
theorem dX1_cell_26 : decode cX1_cell 26 = .ok (.checkcast 298, 3) := dk_192 1 42 (dk_at dksX1_cell_1 3 rfl rfl)
theorem dX1_cell_29 : decode cX1_cell 29 = .ok (.getfield 306, 3) := dk_180 1 50 (dk_at dksX1_cell_1 6 rfl rfl)
theorem dX1_cell_32 : decode cX1_cell 32 = .ok (.aload_n 0, 1) := dk_42 (dk_at dksX1_cell_1 9 rfl rfl)
theorem dX1_cell_33 : decode cX1_cell 33 = .ok (.getfield 81, 3) := dk_180 0 81 (dk_at dksX1_cell_1 10 rfl rfl)
theorem dX1_cell_36 : decode cX1_cell 36 = .ok (.iload_n 3, 1) := dk_29 (dk_at dksX1_cell_1 13 rfl rfl)
theorem dX1_cell_37 : decode cX1_cell 37 = .ok (.invokevirtual 216, 3) := dk_182 0 216 (dk_at dksX1_cell_1 14 rfl rfl)
theorem dX1_cell_40 : decode cX1_cell 40 = .ok (.getfield 223, 3) := dk_180 0 223 (dk_at dksX1_cell_1 17 rfl rfl)
theorem dX1_cell_43 : decode cX1_cell 43 = .ok (.aload_n 0, 1) := dk_42 (dk_at dksX1_cell_1 20 rfl rfl)
theorem dX1_cell_44 : decode cX1_cell 44 = .ok (.getfield 85, 3) := dk_180 0 85 (dk_at dksX1_cell_1 21 rfl rfl)
theorem dX1_cell_47 : decode cX1_cell 47 = .ok (.invokestatic 309, 3) := dk_184 1 53 (dk_at dksX1_cell_2 0 rfl rfl)
theorem dX1_cell_50 : decode cX1_cell 50 = .ok (.istore 4, 2) := dk_54 4 (dk_at dksX1_cell_2 3 rfl rfl)
theorem dX1_cell_52 : decode cX1_cell 52 = .ok (.iload_n 2, 1) := dk_28 (dk_at dksX1_cell_2 5 rfl rfl)
theorem dX1_cell_53 : decode cX1_cell 53 = .ok (.iconst 0, 1) := dk_3 (dk_at dksX1_cell_2 6 rfl rfl)
theorem dX1_cell_54 : decode cX1_cell 54 = .ok (.iload 4, 2) := dk_21 4 (dk_at dksX1_cell_2 7 rfl rfl)
theorem dX1_cell_56 : decode cX1_cell 56 = .ok (.iconst 1, 1) := dk_4 (dk_at dksX1_cell_2 9 rfl rfl)
theorem dX1_cell_57 : decode cX1_cell 57 = .ok (.isub, 1) := dk_100 (dk_at dksX1_cell_2 10 rfl rfl)
theorem dX1_cell_58 : decode cX1_cell 58 = .ok (.invokestatic 3, 3) := dk_184 0 3 (dk_at dksX1_cell_2 11 rfl rfl)
theorem dX1_cell_61 : decode cX1_cell 61 = .ok (.ifCond .eq 12, 3) := dk_153 0 12 (dk_at dksX1_cell_2 14 rfl rfl)
theorem dX1_cell_64 : decode cX1_cell 64 = .ok (.aload_n 0, 1) := dk_42 (dk_at dksX1_cell_2 17 rfl rfl)
theorem dX1_cell_65 : decode cX1_cell 65 = .ok (.getfield 85, 3) := dk_180 0 85 (dk_at dksX1_cell_2 18 rfl rfl)
theorem dX1_cell_68 : decode cX1_cell 68 = .ok (.iload_n 2, 1) := dk_28 (dk_at dksX1_cell_2 21 rfl rfl)
theorem dX1_cell_69 : decode cX1_cell 69 = .ok (.iaload, 1) := dk_46 (dk_at dksX1_cell_2 22 rfl rfl)
theorem dX1_cell_70 : decode cX1_cell 70 = .ok (.goto 4, 3) := dk_167 0 4 (dk_at dksX1_cell_3 0 rfl rfl)
theorem dX1_cell_73 : decode cX1_cell 73 = .ok (.iconst (-1), 1) := dk_2 (dk_at dksX1_cell_3 3 rfl rfl)
theorem dX1_cell_74 : decode cX1_cell 74 = .ok (.ireturn, 1) := dk_172 (dk_at dksX1_cell_3 4 rfl rfl)
def dkwX1_ways_1 : List UInt8 := [183, 1, 72, 77, 44, 182, 1, 73, 87, 44, 180, 1, 77, 172]
abbrev dktX1_ways_1 : List UInt8 := dkwX1_ways_1 ++ []
def dkwX1_ways_0 : List UInt8 := [42, 27, 182, 0, 213, 154, 0, 5, 2, 172, 42, 180, 0, 81, 27, 182, 0, 237, 87, 187, 1, 70, 89, 42]
abbrev dktX1_ways_0 : List UInt8 := dkwX1_ways_0 ++ dktX1_ways_1
theorem dksX1_ways_0 : cX1_ways.data.toList.drop 0 = dktX1_ways_0 := by decide +kernel
theorem dksX1_ways_1 : cX1_ways.data.toList.drop 24 = dktX1_ways_1 := dk_seg dksX1_ways_0 24 rfl rfl
theorem dX1_ways_0 : decode cX1_ways 0 = .ok (.aload_n 0, 1) := dk_42 (dk_at dksX1_ways_0 0 rfl rfl)
theorem dX1_ways_1 : decode cX1_ways 1 = .ok (.iload_n 1, 1) := dk_27 (dk_at dksX1_ways_0 1 rfl rfl)
theorem dX1_ways_2 : decode cX1_ways 2 = .ok (.invokevirtual 213, 3) := dk_182 0 213 (dk_at dksX1_ways_0 2 rfl rfl)
theorem dX1_ways_5 : decode cX1_ways 5 = .ok (.ifCond .ne 5, 3) := dk_154 0 5 (dk_at dksX1_ways_0 5 rfl rfl)
theorem dX1_ways_8 : decode cX1_ways 8 = .ok (.iconst (-1), 1) := dk_2 (dk_at dksX1_ways_0 8 rfl rfl)
theorem dX1_ways_9 : decode cX1_ways 9 = .ok (.ireturn, 1) := dk_172 (dk_at dksX1_ways_0 9 rfl rfl)
theorem dX1_ways_10 : decode cX1_ways 10 = .ok (.aload_n 0, 1) := dk_42 (dk_at dksX1_ways_0 10 rfl rfl)
theorem dX1_ways_11 : decode cX1_ways 11 = .ok (.getfield 81, 3) := dk_180 0 81 (dk_at dksX1_ways_0 11 rfl rfl)
theorem dX1_ways_14 : decode cX1_ways 14 = .ok (.iload_n 1, 1) := dk_27 (dk_at dksX1_ways_0 14 rfl rfl)
theorem dX1_ways_15 : decode cX1_ways 15 = .ok (.invokevirtual 237, 3) := dk_182 0 237 (dk_at dksX1_ways_0 15 rfl rfl)
theorem dX1_ways_18 : decode cX1_ways 18 = .ok (.pop, 1) := dk_87 (dk_at dksX1_ways_0 18 rfl rfl)
theorem dX1_ways_19 : decode cX1_ways 19 = .ok (.new 326, 3) := dk_187 1 70 (dk_at dksX1_ways_0 19 rfl rfl)
theorem dX1_ways_22 : decode cX1_ways 22 = .ok (.dup, 1) := dk_89 (dk_at dksX1_ways_0 22 rfl rfl)
theorem dX1_ways_23 : decode cX1_ways 23 = .ok (.aload_n 0, 1) := dk_42 (dk_at dksX1_ways_0 23 rfl rfl)
theorem dX1_ways_24 : decode cX1_ways 24 = .ok (.invokespecial 328, 3) := dk_183 1 72 (dk_at dksX1_ways_1 0 rfl rfl)
theorem dX1_ways_27 : decode cX1_ways 27 = .ok (.astore_n 2, 1) := dk_77 (dk_at dksX1_ways_1 3 rfl rfl)
theorem dX1_ways_28 : decode cX1_ways 28 = .ok (.aload_n 2, 1) := dk_44 (dk_at dksX1_ways_1 4 rfl rfl)
theorem dX1_ways_29 : decode cX1_ways 29 = .ok (.invokevirtual 329, 3) := dk_182 1 73 (dk_at dksX1_ways_1 5 rfl rfl)
theorem dX1_ways_32 : decode cX1_ways 32 = .ok (.pop, 1) := dk_87 (dk_at dksX1_ways_1 8 rfl rfl)
theorem dX1_ways_33 : decode cX1_ways 33 = .ok (.aload_n 2, 1) := dk_44 (dk_at dksX1_ways_1 9 rfl rfl)
theorem dX1_ways_34 : decode cX1_ways 34 = .ok (.getfield 333, 3) := dk_180 1 77 (dk_at dksX1_ways_1 10 rfl rfl)
theorem dX1_ways_37 : decode cX1_ways 37 = .ok (.ireturn, 1) := dk_172 (dk_at dksX1_ways_1 13 rfl rfl)
def dkwX1_isAsked_2 : List UInt8 := [42, 180, 0, 81, 180, 1, 60, 182, 1, 69, 153, 0, 7, 4, 167, 0, 4, 3, 172]
abbrev dktX1_isAsked_2 : List UInt8 := dkwX1_isAsked_2 ++ []
def dkwX1_isAsked_1 : List UInt8 := [42, 180, 0, 26, 42, 180, 0, 36, 27, 182, 0, 169, 192, 1, 42, 180, 1, 66, 182, 0, 169, 192, 0, 135]
abbrev dktX1_isAsked_1 : List UInt8 := dkwX1_isAsked_1 ++ dktX1_isAsked_2
def dkwX1_isAsked_0 : List UInt8 := [42, 180, 0, 36, 27, 182, 0, 169, 192, 1, 42, 42, 180, 0, 81, 180, 1, 60, 182, 1, 63, 153, 0, 44]
abbrev dktX1_isAsked_0 : List UInt8 := dkwX1_isAsked_0 ++ dktX1_isAsked_1
theorem dksX1_isAsked_0 : cX1_isAsked.data.toList.drop 0 = dktX1_isAsked_0 := by decide +kernel
theorem dksX1_isAsked_1 : cX1_isAsked.data.toList.drop 24 = dktX1_isAsked_1 := dk_seg dksX1_isAsked_0 24 rfl rfl
theorem dksX1_isAsked_2 : cX1_isAsked.data.toList.drop 48 = dktX1_isAsked_2 := dk_seg dksX1_isAsked_1 24 rfl rfl
theorem dX1_isAsked_0 : decode cX1_isAsked 0 = .ok (.aload_n 0, 1) := dk_42 (dk_at dksX1_isAsked_0 0 rfl rfl)
theorem dX1_isAsked_1 : decode cX1_isAsked 1 = .ok (.getfield 36, 3) := dk_180 0 36 (dk_at dksX1_isAsked_0 1 rfl rfl)
theorem dX1_isAsked_4 : decode cX1_isAsked 4 = .ok (.iload_n 1, 1) := dk_27 (dk_at dksX1_isAsked_0 4 rfl rfl)
theorem dX1_isAsked_5 : decode cX1_isAsked 5 = .ok (.invokevirtual 169, 3) := dk_182 0 169 (dk_at dksX1_isAsked_0 5 rfl rfl)
theorem dX1_isAsked_8 : decode cX1_isAsked 8 = .ok (.checkcast 298, 3) := dk_192 1 42 (dk_at dksX1_isAsked_0 8 rfl rfl)
theorem dX1_isAsked_11 : decode cX1_isAsked 11 = .ok (.aload_n 0, 1) := dk_42 (dk_at dksX1_isAsked_0 11 rfl rfl)
theorem dX1_isAsked_12 : decode cX1_isAsked 12 = .ok (.getfield 81, 3) := dk_180 0 81 (dk_at dksX1_isAsked_0 12 rfl rfl)
theorem dX1_isAsked_15 : decode cX1_isAsked 15 = .ok (.getfield 316, 3) := dk_180 1 60 (dk_at dksX1_isAsked_0 15 rfl rfl)
theorem dX1_isAsked_18 : decode cX1_isAsked 18 = .ok (.invokevirtual 319, 3) := dk_182 1 63 (dk_at dksX1_isAsked_0 18 rfl rfl)
theorem dX1_isAsked_21 : decode cX1_isAsked 21 = .ok (.ifCond .eq 44, 3) := dk_153 0 44 (dk_at dksX1_isAsked_0 21 rfl rfl)
theorem dX1_isAsked_24 : decode cX1_isAsked 24 = .ok (.aload_n 0, 1) := dk_42 (dk_at dksX1_isAsked_1 0 rfl rfl)
theorem dX1_isAsked_25 : decode cX1_isAsked 25 = .ok (.getfield 26, 3) := dk_180 0 26 (dk_at dksX1_isAsked_1 1 rfl rfl)
theorem dX1_isAsked_28 : decode cX1_isAsked 28 = .ok (.aload_n 0, 1) := dk_42 (dk_at dksX1_isAsked_1 4 rfl rfl)
theorem dX1_isAsked_29 : decode cX1_isAsked 29 = .ok (.getfield 36, 3) := dk_180 0 36 (dk_at dksX1_isAsked_1 5 rfl rfl)
theorem dX1_isAsked_32 : decode cX1_isAsked 32 = .ok (.iload_n 1, 1) := dk_27 (dk_at dksX1_isAsked_1 8 rfl rfl)
theorem dX1_isAsked_33 : decode cX1_isAsked 33 = .ok (.invokevirtual 169, 3) := dk_182 0 169 (dk_at dksX1_isAsked_1 9 rfl rfl)
theorem dX1_isAsked_36 : decode cX1_isAsked 36 = .ok (.checkcast 298, 3) := dk_192 1 42 (dk_at dksX1_isAsked_1 12 rfl rfl)
theorem dX1_isAsked_39 : decode cX1_isAsked 39 = .ok (.getfield 322, 3) := dk_180 1 66 (dk_at dksX1_isAsked_1 15 rfl rfl)
theorem dX1_isAsked_42 : decode cX1_isAsked 42 = .ok (.invokevirtual 169, 3) := dk_182 0 169 (dk_at dksX1_isAsked_1 18 rfl rfl)
theorem dX1_isAsked_45 : decode cX1_isAsked 45 = .ok (.checkcast 135, 3) := dk_192 0 135 (dk_at dksX1_isAsked_1 21 rfl rfl)
theorem dX1_isAsked_48 : decode cX1_isAsked 48 = .ok (.aload_n 0, 1) := dk_42 (dk_at dksX1_isAsked_2 0 rfl rfl)
theorem dX1_isAsked_49 : decode cX1_isAsked 49 = .ok (.getfield 81, 3) := dk_180 0 81 (dk_at dksX1_isAsked_2 1 rfl rfl)
theorem dX1_isAsked_52 : decode cX1_isAsked 52 = .ok (.getfield 316, 3) := dk_180 1 60 (dk_at dksX1_isAsked_2 4 rfl rfl)
theorem dX1_isAsked_55 : decode cX1_isAsked 55 = .ok (.invokevirtual 325, 3) := dk_182 1 69 (dk_at dksX1_isAsked_2 7 rfl rfl)
theorem dX1_isAsked_58 : decode cX1_isAsked 58 = .ok (.ifCond .eq 7, 3) := dk_153 0 7 (dk_at dksX1_isAsked_2 10 rfl rfl)
theorem dX1_isAsked_61 : decode cX1_isAsked 61 = .ok (.iconst 1, 1) := dk_4 (dk_at dksX1_isAsked_2 13 rfl rfl)
theorem dX1_isAsked_62 : decode cX1_isAsked 62 = .ok (.goto 4, 3) := dk_167 0 4 (dk_at dksX1_isAsked_2 14 rfl rfl)
theorem dX1_isAsked_65 : decode cX1_isAsked 65 = .ok (.iconst 0, 1) := dk_3 (dk_at dksX1_isAsked_2 17 rfl rfl)
theorem dX1_isAsked_66 : decode cX1_isAsked 66 = .ok (.ireturn, 1) := dk_172 (dk_at dksX1_isAsked_2 18 rfl rfl)
def dkwX1_consonant_0 : List UInt8 := [26, 8, 108, 172]
abbrev dktX1_consonant_0 : List UInt8 := dkwX1_consonant_0 ++ []
theorem dksX1_consonant_0 : cX1_consonant.data.toList.drop 0 = dktX1_consonant_0 := by decide +kernel
theorem dX1_consonant_0 : decode cX1_consonant 0 = .ok (.iload_n 0, 1) := dk_26 (dk_at dksX1_consonant_0 0 rfl rfl)
theorem dX1_consonant_1 : decode cX1_consonant 1 = .ok (.iconst 5, 1) := dk_8 (dk_at dksX1_consonant_0 1 rfl rfl)
theorem dX1_consonant_2 : decode cX1_consonant 2 = .ok (.idiv, 1) := dk_108 (dk_at dksX1_consonant_0 2 rfl rfl)
theorem dX1_consonant_3 : decode cX1_consonant 3 = .ok (.ireturn, 1) := dk_172 (dk_at dksX1_consonant_0 3 rfl rfl)
def dkwX1_way_1 : List UInt8 := [199, 0, 7, 2, 167, 0, 10, 25, 4, 180, 1, 93, 29, 46, 172]
abbrev dktX1_way_1 : List UInt8 := dkwX1_way_1 ++ []
def dkwX1_way_0 : List UInt8 := [42, 29, 182, 1, 47, 153, 0, 12, 42, 27, 28, 182, 1, 89, 167, 0, 4, 1, 58, 4, 25, 4]
abbrev dktX1_way_0 : List UInt8 := dkwX1_way_0 ++ dktX1_way_1
theorem dksX1_way_0 : cX1_way.data.toList.drop 0 = dktX1_way_0 := by decide +kernel
theorem dksX1_way_1 : cX1_way.data.toList.drop 22 = dktX1_way_1 := dk_seg dksX1_way_0 22 rfl rfl
theorem dX1_way_0 : decode cX1_way 0 = .ok (.aload_n 0, 1) := dk_42 (dk_at dksX1_way_0 0 rfl rfl)
theorem dX1_way_1 : decode cX1_way 1 = .ok (.iload_n 3, 1) := dk_29 (dk_at dksX1_way_0 1 rfl rfl)
theorem dX1_way_2 : decode cX1_way 2 = .ok (.invokevirtual 303, 3) := dk_182 1 47 (dk_at dksX1_way_0 2 rfl rfl)
theorem dX1_way_5 : decode cX1_way 5 = .ok (.ifCond .eq 12, 3) := dk_153 0 12 (dk_at dksX1_way_0 5 rfl rfl)
theorem dX1_way_8 : decode cX1_way 8 = .ok (.aload_n 0, 1) := dk_42 (dk_at dksX1_way_0 8 rfl rfl)
theorem dX1_way_9 : decode cX1_way 9 = .ok (.iload_n 1, 1) := dk_27 (dk_at dksX1_way_0 9 rfl rfl)
theorem dX1_way_10 : decode cX1_way 10 = .ok (.iload_n 2, 1) := dk_28 (dk_at dksX1_way_0 10 rfl rfl)
theorem dX1_way_11 : decode cX1_way 11 = .ok (.invokevirtual 345, 3) := dk_182 1 89 (dk_at dksX1_way_0 11 rfl rfl)
theorem dX1_way_14 : decode cX1_way 14 = .ok (.goto 4, 3) := dk_167 0 4 (dk_at dksX1_way_0 14 rfl rfl)
theorem dX1_way_17 : decode cX1_way 17 = .ok (.aconst_null, 1) := dk_1 (dk_at dksX1_way_0 17 rfl rfl)
theorem dX1_way_18 : decode cX1_way 18 = .ok (.astore 4, 2) := dk_58 4 (dk_at dksX1_way_0 18 rfl rfl)
theorem dX1_way_20 : decode cX1_way 20 = .ok (.aload 4, 2) := dk_25 4 (dk_at dksX1_way_0 20 rfl rfl)
theorem dX1_way_22 : decode cX1_way 22 = .ok (.ifnonnull 7, 3) := dk_199 0 7 (dk_at dksX1_way_1 0 rfl rfl)
theorem dX1_way_25 : decode cX1_way 25 = .ok (.iconst (-1), 1) := dk_2 (dk_at dksX1_way_1 3 rfl rfl)
theorem dX1_way_26 : decode cX1_way 26 = .ok (.goto 10, 3) := dk_167 0 10 (dk_at dksX1_way_1 4 rfl rfl)
theorem dX1_way_29 : decode cX1_way 29 = .ok (.aload 4, 2) := dk_25 4 (dk_at dksX1_way_1 7 rfl rfl)
theorem dX1_way_31 : decode cX1_way 31 = .ok (.getfield 349, 3) := dk_180 1 93 (dk_at dksX1_way_1 9 rfl rfl)
theorem dX1_way_34 : decode cX1_way 34 = .ok (.iload_n 3, 1) := dk_29 (dk_at dksX1_way_1 12 rfl rfl)
theorem dX1_way_35 : decode cX1_way 35 = .ok (.iaload, 1) := dk_46 (dk_at dksX1_way_1 13 rfl rfl)
theorem dX1_way_36 : decode cX1_way 36 = .ok (.ireturn, 1) := dk_172 (dk_at dksX1_way_1 14 rfl rfl)
def dkwX1_seeks_2 : List UInt8 := [167, 0, 4, 1, 176]
abbrev dktX1_seeks_2 : List UInt8 := dkwX1_seeks_2 ++ []
def dkwX1_seeks_1 : List UInt8 := [187, 1, 79, 89, 42, 28, 183, 1, 81, 78, 45, 182, 1, 84, 87, 45, 180, 1, 85, 153, 0, 7, 45]
abbrev dktX1_seeks_1 : List UInt8 := dkwX1_seeks_1 ++ dktX1_seeks_2
def dkwX1_seeks_0 : List UInt8 := [42, 27, 182, 0, 213, 153, 0, 7, 28, 156, 0, 5, 1, 176, 42, 180, 0, 81, 27, 182, 0, 237, 87]
abbrev dktX1_seeks_0 : List UInt8 := dkwX1_seeks_0 ++ dktX1_seeks_1
theorem dksX1_seeks_0 : cX1_seeks.data.toList.drop 0 = dktX1_seeks_0 := by decide +kernel
theorem dksX1_seeks_1 : cX1_seeks.data.toList.drop 23 = dktX1_seeks_1 := dk_seg dksX1_seeks_0 23 rfl rfl
theorem dksX1_seeks_2 : cX1_seeks.data.toList.drop 46 = dktX1_seeks_2 := dk_seg dksX1_seeks_1 23 rfl rfl
theorem dX1_seeks_0 : decode cX1_seeks 0 = .ok (.aload_n 0, 1) := dk_42 (dk_at dksX1_seeks_0 0 rfl rfl)
theorem dX1_seeks_1 : decode cX1_seeks 1 = .ok (.iload_n 1, 1) := dk_27 (dk_at dksX1_seeks_0 1 rfl rfl)
theorem dX1_seeks_2 : decode cX1_seeks 2 = .ok (.invokevirtual 213, 3) := dk_182 0 213 (dk_at dksX1_seeks_0 2 rfl rfl)
theorem dX1_seeks_5 : decode cX1_seeks 5 = .ok (.ifCond .eq 7, 3) := dk_153 0 7 (dk_at dksX1_seeks_0 5 rfl rfl)
theorem dX1_seeks_8 : decode cX1_seeks 8 = .ok (.iload_n 2, 1) := dk_28 (dk_at dksX1_seeks_0 8 rfl rfl)
theorem dX1_seeks_9 : decode cX1_seeks 9 = .ok (.ifCond .ge 5, 3) := dk_156 0 5 (dk_at dksX1_seeks_0 9 rfl rfl)
theorem dX1_seeks_12 : decode cX1_seeks 12 = .ok (.aconst_null, 1) := dk_1 (dk_at dksX1_seeks_0 12 rfl rfl)
theorem dX1_seeks_13 : decode cX1_seeks 13 = .ok (.areturn, 1) := dk_176 (dk_at dksX1_seeks_0 13 rfl rfl)
theorem dX1_seeks_14 : decode cX1_seeks 14 = .ok (.aload_n 0, 1) := dk_42 (dk_at dksX1_seeks_0 14 rfl rfl)
theorem dX1_seeks_15 : decode cX1_seeks 15 = .ok (.getfield 81, 3) := dk_180 0 81 (dk_at dksX1_seeks_0 15 rfl rfl)
theorem dX1_seeks_18 : decode cX1_seeks 18 = .ok (.iload_n 1, 1) := dk_27 (dk_at dksX1_seeks_0 18 rfl rfl)
theorem dX1_seeks_19 : decode cX1_seeks 19 = .ok (.invokevirtual 237, 3) := dk_182 0 237 (dk_at dksX1_seeks_0 19 rfl rfl)
theorem dX1_seeks_22 : decode cX1_seeks 22 = .ok (.pop, 1) := dk_87 (dk_at dksX1_seeks_0 22 rfl rfl)
theorem dX1_seeks_23 : decode cX1_seeks 23 = .ok (.new 335, 3) := dk_187 1 79 (dk_at dksX1_seeks_1 0 rfl rfl)
theorem dX1_seeks_26 : decode cX1_seeks 26 = .ok (.dup, 1) := dk_89 (dk_at dksX1_seeks_1 3 rfl rfl)
theorem dX1_seeks_27 : decode cX1_seeks 27 = .ok (.aload_n 0, 1) := dk_42 (dk_at dksX1_seeks_1 4 rfl rfl)
theorem dX1_seeks_28 : decode cX1_seeks 28 = .ok (.iload_n 2, 1) := dk_28 (dk_at dksX1_seeks_1 5 rfl rfl)
theorem dX1_seeks_29 : decode cX1_seeks 29 = .ok (.invokespecial 337, 3) := dk_183 1 81 (dk_at dksX1_seeks_1 6 rfl rfl)
theorem dX1_seeks_32 : decode cX1_seeks 32 = .ok (.astore_n 3, 1) := dk_78 (dk_at dksX1_seeks_1 9 rfl rfl)
theorem dX1_seeks_33 : decode cX1_seeks 33 = .ok (.aload_n 3, 1) := dk_45 (dk_at dksX1_seeks_1 10 rfl rfl)
theorem dX1_seeks_34 : decode cX1_seeks 34 = .ok (.invokevirtual 340, 3) := dk_182 1 84 (dk_at dksX1_seeks_1 11 rfl rfl)
theorem dX1_seeks_37 : decode cX1_seeks 37 = .ok (.pop, 1) := dk_87 (dk_at dksX1_seeks_1 14 rfl rfl)
theorem dX1_seeks_38 : decode cX1_seeks 38 = .ok (.aload_n 3, 1) := dk_45 (dk_at dksX1_seeks_1 15 rfl rfl)
theorem dX1_seeks_39 : decode cX1_seeks 39 = .ok (.getfield 341, 3) := dk_180 1 85 (dk_at dksX1_seeks_1 16 rfl rfl)
theorem dX1_seeks_42 : decode cX1_seeks 42 = .ok (.ifCond .eq 7, 3) := dk_153 0 7 (dk_at dksX1_seeks_1 19 rfl rfl)
theorem dX1_seeks_45 : decode cX1_seeks 45 = .ok (.aload_n 3, 1) := dk_45 (dk_at dksX1_seeks_1 22 rfl rfl)
theorem dX1_seeks_46 : decode cX1_seeks 46 = .ok (.goto 4, 3) := dk_167 0 4 (dk_at dksX1_seeks_2 0 rfl rfl)
theorem dX1_seeks_49 : decode cX1_seeks 49 = .ok (.aconst_null, 1) := dk_1 (dk_at dksX1_seeks_2 3 rfl rfl)
theorem dX1_seeks_50 : decode cX1_seeks 50 = .ok (.areturn, 1) := dk_176 (dk_at dksX1_seeks_2 4 rfl rfl)
def dkwX1_given_1 : List UInt8 := [2, 167, 0, 18, 25, 4, 180, 1, 96, 42, 180, 0, 81, 180, 0, 220, 29, 46, 46, 172]
abbrev dktX1_given_1 : List UInt8 := dkwX1_given_1 ++ []
def dkwX1_given_0 : List UInt8 := [29, 184, 0, 183, 153, 0, 12, 42, 27, 28, 182, 1, 89, 167, 0, 4, 1, 58, 4, 25, 4, 199, 0, 7]
abbrev dktX1_given_0 : List UInt8 := dkwX1_given_0 ++ dktX1_given_1
theorem dksX1_given_0 : cX1_given.data.toList.drop 0 = dktX1_given_0 := by decide +kernel
theorem dksX1_given_1 : cX1_given.data.toList.drop 24 = dktX1_given_1 := dk_seg dksX1_given_0 24 rfl rfl
theorem dX1_given_0 : decode cX1_given 0 = .ok (.iload_n 3, 1) := dk_29 (dk_at dksX1_given_0 0 rfl rfl)
theorem dX1_given_1 : decode cX1_given 1 = .ok (.invokestatic 183, 3) := dk_184 0 183 (dk_at dksX1_given_0 1 rfl rfl)
theorem dX1_given_4 : decode cX1_given 4 = .ok (.ifCond .eq 12, 3) := dk_153 0 12 (dk_at dksX1_given_0 4 rfl rfl)
theorem dX1_given_7 : decode cX1_given 7 = .ok (.aload_n 0, 1) := dk_42 (dk_at dksX1_given_0 7 rfl rfl)
theorem dX1_given_8 : decode cX1_given 8 = .ok (.iload_n 1, 1) := dk_27 (dk_at dksX1_given_0 8 rfl rfl)
theorem dX1_given_9 : decode cX1_given 9 = .ok (.iload_n 2, 1) := dk_28 (dk_at dksX1_given_0 9 rfl rfl)
theorem dX1_given_10 : decode cX1_given 10 = .ok (.invokevirtual 345, 3) := dk_182 1 89 (dk_at dksX1_given_0 10 rfl rfl)
theorem dX1_given_13 : decode cX1_given 13 = .ok (.goto 4, 3) := dk_167 0 4 (dk_at dksX1_given_0 13 rfl rfl)
theorem dX1_given_16 : decode cX1_given 16 = .ok (.aconst_null, 1) := dk_1 (dk_at dksX1_given_0 16 rfl rfl)
theorem dX1_given_17 : decode cX1_given 17 = .ok (.astore 4, 2) := dk_58 4 (dk_at dksX1_given_0 17 rfl rfl)
theorem dX1_given_19 : decode cX1_given 19 = .ok (.aload 4, 2) := dk_25 4 (dk_at dksX1_given_0 19 rfl rfl)
theorem dX1_given_21 : decode cX1_given 21 = .ok (.ifnonnull 7, 3) := dk_199 0 7 (dk_at dksX1_given_0 21 rfl rfl)
theorem dX1_given_24 : decode cX1_given 24 = .ok (.iconst (-1), 1) := dk_2 (dk_at dksX1_given_1 0 rfl rfl)
theorem dX1_given_25 : decode cX1_given 25 = .ok (.goto 18, 3) := dk_167 0 18 (dk_at dksX1_given_1 1 rfl rfl)
theorem dX1_given_28 : decode cX1_given 28 = .ok (.aload 4, 2) := dk_25 4 (dk_at dksX1_given_1 4 rfl rfl)
theorem dX1_given_30 : decode cX1_given 30 = .ok (.getfield 352, 3) := dk_180 1 96 (dk_at dksX1_given_1 6 rfl rfl)
theorem dX1_given_33 : decode cX1_given 33 = .ok (.aload_n 0, 1) := dk_42 (dk_at dksX1_given_1 9 rfl rfl)
theorem dX1_given_34 : decode cX1_given 34 = .ok (.getfield 81, 3) := dk_180 0 81 (dk_at dksX1_given_1 10 rfl rfl)
theorem dX1_given_37 : decode cX1_given 37 = .ok (.getfield 220, 3) := dk_180 0 220 (dk_at dksX1_given_1 13 rfl rfl)
theorem dX1_given_40 : decode cX1_given 40 = .ok (.iload_n 3, 1) := dk_29 (dk_at dksX1_given_1 16 rfl rfl)
theorem dX1_given_41 : decode cX1_given 41 = .ok (.iaload, 1) := dk_46 (dk_at dksX1_given_1 17 rfl rfl)
theorem dX1_given_42 : decode cX1_given 42 = .ok (.iaload, 1) := dk_46 (dk_at dksX1_given_1 18 rfl rfl)
theorem dX1_given_43 : decode cX1_given 43 = .ok (.ireturn, 1) := dk_172 (dk_at dksX1_given_1 19 rfl rfl)
def dkwX1_forced_1 : List UInt8 := [180, 0, 220, 28, 46, 182, 1, 107, 167, 0, 4, 2, 172]
abbrev dktX1_forced_1 : List UInt8 := dkwX1_forced_1 ++ []
def dkwX1_forced_0 : List UInt8 := [28, 184, 0, 183, 153, 0, 31, 42, 27, 182, 0, 213, 153, 0, 23, 42, 27, 182, 1, 103, 42, 180, 0, 81]
abbrev dktX1_forced_0 : List UInt8 := dkwX1_forced_0 ++ dktX1_forced_1
theorem dksX1_forced_0 : cX1_forced.data.toList.drop 0 = dktX1_forced_0 := by decide +kernel
theorem dksX1_forced_1 : cX1_forced.data.toList.drop 24 = dktX1_forced_1 := dk_seg dksX1_forced_0 24 rfl rfl
theorem dX1_forced_0 : decode cX1_forced 0 = .ok (.iload_n 2, 1) := dk_28 (dk_at dksX1_forced_0 0 rfl rfl)
theorem dX1_forced_1 : decode cX1_forced 1 = .ok (.invokestatic 183, 3) := dk_184 0 183 (dk_at dksX1_forced_0 1 rfl rfl)
theorem dX1_forced_4 : decode cX1_forced 4 = .ok (.ifCond .eq 31, 3) := dk_153 0 31 (dk_at dksX1_forced_0 4 rfl rfl)
theorem dX1_forced_7 : decode cX1_forced 7 = .ok (.aload_n 0, 1) := dk_42 (dk_at dksX1_forced_0 7 rfl rfl)
theorem dX1_forced_8 : decode cX1_forced 8 = .ok (.iload_n 1, 1) := dk_27 (dk_at dksX1_forced_0 8 rfl rfl)
theorem dX1_forced_9 : decode cX1_forced 9 = .ok (.invokevirtual 213, 3) := dk_182 0 213 (dk_at dksX1_forced_0 9 rfl rfl)
theorem dX1_forced_12 : decode cX1_forced 12 = .ok (.ifCond .eq 23, 3) := dk_153 0 23 (dk_at dksX1_forced_0 12 rfl rfl)
theorem dX1_forced_15 : decode cX1_forced 15 = .ok (.aload_n 0, 1) := dk_42 (dk_at dksX1_forced_0 15 rfl rfl)
theorem dX1_forced_16 : decode cX1_forced 16 = .ok (.iload_n 1, 1) := dk_27 (dk_at dksX1_forced_0 16 rfl rfl)
theorem dX1_forced_17 : decode cX1_forced 17 = .ok (.invokevirtual 359, 3) := dk_182 1 103 (dk_at dksX1_forced_0 17 rfl rfl)
theorem dX1_forced_20 : decode cX1_forced 20 = .ok (.aload_n 0, 1) := dk_42 (dk_at dksX1_forced_0 20 rfl rfl)
theorem dX1_forced_21 : decode cX1_forced 21 = .ok (.getfield 81, 3) := dk_180 0 81 (dk_at dksX1_forced_0 21 rfl rfl)
theorem dX1_forced_24 : decode cX1_forced 24 = .ok (.getfield 220, 3) := dk_180 0 220 (dk_at dksX1_forced_1 0 rfl rfl)
theorem dX1_forced_27 : decode cX1_forced 27 = .ok (.iload_n 2, 1) := dk_28 (dk_at dksX1_forced_1 3 rfl rfl)
theorem dX1_forced_28 : decode cX1_forced 28 = .ok (.iaload, 1) := dk_46 (dk_at dksX1_forced_1 4 rfl rfl)
theorem dX1_forced_29 : decode cX1_forced 29 = .ok (.invokevirtual 363, 3) := dk_182 1 107 (dk_at dksX1_forced_1 5 rfl rfl)
theorem dX1_forced_32 : decode cX1_forced 32 = .ok (.goto 4, 3) := dk_167 0 4 (dk_at dksX1_forced_1 8 rfl rfl)
theorem dX1_forced_35 : decode cX1_forced 35 = .ok (.iconst (-1), 1) := dk_2 (dk_at dksX1_forced_1 11 rfl rfl)
theorem dX1_forced_36 : decode cX1_forced 36 = .ok (.ireturn, 1) := dk_172 (dk_at dksX1_forced_1 12 rfl rfl)
def dkwX1_tally_1 : List UInt8 := [176]
abbrev dktX1_tally_1 : List UInt8 := dkwX1_tally_1 ++ []
def dkwX1_tally_0 : List UInt8 := [42, 180, 0, 81, 27, 182, 0, 237, 87, 187, 1, 99, 89, 42, 183, 1, 101, 77, 44, 182, 1, 102, 87, 44]
abbrev dktX1_tally_0 : List UInt8 := dkwX1_tally_0 ++ dktX1_tally_1
theorem dksX1_tally_0 : cX1_tally.data.toList.drop 0 = dktX1_tally_0 := by decide +kernel
theorem dksX1_tally_1 : cX1_tally.data.toList.drop 24 = dktX1_tally_1 := dk_seg dksX1_tally_0 24 rfl rfl
theorem dX1_tally_0 : decode cX1_tally 0 = .ok (.aload_n 0, 1) := dk_42 (dk_at dksX1_tally_0 0 rfl rfl)
theorem dX1_tally_1 : decode cX1_tally 1 = .ok (.getfield 81, 3) := dk_180 0 81 (dk_at dksX1_tally_0 1 rfl rfl)
theorem dX1_tally_4 : decode cX1_tally 4 = .ok (.iload_n 1, 1) := dk_27 (dk_at dksX1_tally_0 4 rfl rfl)
theorem dX1_tally_5 : decode cX1_tally 5 = .ok (.invokevirtual 237, 3) := dk_182 0 237 (dk_at dksX1_tally_0 5 rfl rfl)
theorem dX1_tally_8 : decode cX1_tally 8 = .ok (.pop, 1) := dk_87 (dk_at dksX1_tally_0 8 rfl rfl)
theorem dX1_tally_9 : decode cX1_tally 9 = .ok (.new 355, 3) := dk_187 1 99 (dk_at dksX1_tally_0 9 rfl rfl)
theorem dX1_tally_12 : decode cX1_tally 12 = .ok (.dup, 1) := dk_89 (dk_at dksX1_tally_0 12 rfl rfl)
theorem dX1_tally_13 : decode cX1_tally 13 = .ok (.aload_n 0, 1) := dk_42 (dk_at dksX1_tally_0 13 rfl rfl)
theorem dX1_tally_14 : decode cX1_tally 14 = .ok (.invokespecial 357, 3) := dk_183 1 101 (dk_at dksX1_tally_0 14 rfl rfl)
theorem dX1_tally_17 : decode cX1_tally 17 = .ok (.astore_n 2, 1) := dk_77 (dk_at dksX1_tally_0 17 rfl rfl)
theorem dX1_tally_18 : decode cX1_tally 18 = .ok (.aload_n 2, 1) := dk_44 (dk_at dksX1_tally_0 18 rfl rfl)
theorem dX1_tally_19 : decode cX1_tally 19 = .ok (.invokevirtual 358, 3) := dk_182 1 102 (dk_at dksX1_tally_0 19 rfl rfl)
theorem dX1_tally_22 : decode cX1_tally 22 = .ok (.pop, 1) := dk_87 (dk_at dksX1_tally_0 22 rfl rfl)
theorem dX1_tally_23 : decode cX1_tally 23 = .ok (.aload_n 2, 1) := dk_44 (dk_at dksX1_tally_0 23 rfl rfl)
theorem dX1_tally_24 : decode cX1_tally 24 = .ok (.areturn, 1) := dk_176 (dk_at dksX1_tally_1 0 rfl rfl)
def dkwX1_reads_7 : List UInt8 := [182, 1, 119, 182, 1, 116, 132, 6, 1, 167, 255, 160, 42, 180, 1, 110, 172]
abbrev dktX1_reads_7 : List UInt8 := dkwX1_reads_7 ++ []
def dkwX1_reads_6 : List UInt8 := [100, 182, 1, 116, 42, 21, 7, 2, 160, 0, 8, 16, 63, 167, 0, 12, 18, 7, 21, 7, 8, 112]
abbrev dktX1_reads_6 : List UInt8 := dkwX1_reads_6 ++ dktX1_reads_7
def dkwX1_reads_5 : List UInt8 := [21, 7, 2, 159, 0, 25, 21, 7, 184, 1, 113, 158, 0, 17, 42, 16, 97, 21, 7, 184, 1, 113, 96, 4]
abbrev dktX1_reads_5 : List UInt8 := dkwX1_reads_5 ++ dktX1_reads_6
def dkwX1_reads_4 : List UInt8 := [2, 167, 0, 21, 25, 4, 42, 180, 0, 81, 180, 0, 220, 25, 5, 21, 6, 46, 46, 182, 1, 107, 54, 7]
abbrev dktX1_reads_4 : List UInt8 := dkwX1_reads_4 ++ dktX1_reads_5
def dkwX1_reads_3 : List UInt8 := [3, 181, 1, 110, 3, 54, 6, 21, 6, 25, 5, 190, 162, 0, 94, 25, 5, 21, 6, 46, 2, 160, 0, 7]
abbrev dktX1_reads_3 : List UInt8 := dkwX1_reads_3 ++ dktX1_reads_4
def dkwX1_reads_2 : List UInt8 := [182, 1, 103, 58, 4, 42, 180, 0, 26, 28, 182, 0, 169, 192, 0, 135, 180, 0, 201, 29, 50, 58, 5, 42]
abbrev dktX1_reads_2 : List UInt8 := dkwX1_reads_2 ++ dktX1_reads_3
def dkwX1_reads_1 : List UInt8 := [182, 0, 169, 192, 0, 135, 180, 0, 201, 190, 4, 100, 184, 0, 3, 154, 0, 5, 2, 172, 42, 27]
abbrev dktX1_reads_1 : List UInt8 := dkwX1_reads_1 ++ dktX1_reads_2
def dkwX1_reads_0 : List UInt8 := [42, 27, 182, 0, 213, 153, 0, 36, 42, 28, 182, 0, 198, 153, 0, 28, 29, 3, 42, 180, 0, 26, 28]
abbrev dktX1_reads_0 : List UInt8 := dkwX1_reads_0 ++ dktX1_reads_1
theorem dksX1_reads_0 : cX1_reads.data.toList.drop 0 = dktX1_reads_0 := by decide +kernel
theorem dksX1_reads_1 : cX1_reads.data.toList.drop 23 = dktX1_reads_1 := dk_seg dksX1_reads_0 23 rfl rfl
theorem dksX1_reads_2 : cX1_reads.data.toList.drop 45 = dktX1_reads_2 := dk_seg dksX1_reads_1 22 rfl rfl
theorem dksX1_reads_3 : cX1_reads.data.toList.drop 69 = dktX1_reads_3 := dk_seg dksX1_reads_2 24 rfl rfl
theorem dksX1_reads_4 : cX1_reads.data.toList.drop 93 = dktX1_reads_4 := dk_seg dksX1_reads_3 24 rfl rfl
theorem dksX1_reads_5 : cX1_reads.data.toList.drop 117 = dktX1_reads_5 := dk_seg dksX1_reads_4 24 rfl rfl
theorem dksX1_reads_6 : cX1_reads.data.toList.drop 141 = dktX1_reads_6 := dk_seg dksX1_reads_5 24 rfl rfl
theorem dksX1_reads_7 : cX1_reads.data.toList.drop 163 = dktX1_reads_7 := dk_seg dksX1_reads_6 22 rfl rfl
theorem dX1_reads_0 : decode cX1_reads 0 = .ok (.aload_n 0, 1) := dk_42 (dk_at dksX1_reads_0 0 rfl rfl)
theorem dX1_reads_1 : decode cX1_reads 1 = .ok (.iload_n 1, 1) := dk_27 (dk_at dksX1_reads_0 1 rfl rfl)
theorem dX1_reads_2 : decode cX1_reads 2 = .ok (.invokevirtual 213, 3) := dk_182 0 213 (dk_at dksX1_reads_0 2 rfl rfl)
theorem dX1_reads_5 : decode cX1_reads 5 = .ok (.ifCond .eq 36, 3) := dk_153 0 36 (dk_at dksX1_reads_0 5 rfl rfl)
theorem dX1_reads_8 : decode cX1_reads 8 = .ok (.aload_n 0, 1) := dk_42 (dk_at dksX1_reads_0 8 rfl rfl)
theorem dX1_reads_9 : decode cX1_reads 9 = .ok (.iload_n 2, 1) := dk_28 (dk_at dksX1_reads_0 9 rfl rfl)
theorem dX1_reads_10 : decode cX1_reads 10 = .ok (.invokevirtual 198, 3) := dk_182 0 198 (dk_at dksX1_reads_0 10 rfl rfl)
theorem dX1_reads_13 : decode cX1_reads 13 = .ok (.ifCond .eq 28, 3) := dk_153 0 28 (dk_at dksX1_reads_0 13 rfl rfl)
theorem dX1_reads_16 : decode cX1_reads 16 = .ok (.iload_n 3, 1) := dk_29 (dk_at dksX1_reads_0 16 rfl rfl)
theorem dX1_reads_17 : decode cX1_reads 17 = .ok (.iconst 0, 1) := dk_3 (dk_at dksX1_reads_0 17 rfl rfl)
theorem dX1_reads_18 : decode cX1_reads 18 = .ok (.aload_n 0, 1) := dk_42 (dk_at dksX1_reads_0 18 rfl rfl)
theorem dX1_reads_19 : decode cX1_reads 19 = .ok (.getfield 26, 3) := dk_180 0 26 (dk_at dksX1_reads_0 19 rfl rfl)
theorem dX1_reads_22 : decode cX1_reads 22 = .ok (.iload_n 2, 1) := dk_28 (dk_at dksX1_reads_0 22 rfl rfl)
theorem dX1_reads_23 : decode cX1_reads 23 = .ok (.invokevirtual 169, 3) := dk_182 0 169 (dk_at dksX1_reads_1 0 rfl rfl)
theorem dX1_reads_26 : decode cX1_reads 26 = .ok (.checkcast 135, 3) := dk_192 0 135 (dk_at dksX1_reads_1 3 rfl rfl)
theorem dX1_reads_29 : decode cX1_reads 29 = .ok (.getfield 201, 3) := dk_180 0 201 (dk_at dksX1_reads_1 6 rfl rfl)
theorem dX1_reads_32 : decode cX1_reads 32 = .ok (.arraylength, 1) := dk_190 (dk_at dksX1_reads_1 9 rfl rfl)
theorem dX1_reads_33 : decode cX1_reads 33 = .ok (.iconst 1, 1) := dk_4 (dk_at dksX1_reads_1 10 rfl rfl)
theorem dX1_reads_34 : decode cX1_reads 34 = .ok (.isub, 1) := dk_100 (dk_at dksX1_reads_1 11 rfl rfl)
theorem dX1_reads_35 : decode cX1_reads 35 = .ok (.invokestatic 3, 3) := dk_184 0 3 (dk_at dksX1_reads_1 12 rfl rfl)
theorem dX1_reads_38 : decode cX1_reads 38 = .ok (.ifCond .ne 5, 3) := dk_154 0 5 (dk_at dksX1_reads_1 15 rfl rfl)
theorem dX1_reads_41 : decode cX1_reads 41 = .ok (.iconst (-1), 1) := dk_2 (dk_at dksX1_reads_1 18 rfl rfl)
theorem dX1_reads_42 : decode cX1_reads 42 = .ok (.ireturn, 1) := dk_172 (dk_at dksX1_reads_1 19 rfl rfl)
theorem dX1_reads_43 : decode cX1_reads 43 = .ok (.aload_n 0, 1) := dk_42 (dk_at dksX1_reads_1 20 rfl rfl)
theorem dX1_reads_44 : decode cX1_reads 44 = .ok (.iload_n 1, 1) := dk_27 (dk_at dksX1_reads_1 21 rfl rfl)
theorem dX1_reads_45 : decode cX1_reads 45 = .ok (.invokevirtual 359, 3) := dk_182 1 103 (dk_at dksX1_reads_2 0 rfl rfl)
theorem dX1_reads_48 : decode cX1_reads 48 = .ok (.astore 4, 2) := dk_58 4 (dk_at dksX1_reads_2 3 rfl rfl)
theorem dX1_reads_50 : decode cX1_reads 50 = .ok (.aload_n 0, 1) := dk_42 (dk_at dksX1_reads_2 5 rfl rfl)
theorem dX1_reads_51 : decode cX1_reads 51 = .ok (.getfield 26, 3) := dk_180 0 26 (dk_at dksX1_reads_2 6 rfl rfl)
theorem dX1_reads_54 : decode cX1_reads 54 = .ok (.iload_n 2, 1) := dk_28 (dk_at dksX1_reads_2 9 rfl rfl)
theorem dX1_reads_55 : decode cX1_reads 55 = .ok (.invokevirtual 169, 3) := dk_182 0 169 (dk_at dksX1_reads_2 10 rfl rfl)
theorem dX1_reads_58 : decode cX1_reads 58 = .ok (.checkcast 135, 3) := dk_192 0 135 (dk_at dksX1_reads_2 13 rfl rfl)
theorem dX1_reads_61 : decode cX1_reads 61 = .ok (.getfield 201, 3) := dk_180 0 201 (dk_at dksX1_reads_2 16 rfl rfl)
theorem dX1_reads_64 : decode cX1_reads 64 = .ok (.iload_n 3, 1) := dk_29 (dk_at dksX1_reads_2 19 rfl rfl)
theorem dX1_reads_65 : decode cX1_reads 65 = .ok (.aaload, 1) := dk_50 (dk_at dksX1_reads_2 20 rfl rfl)
theorem dX1_reads_66 : decode cX1_reads 66 = .ok (.astore 5, 2) := dk_58 5 (dk_at dksX1_reads_2 21 rfl rfl)
theorem dX1_reads_68 : decode cX1_reads 68 = .ok (.aload_n 0, 1) := dk_42 (dk_at dksX1_reads_2 23 rfl rfl)
theorem dX1_reads_69 : decode cX1_reads 69 = .ok (.iconst 0, 1) := dk_3 (dk_at dksX1_reads_3 0 rfl rfl)
theorem dX1_reads_70 : decode cX1_reads 70 = .ok (.putfield 366, 3) := dk_181 1 110 (dk_at dksX1_reads_3 1 rfl rfl)
theorem dX1_reads_73 : decode cX1_reads 73 = .ok (.iconst 0, 1) := dk_3 (dk_at dksX1_reads_3 4 rfl rfl)
theorem dX1_reads_74 : decode cX1_reads 74 = .ok (.istore 6, 2) := dk_54 6 (dk_at dksX1_reads_3 5 rfl rfl)
theorem dX1_reads_76 : decode cX1_reads 76 = .ok (.iload 6, 2) := dk_21 6 (dk_at dksX1_reads_3 7 rfl rfl)
theorem dX1_reads_78 : decode cX1_reads 78 = .ok (.aload 5, 2) := dk_25 5 (dk_at dksX1_reads_3 9 rfl rfl)
theorem dX1_reads_80 : decode cX1_reads 80 = .ok (.arraylength, 1) := dk_190 (dk_at dksX1_reads_3 11 rfl rfl)
theorem dX1_reads_81 : decode cX1_reads 81 = .ok (.if_icmp .ge 94, 3) := dk_162 0 94 (dk_at dksX1_reads_3 12 rfl rfl)
theorem dX1_reads_84 : decode cX1_reads 84 = .ok (.aload 5, 2) := dk_25 5 (dk_at dksX1_reads_3 15 rfl rfl)
theorem dX1_reads_86 : decode cX1_reads 86 = .ok (.iload 6, 2) := dk_21 6 (dk_at dksX1_reads_3 17 rfl rfl)
theorem dX1_reads_88 : decode cX1_reads 88 = .ok (.iaload, 1) := dk_46 (dk_at dksX1_reads_3 19 rfl rfl)
theorem dX1_reads_89 : decode cX1_reads 89 = .ok (.iconst (-1), 1) := dk_2 (dk_at dksX1_reads_3 20 rfl rfl)
theorem dX1_reads_90 : decode cX1_reads 90 = .ok (.if_icmp .ne 7, 3) := dk_160 0 7 (dk_at dksX1_reads_3 21 rfl rfl)
theorem dX1_reads_93 : decode cX1_reads 93 = .ok (.iconst (-1), 1) := dk_2 (dk_at dksX1_reads_4 0 rfl rfl)
theorem dX1_reads_94 : decode cX1_reads 94 = .ok (.goto 21, 3) := dk_167 0 21 (dk_at dksX1_reads_4 1 rfl rfl)
theorem dX1_reads_97 : decode cX1_reads 97 = .ok (.aload 4, 2) := dk_25 4 (dk_at dksX1_reads_4 4 rfl rfl)
theorem dX1_reads_99 : decode cX1_reads 99 = .ok (.aload_n 0, 1) := dk_42 (dk_at dksX1_reads_4 6 rfl rfl)
theorem dX1_reads_100 : decode cX1_reads 100 = .ok (.getfield 81, 3) := dk_180 0 81 (dk_at dksX1_reads_4 7 rfl rfl)
theorem dX1_reads_103 : decode cX1_reads 103 = .ok (.getfield 220, 3) := dk_180 0 220 (dk_at dksX1_reads_4 10 rfl rfl)
theorem dX1_reads_106 : decode cX1_reads 106 = .ok (.aload 5, 2) := dk_25 5 (dk_at dksX1_reads_4 13 rfl rfl)
theorem dX1_reads_108 : decode cX1_reads 108 = .ok (.iload 6, 2) := dk_21 6 (dk_at dksX1_reads_4 15 rfl rfl)
theorem dX1_reads_110 : decode cX1_reads 110 = .ok (.iaload, 1) := dk_46 (dk_at dksX1_reads_4 17 rfl rfl)
theorem dX1_reads_111 : decode cX1_reads 111 = .ok (.iaload, 1) := dk_46 (dk_at dksX1_reads_4 18 rfl rfl)
theorem dX1_reads_112 : decode cX1_reads 112 = .ok (.invokevirtual 363, 3) := dk_182 1 107 (dk_at dksX1_reads_4 19 rfl rfl)
theorem dX1_reads_115 : decode cX1_reads 115 = .ok (.istore 7, 2) := dk_54 7 (dk_at dksX1_reads_4 22 rfl rfl)
theorem dX1_reads_117 : decode cX1_reads 117 = .ok (.iload 7, 2) := dk_21 7 (dk_at dksX1_reads_5 0 rfl rfl)
theorem dX1_reads_119 : decode cX1_reads 119 = .ok (.iconst (-1), 1) := dk_2 (dk_at dksX1_reads_5 2 rfl rfl)
theorem dX1_reads_120 : decode cX1_reads 120 = .ok (.if_icmp .eq 25, 3) := dk_159 0 25 (dk_at dksX1_reads_5 3 rfl rfl)
theorem dX1_reads_123 : decode cX1_reads 123 = .ok (.iload 7, 2) := dk_21 7 (dk_at dksX1_reads_5 6 rfl rfl)
theorem dX1_reads_125 : decode cX1_reads 125 = .ok (.invokestatic 369, 3) := dk_184 1 113 (dk_at dksX1_reads_5 8 rfl rfl)
theorem dX1_reads_128 : decode cX1_reads 128 = .ok (.ifCond .le 17, 3) := dk_158 0 17 (dk_at dksX1_reads_5 11 rfl rfl)
theorem dX1_reads_131 : decode cX1_reads 131 = .ok (.aload_n 0, 1) := dk_42 (dk_at dksX1_reads_5 14 rfl rfl)
theorem dX1_reads_132 : decode cX1_reads 132 = .ok (.bipush 97, 2) := dk_16 97 (dk_at dksX1_reads_5 15 rfl rfl)
theorem dX1_reads_134 : decode cX1_reads 134 = .ok (.iload 7, 2) := dk_21 7 (dk_at dksX1_reads_5 17 rfl rfl)
theorem dX1_reads_136 : decode cX1_reads 136 = .ok (.invokestatic 369, 3) := dk_184 1 113 (dk_at dksX1_reads_5 19 rfl rfl)
theorem dX1_reads_139 : decode cX1_reads 139 = .ok (.iadd, 1) := dk_96 (dk_at dksX1_reads_5 22 rfl rfl)
theorem dX1_reads_140 : decode cX1_reads 140 = .ok (.iconst 1, 1) := dk_4 (dk_at dksX1_reads_5 23 rfl rfl)
theorem dX1_reads_141 : decode cX1_reads 141 = .ok (.isub, 1) := dk_100 (dk_at dksX1_reads_6 0 rfl rfl)
theorem dX1_reads_142 : decode cX1_reads 142 = .ok (.invokevirtual 372, 3) := dk_182 1 116 (dk_at dksX1_reads_6 1 rfl rfl)
theorem dX1_reads_145 : decode cX1_reads 145 = .ok (.aload_n 0, 1) := dk_42 (dk_at dksX1_reads_6 4 rfl rfl)
theorem dX1_reads_146 : decode cX1_reads 146 = .ok (.iload 7, 2) := dk_21 7 (dk_at dksX1_reads_6 5 rfl rfl)
theorem dX1_reads_148 : decode cX1_reads 148 = .ok (.iconst (-1), 1) := dk_2 (dk_at dksX1_reads_6 7 rfl rfl)
theorem dX1_reads_149 : decode cX1_reads 149 = .ok (.if_icmp .ne 8, 3) := dk_160 0 8 (dk_at dksX1_reads_6 8 rfl rfl)
theorem dX1_reads_152 : decode cX1_reads 152 = .ok (.bipush 63, 2) := dk_16 63 (dk_at dksX1_reads_6 11 rfl rfl)
theorem dX1_reads_154 : decode cX1_reads 154 = .ok (.goto 12, 3) := dk_167 0 12 (dk_at dksX1_reads_6 13 rfl rfl)
theorem dX1_reads_157 : decode cX1_reads 157 = .ok (.ldc 7, 2) := dk_18 7 (dk_at dksX1_reads_6 16 rfl rfl)
theorem dX1_reads_159 : decode cX1_reads 159 = .ok (.iload 7, 2) := dk_21 7 (dk_at dksX1_reads_6 18 rfl rfl)
theorem dX1_reads_161 : decode cX1_reads 161 = .ok (.iconst 5, 1) := dk_8 (dk_at dksX1_reads_6 20 rfl rfl)
theorem dX1_reads_162 : decode cX1_reads 162 = .ok (.irem, 1) := dk_112 (dk_at dksX1_reads_6 21 rfl rfl)
theorem dX1_reads_163 : decode cX1_reads 163 = .ok (.invokevirtual 375, 3) := dk_182 1 119 (dk_at dksX1_reads_7 0 rfl rfl)
theorem dX1_reads_166 : decode cX1_reads 166 = .ok (.invokevirtual 372, 3) := dk_182 1 116 (dk_at dksX1_reads_7 3 rfl rfl)
theorem dX1_reads_169 : decode cX1_reads 169 = .ok (.iinc 6 1, 3) := dk_132 6 1 (dk_at dksX1_reads_7 6 rfl rfl)
theorem dX1_reads_172 : decode cX1_reads 172 = .ok (.goto (-96), 3) := dk_167 255 160 (dk_at dksX1_reads_7 9 rfl rfl)
theorem dX1_reads_175 : decode cX1_reads 175 = .ok (.aload_n 0, 1) := dk_42 (dk_at dksX1_reads_7 12 rfl rfl)
theorem dX1_reads_176 : decode cX1_reads 176 = .ok (.getfield 366, 3) := dk_180 1 110 (dk_at dksX1_reads_7 13 rfl rfl)
theorem dX1_reads_179 : decode cX1_reads 179 = .ok (.ireturn, 1) := dk_172 (dk_at dksX1_reads_7 16 rfl rfl)
def dkwX1_puts_0 : List UInt8 := [42, 180, 0, 69, 42, 180, 1, 110, 27, 145, 84, 42, 89, 180, 1, 110, 4, 96, 181, 1, 110, 177]
abbrev dktX1_puts_0 : List UInt8 := dkwX1_puts_0 ++ []
theorem dksX1_puts_0 : cX1_puts.data.toList.drop 0 = dktX1_puts_0 := by decide +kernel
theorem dX1_puts_0 : decode cX1_puts 0 = .ok (.aload_n 0, 1) := dk_42 (dk_at dksX1_puts_0 0 rfl rfl)
theorem dX1_puts_1 : decode cX1_puts 1 = .ok (.getfield 69, 3) := dk_180 0 69 (dk_at dksX1_puts_0 1 rfl rfl)
theorem dX1_puts_4 : decode cX1_puts 4 = .ok (.aload_n 0, 1) := dk_42 (dk_at dksX1_puts_0 4 rfl rfl)
theorem dX1_puts_5 : decode cX1_puts 5 = .ok (.getfield 366, 3) := dk_180 1 110 (dk_at dksX1_puts_0 5 rfl rfl)
theorem dX1_puts_8 : decode cX1_puts 8 = .ok (.iload_n 1, 1) := dk_27 (dk_at dksX1_puts_0 8 rfl rfl)
theorem dX1_puts_9 : decode cX1_puts 9 = .ok (.i2b, 1) := dk_145 (dk_at dksX1_puts_0 9 rfl rfl)
theorem dX1_puts_10 : decode cX1_puts 10 = .ok (.bastore, 1) := dk_84 (dk_at dksX1_puts_0 10 rfl rfl)
theorem dX1_puts_11 : decode cX1_puts 11 = .ok (.aload_n 0, 1) := dk_42 (dk_at dksX1_puts_0 11 rfl rfl)
theorem dX1_puts_12 : decode cX1_puts 12 = .ok (.dup, 1) := dk_89 (dk_at dksX1_puts_0 12 rfl rfl)
theorem dX1_puts_13 : decode cX1_puts 13 = .ok (.getfield 366, 3) := dk_180 1 110 (dk_at dksX1_puts_0 13 rfl rfl)
theorem dX1_puts_16 : decode cX1_puts 16 = .ok (.iconst 1, 1) := dk_4 (dk_at dksX1_puts_0 16 rfl rfl)
theorem dX1_puts_17 : decode cX1_puts 17 = .ok (.iadd, 1) := dk_96 (dk_at dksX1_puts_0 17 rfl rfl)
theorem dX1_puts_18 : decode cX1_puts 18 = .ok (.putfield 366, 3) := dk_181 1 110 (dk_at dksX1_puts_0 18 rfl rfl)
theorem dX1_puts_21 : decode cX1_puts 21 = .ok (.return_, 1) := dk_177 (dk_at dksX1_puts_0 21 rfl rfl)
def dkwX1_letter_1 : List UInt8 := [172]
abbrev dktX1_letter_1 : List UInt8 := dkwX1_letter_1 ++ []
def dkwX1_letter_0 : List UInt8 := [27, 3, 42, 180, 1, 110, 4, 100, 184, 0, 3, 153, 0, 12, 42, 180, 0, 69, 27, 51, 167, 0, 4, 2]
abbrev dktX1_letter_0 : List UInt8 := dkwX1_letter_0 ++ dktX1_letter_1
theorem dksX1_letter_0 : cX1_letter.data.toList.drop 0 = dktX1_letter_0 := by decide +kernel
theorem dksX1_letter_1 : cX1_letter.data.toList.drop 24 = dktX1_letter_1 := dk_seg dksX1_letter_0 24 rfl rfl
theorem dX1_letter_0 : decode cX1_letter 0 = .ok (.iload_n 1, 1) := dk_27 (dk_at dksX1_letter_0 0 rfl rfl)
theorem dX1_letter_1 : decode cX1_letter 1 = .ok (.iconst 0, 1) := dk_3 (dk_at dksX1_letter_0 1 rfl rfl)
theorem dX1_letter_2 : decode cX1_letter 2 = .ok (.aload_n 0, 1) := dk_42 (dk_at dksX1_letter_0 2 rfl rfl)
theorem dX1_letter_3 : decode cX1_letter 3 = .ok (.getfield 366, 3) := dk_180 1 110 (dk_at dksX1_letter_0 3 rfl rfl)
theorem dX1_letter_6 : decode cX1_letter 6 = .ok (.iconst 1, 1) := dk_4 (dk_at dksX1_letter_0 6 rfl rfl)
theorem dX1_letter_7 : decode cX1_letter 7 = .ok (.isub, 1) := dk_100 (dk_at dksX1_letter_0 7 rfl rfl)
theorem dX1_letter_8 : decode cX1_letter 8 = .ok (.invokestatic 3, 3) := dk_184 0 3 (dk_at dksX1_letter_0 8 rfl rfl)
theorem dX1_letter_11 : decode cX1_letter 11 = .ok (.ifCond .eq 12, 3) := dk_153 0 12 (dk_at dksX1_letter_0 11 rfl rfl)
theorem dX1_letter_14 : decode cX1_letter 14 = .ok (.aload_n 0, 1) := dk_42 (dk_at dksX1_letter_0 14 rfl rfl)
theorem dX1_letter_15 : decode cX1_letter 15 = .ok (.getfield 69, 3) := dk_180 0 69 (dk_at dksX1_letter_0 15 rfl rfl)
theorem dX1_letter_18 : decode cX1_letter 18 = .ok (.iload_n 1, 1) := dk_27 (dk_at dksX1_letter_0 18 rfl rfl)
theorem dX1_letter_19 : decode cX1_letter 19 = .ok (.baload, 1) := dk_51 (dk_at dksX1_letter_0 19 rfl rfl)
theorem dX1_letter_20 : decode cX1_letter 20 = .ok (.goto 4, 3) := dk_167 0 4 (dk_at dksX1_letter_0 20 rfl rfl)
theorem dX1_letter_23 : decode cX1_letter 23 = .ok (.iconst (-1), 1) := dk_2 (dk_at dksX1_letter_0 23 rfl rfl)
theorem dX1_letter_24 : decode cX1_letter 24 = .ok (.ireturn, 1) := dk_172 (dk_at dksX1_letter_1 0 rfl rfl)
def dkwX1_settles_3 : List UInt8 := [28, 154, 0, 8, 21, 4, 167, 0, 9, 45, 21, 4, 182, 1, 126, 172]
abbrev dktX1_settles_3 : List UInt8 := dkwX1_settles_3 ++ []
def dkwX1_settles_2 : List UInt8 := [21, 5, 182, 1, 126, 45, 21, 4, 182, 1, 126, 162, 0, 7, 21, 5, 54, 4, 132, 5, 1, 167, 255, 227]
abbrev dktX1_settles_2 : List UInt8 := dkwX1_settles_2 ++ dktX1_settles_3
def dkwX1_settles_1 : List UInt8 := [78, 45, 180, 1, 123, 154, 0, 5, 2, 172, 3, 54, 4, 4, 54, 5, 21, 5, 16, 40, 162, 0, 28, 45]
abbrev dktX1_settles_1 : List UInt8 := dkwX1_settles_1 ++ dktX1_settles_2
def dkwX1_settles_0 : List UInt8 := [42, 27, 182, 0, 213, 153, 0, 12, 28, 3, 4, 184, 0, 3, 154, 0, 5, 2, 172, 42, 27, 182, 1, 103]
abbrev dktX1_settles_0 : List UInt8 := dkwX1_settles_0 ++ dktX1_settles_1
theorem dksX1_settles_0 : cX1_settles.data.toList.drop 0 = dktX1_settles_0 := by decide +kernel
theorem dksX1_settles_1 : cX1_settles.data.toList.drop 24 = dktX1_settles_1 := dk_seg dksX1_settles_0 24 rfl rfl
theorem dksX1_settles_2 : cX1_settles.data.toList.drop 48 = dktX1_settles_2 := dk_seg dksX1_settles_1 24 rfl rfl
theorem dksX1_settles_3 : cX1_settles.data.toList.drop 72 = dktX1_settles_3 := dk_seg dksX1_settles_2 24 rfl rfl
theorem dX1_settles_0 : decode cX1_settles 0 = .ok (.aload_n 0, 1) := dk_42 (dk_at dksX1_settles_0 0 rfl rfl)
theorem dX1_settles_1 : decode cX1_settles 1 = .ok (.iload_n 1, 1) := dk_27 (dk_at dksX1_settles_0 1 rfl rfl)
theorem dX1_settles_2 : decode cX1_settles 2 = .ok (.invokevirtual 213, 3) := dk_182 0 213 (dk_at dksX1_settles_0 2 rfl rfl)
theorem dX1_settles_5 : decode cX1_settles 5 = .ok (.ifCond .eq 12, 3) := dk_153 0 12 (dk_at dksX1_settles_0 5 rfl rfl)
theorem dX1_settles_8 : decode cX1_settles 8 = .ok (.iload_n 2, 1) := dk_28 (dk_at dksX1_settles_0 8 rfl rfl)
theorem dX1_settles_9 : decode cX1_settles 9 = .ok (.iconst 0, 1) := dk_3 (dk_at dksX1_settles_0 9 rfl rfl)
theorem dX1_settles_10 : decode cX1_settles 10 = .ok (.iconst 1, 1) := dk_4 (dk_at dksX1_settles_0 10 rfl rfl)
theorem dX1_settles_11 : decode cX1_settles 11 = .ok (.invokestatic 3, 3) := dk_184 0 3 (dk_at dksX1_settles_0 11 rfl rfl)
theorem dX1_settles_14 : decode cX1_settles 14 = .ok (.ifCond .ne 5, 3) := dk_154 0 5 (dk_at dksX1_settles_0 14 rfl rfl)
theorem dX1_settles_17 : decode cX1_settles 17 = .ok (.iconst (-1), 1) := dk_2 (dk_at dksX1_settles_0 17 rfl rfl)
theorem dX1_settles_18 : decode cX1_settles 18 = .ok (.ireturn, 1) := dk_172 (dk_at dksX1_settles_0 18 rfl rfl)
theorem dX1_settles_19 : decode cX1_settles 19 = .ok (.aload_n 0, 1) := dk_42 (dk_at dksX1_settles_0 19 rfl rfl)
theorem dX1_settles_20 : decode cX1_settles 20 = .ok (.iload_n 1, 1) := dk_27 (dk_at dksX1_settles_0 20 rfl rfl)
theorem dX1_settles_21 : decode cX1_settles 21 = .ok (.invokevirtual 359, 3) := dk_182 1 103 (dk_at dksX1_settles_0 21 rfl rfl)
theorem dX1_settles_24 : decode cX1_settles 24 = .ok (.astore_n 3, 1) := dk_78 (dk_at dksX1_settles_1 0 rfl rfl)
theorem dX1_settles_25 : decode cX1_settles 25 = .ok (.aload_n 3, 1) := dk_45 (dk_at dksX1_settles_1 1 rfl rfl)
theorem dX1_settles_26 : decode cX1_settles 26 = .ok (.getfield 379, 3) := dk_180 1 123 (dk_at dksX1_settles_1 2 rfl rfl)
theorem dX1_settles_29 : decode cX1_settles 29 = .ok (.ifCond .ne 5, 3) := dk_154 0 5 (dk_at dksX1_settles_1 5 rfl rfl)
theorem dX1_settles_32 : decode cX1_settles 32 = .ok (.iconst (-1), 1) := dk_2 (dk_at dksX1_settles_1 8 rfl rfl)
theorem dX1_settles_33 : decode cX1_settles 33 = .ok (.ireturn, 1) := dk_172 (dk_at dksX1_settles_1 9 rfl rfl)
theorem dX1_settles_34 : decode cX1_settles 34 = .ok (.iconst 0, 1) := dk_3 (dk_at dksX1_settles_1 10 rfl rfl)
theorem dX1_settles_35 : decode cX1_settles 35 = .ok (.istore 4, 2) := dk_54 4 (dk_at dksX1_settles_1 11 rfl rfl)
theorem dX1_settles_37 : decode cX1_settles 37 = .ok (.iconst 1, 1) := dk_4 (dk_at dksX1_settles_1 13 rfl rfl)
theorem dX1_settles_38 : decode cX1_settles 38 = .ok (.istore 5, 2) := dk_54 5 (dk_at dksX1_settles_1 14 rfl rfl)
theorem dX1_settles_40 : decode cX1_settles 40 = .ok (.iload 5, 2) := dk_21 5 (dk_at dksX1_settles_1 16 rfl rfl)
theorem dX1_settles_42 : decode cX1_settles 42 = .ok (.bipush 40, 2) := dk_16 40 (dk_at dksX1_settles_1 18 rfl rfl)
theorem dX1_settles_44 : decode cX1_settles 44 = .ok (.if_icmp .ge 28, 3) := dk_162 0 28 (dk_at dksX1_settles_1 20 rfl rfl)
theorem dX1_settles_47 : decode cX1_settles 47 = .ok (.aload_n 3, 1) := dk_45 (dk_at dksX1_settles_1 23 rfl rfl)
theorem dX1_settles_48 : decode cX1_settles 48 = .ok (.iload 5, 2) := dk_21 5 (dk_at dksX1_settles_2 0 rfl rfl)
theorem dX1_settles_50 : decode cX1_settles 50 = .ok (.invokevirtual 382, 3) := dk_182 1 126 (dk_at dksX1_settles_2 2 rfl rfl)
theorem dX1_settles_53 : decode cX1_settles 53 = .ok (.aload_n 3, 1) := dk_45 (dk_at dksX1_settles_2 5 rfl rfl)
theorem dX1_settles_54 : decode cX1_settles 54 = .ok (.iload 4, 2) := dk_21 4 (dk_at dksX1_settles_2 6 rfl rfl)
theorem dX1_settles_56 : decode cX1_settles 56 = .ok (.invokevirtual 382, 3) := dk_182 1 126 (dk_at dksX1_settles_2 8 rfl rfl)
theorem dX1_settles_59 : decode cX1_settles 59 = .ok (.if_icmp .ge 7, 3) := dk_162 0 7 (dk_at dksX1_settles_2 11 rfl rfl)
theorem dX1_settles_62 : decode cX1_settles 62 = .ok (.iload 5, 2) := dk_21 5 (dk_at dksX1_settles_2 14 rfl rfl)
theorem dX1_settles_64 : decode cX1_settles 64 = .ok (.istore 4, 2) := dk_54 4 (dk_at dksX1_settles_2 16 rfl rfl)
theorem dX1_settles_66 : decode cX1_settles 66 = .ok (.iinc 5 1, 3) := dk_132 5 1 (dk_at dksX1_settles_2 18 rfl rfl)
theorem dX1_settles_69 : decode cX1_settles 69 = .ok (.goto (-29), 3) := dk_167 255 227 (dk_at dksX1_settles_2 21 rfl rfl)
theorem dX1_settles_72 : decode cX1_settles 72 = .ok (.iload_n 2, 1) := dk_28 (dk_at dksX1_settles_3 0 rfl rfl)
theorem dX1_settles_73 : decode cX1_settles 73 = .ok (.ifCond .ne 8, 3) := dk_154 0 8 (dk_at dksX1_settles_3 1 rfl rfl)
theorem dX1_settles_76 : decode cX1_settles 76 = .ok (.iload 4, 2) := dk_21 4 (dk_at dksX1_settles_3 4 rfl rfl)
theorem dX1_settles_78 : decode cX1_settles 78 = .ok (.goto 9, 3) := dk_167 0 9 (dk_at dksX1_settles_3 6 rfl rfl)
theorem dX1_settles_81 : decode cX1_settles 81 = .ok (.aload_n 3, 1) := dk_45 (dk_at dksX1_settles_3 9 rfl rfl)
theorem dX1_settles_82 : decode cX1_settles 82 = .ok (.iload 4, 2) := dk_21 4 (dk_at dksX1_settles_3 10 rfl rfl)
theorem dX1_settles_84 : decode cX1_settles 84 = .ok (.invokevirtual 382, 3) := dk_182 1 126 (dk_at dksX1_settles_3 12 rfl rfl)
theorem dX1_settles_87 : decode cX1_settles 87 = .ok (.ireturn, 1) := dk_172 (dk_at dksX1_settles_3 15 rfl rfl)
def dkwX1_would_3 : List UInt8 := [25, 4, 45, 28, 16, 6, 182, 1, 129, 25, 4, 182, 1, 73, 87, 25, 4, 180, 1, 77, 172]
abbrev dktX1_would_3 : List UInt8 := dkwX1_would_3 ++ []
def dkwX1_would_2 : List UInt8 := [3, 181, 0, 126, 42, 180, 0, 81, 27, 182, 0, 237, 87, 187, 1, 70, 89, 42, 183, 1, 72, 58, 4]
abbrev dktX1_would_2 : List UInt8 := dkwX1_would_2 ++ dktX1_would_3
def dkwX1_would_1 : List UInt8 := [180, 0, 26, 28, 182, 0, 169, 192, 0, 135, 27, 182, 1, 69, 153, 0, 7, 45, 199, 0, 5, 2, 172, 42]
abbrev dktX1_would_1 : List UInt8 := dkwX1_would_1 ++ dktX1_would_2
def dkwX1_would_0 : List UInt8 := [42, 182, 1, 38, 78, 42, 27, 182, 0, 213, 153, 0, 33, 42, 28, 182, 0, 198, 153, 0, 25, 42]
abbrev dktX1_would_0 : List UInt8 := dkwX1_would_0 ++ dktX1_would_1
theorem dksX1_would_0 : cX1_would.data.toList.drop 0 = dktX1_would_0 := by decide +kernel
theorem dksX1_would_1 : cX1_would.data.toList.drop 22 = dktX1_would_1 := dk_seg dksX1_would_0 22 rfl rfl
theorem dksX1_would_2 : cX1_would.data.toList.drop 46 = dktX1_would_2 := dk_seg dksX1_would_1 24 rfl rfl
theorem dksX1_would_3 : cX1_would.data.toList.drop 69 = dktX1_would_3 := dk_seg dksX1_would_2 23 rfl rfl
theorem dX1_would_0 : decode cX1_would 0 = .ok (.aload_n 0, 1) := dk_42 (dk_at dksX1_would_0 0 rfl rfl)
theorem dX1_would_1 : decode cX1_would 1 = .ok (.invokevirtual 294, 3) := dk_182 1 38 (dk_at dksX1_would_0 1 rfl rfl)
theorem dX1_would_4 : decode cX1_would 4 = .ok (.astore_n 3, 1) := dk_78 (dk_at dksX1_would_0 4 rfl rfl)
theorem dX1_would_5 : decode cX1_would 5 = .ok (.aload_n 0, 1) := dk_42 (dk_at dksX1_would_0 5 rfl rfl)
theorem dX1_would_6 : decode cX1_would 6 = .ok (.iload_n 1, 1) := dk_27 (dk_at dksX1_would_0 6 rfl rfl)
theorem dX1_would_7 : decode cX1_would 7 = .ok (.invokevirtual 213, 3) := dk_182 0 213 (dk_at dksX1_would_0 7 rfl rfl)
theorem dX1_would_10 : decode cX1_would 10 = .ok (.ifCond .eq 33, 3) := dk_153 0 33 (dk_at dksX1_would_0 10 rfl rfl)
theorem dX1_would_13 : decode cX1_would 13 = .ok (.aload_n 0, 1) := dk_42 (dk_at dksX1_would_0 13 rfl rfl)
theorem dX1_would_14 : decode cX1_would 14 = .ok (.iload_n 2, 1) := dk_28 (dk_at dksX1_would_0 14 rfl rfl)
theorem dX1_would_15 : decode cX1_would 15 = .ok (.invokevirtual 198, 3) := dk_182 0 198 (dk_at dksX1_would_0 15 rfl rfl)
theorem dX1_would_18 : decode cX1_would 18 = .ok (.ifCond .eq 25, 3) := dk_153 0 25 (dk_at dksX1_would_0 18 rfl rfl)
theorem dX1_would_21 : decode cX1_would 21 = .ok (.aload_n 0, 1) := dk_42 (dk_at dksX1_would_0 21 rfl rfl)
theorem dX1_would_22 : decode cX1_would 22 = .ok (.getfield 26, 3) := dk_180 0 26 (dk_at dksX1_would_1 0 rfl rfl)
theorem dX1_would_25 : decode cX1_would 25 = .ok (.iload_n 2, 1) := dk_28 (dk_at dksX1_would_1 3 rfl rfl)
theorem dX1_would_26 : decode cX1_would 26 = .ok (.invokevirtual 169, 3) := dk_182 0 169 (dk_at dksX1_would_1 4 rfl rfl)
theorem dX1_would_29 : decode cX1_would 29 = .ok (.checkcast 135, 3) := dk_192 0 135 (dk_at dksX1_would_1 7 rfl rfl)
theorem dX1_would_32 : decode cX1_would 32 = .ok (.iload_n 1, 1) := dk_27 (dk_at dksX1_would_1 10 rfl rfl)
theorem dX1_would_33 : decode cX1_would 33 = .ok (.invokevirtual 325, 3) := dk_182 1 69 (dk_at dksX1_would_1 11 rfl rfl)
theorem dX1_would_36 : decode cX1_would 36 = .ok (.ifCond .eq 7, 3) := dk_153 0 7 (dk_at dksX1_would_1 14 rfl rfl)
theorem dX1_would_39 : decode cX1_would 39 = .ok (.aload_n 3, 1) := dk_45 (dk_at dksX1_would_1 17 rfl rfl)
theorem dX1_would_40 : decode cX1_would 40 = .ok (.ifnonnull 5, 3) := dk_199 0 5 (dk_at dksX1_would_1 18 rfl rfl)
theorem dX1_would_43 : decode cX1_would 43 = .ok (.iconst (-1), 1) := dk_2 (dk_at dksX1_would_1 21 rfl rfl)
theorem dX1_would_44 : decode cX1_would 44 = .ok (.ireturn, 1) := dk_172 (dk_at dksX1_would_1 22 rfl rfl)
theorem dX1_would_45 : decode cX1_would 45 = .ok (.aload_n 0, 1) := dk_42 (dk_at dksX1_would_1 23 rfl rfl)
theorem dX1_would_46 : decode cX1_would 46 = .ok (.iconst 0, 1) := dk_3 (dk_at dksX1_would_2 0 rfl rfl)
theorem dX1_would_47 : decode cX1_would 47 = .ok (.putfield 126, 3) := dk_181 0 126 (dk_at dksX1_would_2 1 rfl rfl)
theorem dX1_would_50 : decode cX1_would 50 = .ok (.aload_n 0, 1) := dk_42 (dk_at dksX1_would_2 4 rfl rfl)
theorem dX1_would_51 : decode cX1_would 51 = .ok (.getfield 81, 3) := dk_180 0 81 (dk_at dksX1_would_2 5 rfl rfl)
theorem dX1_would_54 : decode cX1_would 54 = .ok (.iload_n 1, 1) := dk_27 (dk_at dksX1_would_2 8 rfl rfl)
theorem dX1_would_55 : decode cX1_would 55 = .ok (.invokevirtual 237, 3) := dk_182 0 237 (dk_at dksX1_would_2 9 rfl rfl)
theorem dX1_would_58 : decode cX1_would 58 = .ok (.pop, 1) := dk_87 (dk_at dksX1_would_2 12 rfl rfl)
theorem dX1_would_59 : decode cX1_would 59 = .ok (.new 326, 3) := dk_187 1 70 (dk_at dksX1_would_2 13 rfl rfl)
theorem dX1_would_62 : decode cX1_would 62 = .ok (.dup, 1) := dk_89 (dk_at dksX1_would_2 16 rfl rfl)
theorem dX1_would_63 : decode cX1_would 63 = .ok (.aload_n 0, 1) := dk_42 (dk_at dksX1_would_2 17 rfl rfl)
theorem dX1_would_64 : decode cX1_would 64 = .ok (.invokespecial 328, 3) := dk_183 1 72 (dk_at dksX1_would_2 18 rfl rfl)
theorem dX1_would_67 : decode cX1_would 67 = .ok (.astore 4, 2) := dk_58 4 (dk_at dksX1_would_2 21 rfl rfl)
theorem dX1_would_69 : decode cX1_would 69 = .ok (.aload 4, 2) := dk_25 4 (dk_at dksX1_would_3 0 rfl rfl)
theorem dX1_would_71 : decode cX1_would 71 = .ok (.aload_n 3, 1) := dk_45 (dk_at dksX1_would_3 2 rfl rfl)
theorem dX1_would_72 : decode cX1_would 72 = .ok (.iload_n 2, 1) := dk_28 (dk_at dksX1_would_3 3 rfl rfl)
theorem dX1_would_73 : decode cX1_would 73 = .ok (.bipush 6, 2) := dk_16 6 (dk_at dksX1_would_3 4 rfl rfl)
theorem dX1_would_75 : decode cX1_would 75 = .ok (.invokevirtual 385, 3) := dk_182 1 129 (dk_at dksX1_would_3 6 rfl rfl)
theorem dX1_would_78 : decode cX1_would 78 = .ok (.aload 4, 2) := dk_25 4 (dk_at dksX1_would_3 9 rfl rfl)
theorem dX1_would_80 : decode cX1_would 80 = .ok (.invokevirtual 329, 3) := dk_182 1 73 (dk_at dksX1_would_3 11 rfl rfl)
theorem dX1_would_83 : decode cX1_would 83 = .ok (.pop, 1) := dk_87 (dk_at dksX1_would_3 14 rfl rfl)
theorem dX1_would_84 : decode cX1_would 84 = .ok (.aload 4, 2) := dk_25 4 (dk_at dksX1_would_3 15 rfl rfl)
theorem dX1_would_86 : decode cX1_would 86 = .ok (.getfield 333, 3) := dk_180 1 77 (dk_at dksX1_would_3 17 rfl rfl)
theorem dX1_would_89 : decode cX1_would 89 = .ok (.ireturn, 1) := dk_172 (dk_at dksX1_would_3 20 rfl rfl)
def dkwX1_fits_7 : List UInt8 := [132, 7, 1, 167, 255, 175, 132, 5, 1, 167, 255, 140, 21, 4, 172]
abbrev dktX1_fits_7 : List UInt8 := dkwX1_fits_7 ++ []
def dkwX1_fits_6 : List UInt8 := [182, 1, 138, 87, 21, 4, 25, 8, 180, 1, 139, 153, 0, 7, 4, 167, 0, 4, 3, 96, 54, 4]
abbrev dktX1_fits_6 : List UInt8 := dkwX1_fits_6 ++ dktX1_fits_7
def dkwX1_fits_5 : List UInt8 := [167, 0, 45, 187, 1, 133, 89, 42, 21, 5, 21, 7, 42, 180, 0, 85, 183, 1, 135, 58, 8, 25, 8]
abbrev dktX1_fits_5 : List UInt8 := dkwX1_fits_5 ++ dktX1_fits_6
def dkwX1_fits_4 : List UInt8 := [25, 6, 27, 182, 1, 69, 153, 0, 67, 25, 6, 180, 0, 201, 21, 7, 50, 190, 29, 159, 0, 6]
abbrev dktX1_fits_4 : List UInt8 := dkwX1_fits_4 ++ dktX1_fits_5
def dkwX1_fits_3 : List UInt8 := [21, 5, 182, 0, 169, 192, 0, 135, 58, 6, 3, 54, 7, 21, 7, 25, 6, 180, 0, 201, 190, 162, 0, 76]
abbrev dktX1_fits_3 : List UInt8 := dkwX1_fits_3 ++ dktX1_fits_4
def dkwX1_fits_2 : List UInt8 := [62, 3, 54, 4, 3, 54, 5, 21, 5, 42, 180, 0, 26, 182, 0, 121, 162, 0, 110, 42, 180, 0, 26]
abbrev dktX1_fits_2 : List UInt8 := dkwX1_fits_2 ++ dktX1_fits_3
def dkwX1_fits_1 : List UInt8 := [42, 180, 0, 81, 27, 182, 0, 237, 87, 44, 42, 180, 0, 81, 180, 0, 223, 42, 180, 0, 85, 184, 1, 53]
abbrev dktX1_fits_1 : List UInt8 := dkwX1_fits_1 ++ dktX1_fits_2
def dkwX1_fits_0 : List UInt8 := [42, 182, 1, 38, 77, 42, 27, 182, 0, 213, 153, 0, 7, 44, 199, 0, 5, 2, 172, 42, 3, 181, 0, 126]
abbrev dktX1_fits_0 : List UInt8 := dkwX1_fits_0 ++ dktX1_fits_1
theorem dksX1_fits_0 : cX1_fits.data.toList.drop 0 = dktX1_fits_0 := by decide +kernel
theorem dksX1_fits_1 : cX1_fits.data.toList.drop 24 = dktX1_fits_1 := dk_seg dksX1_fits_0 24 rfl rfl
theorem dksX1_fits_2 : cX1_fits.data.toList.drop 48 = dktX1_fits_2 := dk_seg dksX1_fits_1 24 rfl rfl
theorem dksX1_fits_3 : cX1_fits.data.toList.drop 71 = dktX1_fits_3 := dk_seg dksX1_fits_2 23 rfl rfl
theorem dksX1_fits_4 : cX1_fits.data.toList.drop 95 = dktX1_fits_4 := dk_seg dksX1_fits_3 24 rfl rfl
theorem dksX1_fits_5 : cX1_fits.data.toList.drop 117 = dktX1_fits_5 := dk_seg dksX1_fits_4 22 rfl rfl
theorem dksX1_fits_6 : cX1_fits.data.toList.drop 140 = dktX1_fits_6 := dk_seg dksX1_fits_5 23 rfl rfl
theorem dksX1_fits_7 : cX1_fits.data.toList.drop 162 = dktX1_fits_7 := dk_seg dksX1_fits_6 22 rfl rfl
theorem dX1_fits_0 : decode cX1_fits 0 = .ok (.aload_n 0, 1) := dk_42 (dk_at dksX1_fits_0 0 rfl rfl)
theorem dX1_fits_1 : decode cX1_fits 1 = .ok (.invokevirtual 294, 3) := dk_182 1 38 (dk_at dksX1_fits_0 1 rfl rfl)
theorem dX1_fits_4 : decode cX1_fits 4 = .ok (.astore_n 2, 1) := dk_77 (dk_at dksX1_fits_0 4 rfl rfl)
theorem dX1_fits_5 : decode cX1_fits 5 = .ok (.aload_n 0, 1) := dk_42 (dk_at dksX1_fits_0 5 rfl rfl)
theorem dX1_fits_6 : decode cX1_fits 6 = .ok (.iload_n 1, 1) := dk_27 (dk_at dksX1_fits_0 6 rfl rfl)
theorem dX1_fits_7 : decode cX1_fits 7 = .ok (.invokevirtual 213, 3) := dk_182 0 213 (dk_at dksX1_fits_0 7 rfl rfl)
theorem dX1_fits_10 : decode cX1_fits 10 = .ok (.ifCond .eq 7, 3) := dk_153 0 7 (dk_at dksX1_fits_0 10 rfl rfl)
theorem dX1_fits_13 : decode cX1_fits 13 = .ok (.aload_n 2, 1) := dk_44 (dk_at dksX1_fits_0 13 rfl rfl)
theorem dX1_fits_14 : decode cX1_fits 14 = .ok (.ifnonnull 5, 3) := dk_199 0 5 (dk_at dksX1_fits_0 14 rfl rfl)
theorem dX1_fits_17 : decode cX1_fits 17 = .ok (.iconst (-1), 1) := dk_2 (dk_at dksX1_fits_0 17 rfl rfl)
theorem dX1_fits_18 : decode cX1_fits 18 = .ok (.ireturn, 1) := dk_172 (dk_at dksX1_fits_0 18 rfl rfl)
theorem dX1_fits_19 : decode cX1_fits 19 = .ok (.aload_n 0, 1) := dk_42 (dk_at dksX1_fits_0 19 rfl rfl)
theorem dX1_fits_20 : decode cX1_fits 20 = .ok (.iconst 0, 1) := dk_3 (dk_at dksX1_fits_0 20 rfl rfl)
theorem dX1_fits_21 : decode cX1_fits 21 = .ok (.putfield 126, 3) := dk_181 0 126 (dk_at dksX1_fits_0 21 rfl rfl)
theorem dX1_fits_24 : decode cX1_fits 24 = .ok (.aload_n 0, 1) := dk_42 (dk_at dksX1_fits_1 0 rfl rfl)
theorem dX1_fits_25 : decode cX1_fits 25 = .ok (.getfield 81, 3) := dk_180 0 81 (dk_at dksX1_fits_1 1 rfl rfl)
theorem dX1_fits_28 : decode cX1_fits 28 = .ok (.iload_n 1, 1) := dk_27 (dk_at dksX1_fits_1 4 rfl rfl)
theorem dX1_fits_29 : decode cX1_fits 29 = .ok (.invokevirtual 237, 3) := dk_182 0 237 (dk_at dksX1_fits_1 5 rfl rfl)
theorem dX1_fits_32 : decode cX1_fits 32 = .ok (.pop, 1) := dk_87 (dk_at dksX1_fits_1 8 rfl rfl)
theorem dX1_fits_33 : decode cX1_fits 33 = .ok (.aload_n 2, 1) := dk_44 (dk_at dksX1_fits_1 9 rfl rfl)
theorem dX1_fits_34 : decode cX1_fits 34 = .ok (.aload_n 0, 1) := dk_42 (dk_at dksX1_fits_1 10 rfl rfl)
theorem dX1_fits_35 : decode cX1_fits 35 = .ok (.getfield 81, 3) := dk_180 0 81 (dk_at dksX1_fits_1 11 rfl rfl)
theorem dX1_fits_38 : decode cX1_fits 38 = .ok (.getfield 223, 3) := dk_180 0 223 (dk_at dksX1_fits_1 14 rfl rfl)
theorem dX1_fits_41 : decode cX1_fits 41 = .ok (.aload_n 0, 1) := dk_42 (dk_at dksX1_fits_1 17 rfl rfl)
theorem dX1_fits_42 : decode cX1_fits 42 = .ok (.getfield 85, 3) := dk_180 0 85 (dk_at dksX1_fits_1 18 rfl rfl)
theorem dX1_fits_45 : decode cX1_fits 45 = .ok (.invokestatic 309, 3) := dk_184 1 53 (dk_at dksX1_fits_1 21 rfl rfl)
theorem dX1_fits_48 : decode cX1_fits 48 = .ok (.istore_n 3, 1) := dk_62 (dk_at dksX1_fits_2 0 rfl rfl)
theorem dX1_fits_49 : decode cX1_fits 49 = .ok (.iconst 0, 1) := dk_3 (dk_at dksX1_fits_2 1 rfl rfl)
theorem dX1_fits_50 : decode cX1_fits 50 = .ok (.istore 4, 2) := dk_54 4 (dk_at dksX1_fits_2 2 rfl rfl)
theorem dX1_fits_52 : decode cX1_fits 52 = .ok (.iconst 0, 1) := dk_3 (dk_at dksX1_fits_2 4 rfl rfl)
theorem dX1_fits_53 : decode cX1_fits 53 = .ok (.istore 5, 2) := dk_54 5 (dk_at dksX1_fits_2 5 rfl rfl)
theorem dX1_fits_55 : decode cX1_fits 55 = .ok (.iload 5, 2) := dk_21 5 (dk_at dksX1_fits_2 7 rfl rfl)
theorem dX1_fits_57 : decode cX1_fits 57 = .ok (.aload_n 0, 1) := dk_42 (dk_at dksX1_fits_2 9 rfl rfl)
theorem dX1_fits_58 : decode cX1_fits 58 = .ok (.getfield 26, 3) := dk_180 0 26 (dk_at dksX1_fits_2 10 rfl rfl)
theorem dX1_fits_61 : decode cX1_fits 61 = .ok (.invokevirtual 121, 3) := dk_182 0 121 (dk_at dksX1_fits_2 13 rfl rfl)
theorem dX1_fits_64 : decode cX1_fits 64 = .ok (.if_icmp .ge 110, 3) := dk_162 0 110 (dk_at dksX1_fits_2 16 rfl rfl)
theorem dX1_fits_67 : decode cX1_fits 67 = .ok (.aload_n 0, 1) := dk_42 (dk_at dksX1_fits_2 19 rfl rfl)
theorem dX1_fits_68 : decode cX1_fits 68 = .ok (.getfield 26, 3) := dk_180 0 26 (dk_at dksX1_fits_2 20 rfl rfl)
theorem dX1_fits_71 : decode cX1_fits 71 = .ok (.iload 5, 2) := dk_21 5 (dk_at dksX1_fits_3 0 rfl rfl)
theorem dX1_fits_73 : decode cX1_fits 73 = .ok (.invokevirtual 169, 3) := dk_182 0 169 (dk_at dksX1_fits_3 2 rfl rfl)
theorem dX1_fits_76 : decode cX1_fits 76 = .ok (.checkcast 135, 3) := dk_192 0 135 (dk_at dksX1_fits_3 5 rfl rfl)
theorem dX1_fits_79 : decode cX1_fits 79 = .ok (.astore 6, 2) := dk_58 6 (dk_at dksX1_fits_3 8 rfl rfl)
theorem dX1_fits_81 : decode cX1_fits 81 = .ok (.iconst 0, 1) := dk_3 (dk_at dksX1_fits_3 10 rfl rfl)
theorem dX1_fits_82 : decode cX1_fits 82 = .ok (.istore 7, 2) := dk_54 7 (dk_at dksX1_fits_3 11 rfl rfl)
theorem dX1_fits_84 : decode cX1_fits 84 = .ok (.iload 7, 2) := dk_21 7 (dk_at dksX1_fits_3 13 rfl rfl)
theorem dX1_fits_86 : decode cX1_fits 86 = .ok (.aload 6, 2) := dk_25 6 (dk_at dksX1_fits_3 15 rfl rfl)
theorem dX1_fits_88 : decode cX1_fits 88 = .ok (.getfield 201, 3) := dk_180 0 201 (dk_at dksX1_fits_3 17 rfl rfl)
theorem dX1_fits_91 : decode cX1_fits 91 = .ok (.arraylength, 1) := dk_190 (dk_at dksX1_fits_3 20 rfl rfl)
theorem dX1_fits_92 : decode cX1_fits 92 = .ok (.if_icmp .ge 76, 3) := dk_162 0 76 (dk_at dksX1_fits_3 21 rfl rfl)
theorem dX1_fits_95 : decode cX1_fits 95 = .ok (.aload 6, 2) := dk_25 6 (dk_at dksX1_fits_4 0 rfl rfl)
theorem dX1_fits_97 : decode cX1_fits 97 = .ok (.iload_n 1, 1) := dk_27 (dk_at dksX1_fits_4 2 rfl rfl)
theorem dX1_fits_98 : decode cX1_fits 98 = .ok (.invokevirtual 325, 3) := dk_182 1 69 (dk_at dksX1_fits_4 3 rfl rfl)
theorem dX1_fits_101 : decode cX1_fits 101 = .ok (.ifCond .eq 67, 3) := dk_153 0 67 (dk_at dksX1_fits_4 6 rfl rfl)
theorem dX1_fits_104 : decode cX1_fits 104 = .ok (.aload 6, 2) := dk_25 6 (dk_at dksX1_fits_4 9 rfl rfl)
theorem dX1_fits_106 : decode cX1_fits 106 = .ok (.getfield 201, 3) := dk_180 0 201 (dk_at dksX1_fits_4 11 rfl rfl)
theorem dX1_fits_109 : decode cX1_fits 109 = .ok (.iload 7, 2) := dk_21 7 (dk_at dksX1_fits_4 14 rfl rfl)
theorem dX1_fits_111 : decode cX1_fits 111 = .ok (.aaload, 1) := dk_50 (dk_at dksX1_fits_4 16 rfl rfl)
theorem dX1_fits_112 : decode cX1_fits 112 = .ok (.arraylength, 1) := dk_190 (dk_at dksX1_fits_4 17 rfl rfl)
theorem dX1_fits_113 : decode cX1_fits 113 = .ok (.iload_n 3, 1) := dk_29 (dk_at dksX1_fits_4 18 rfl rfl)
theorem dX1_fits_114 : decode cX1_fits 114 = .ok (.if_icmp .eq 6, 3) := dk_159 0 6 (dk_at dksX1_fits_4 19 rfl rfl)
theorem dX1_fits_117 : decode cX1_fits 117 = .ok (.goto 45, 3) := dk_167 0 45 (dk_at dksX1_fits_5 0 rfl rfl)
theorem dX1_fits_120 : decode cX1_fits 120 = .ok (.new 389, 3) := dk_187 1 133 (dk_at dksX1_fits_5 3 rfl rfl)
theorem dX1_fits_123 : decode cX1_fits 123 = .ok (.dup, 1) := dk_89 (dk_at dksX1_fits_5 6 rfl rfl)
theorem dX1_fits_124 : decode cX1_fits 124 = .ok (.aload_n 0, 1) := dk_42 (dk_at dksX1_fits_5 7 rfl rfl)
theorem dX1_fits_125 : decode cX1_fits 125 = .ok (.iload 5, 2) := dk_21 5 (dk_at dksX1_fits_5 8 rfl rfl)
theorem dX1_fits_127 : decode cX1_fits 127 = .ok (.iload 7, 2) := dk_21 7 (dk_at dksX1_fits_5 10 rfl rfl)
theorem dX1_fits_129 : decode cX1_fits 129 = .ok (.aload_n 0, 1) := dk_42 (dk_at dksX1_fits_5 12 rfl rfl)
theorem dX1_fits_130 : decode cX1_fits 130 = .ok (.getfield 85, 3) := dk_180 0 85 (dk_at dksX1_fits_5 13 rfl rfl)
theorem dX1_fits_133 : decode cX1_fits 133 = .ok (.invokespecial 391, 3) := dk_183 1 135 (dk_at dksX1_fits_5 16 rfl rfl)
theorem dX1_fits_136 : decode cX1_fits 136 = .ok (.astore 8, 2) := dk_58 8 (dk_at dksX1_fits_5 19 rfl rfl)
theorem dX1_fits_138 : decode cX1_fits 138 = .ok (.aload 8, 2) := dk_25 8 (dk_at dksX1_fits_5 21 rfl rfl)
theorem dX1_fits_140 : decode cX1_fits 140 = .ok (.invokevirtual 394, 3) := dk_182 1 138 (dk_at dksX1_fits_6 0 rfl rfl)
theorem dX1_fits_143 : decode cX1_fits 143 = .ok (.pop, 1) := dk_87 (dk_at dksX1_fits_6 3 rfl rfl)
theorem dX1_fits_144 : decode cX1_fits 144 = .ok (.iload 4, 2) := dk_21 4 (dk_at dksX1_fits_6 4 rfl rfl)
theorem dX1_fits_146 : decode cX1_fits 146 = .ok (.aload 8, 2) := dk_25 8 (dk_at dksX1_fits_6 6 rfl rfl)
theorem dX1_fits_148 : decode cX1_fits 148 = .ok (.getfield 395, 3) := dk_180 1 139 (dk_at dksX1_fits_6 8 rfl rfl)
theorem dX1_fits_151 : decode cX1_fits 151 = .ok (.ifCond .eq 7, 3) := dk_153 0 7 (dk_at dksX1_fits_6 11 rfl rfl)
theorem dX1_fits_154 : decode cX1_fits 154 = .ok (.iconst 1, 1) := dk_4 (dk_at dksX1_fits_6 14 rfl rfl)
theorem dX1_fits_155 : decode cX1_fits 155 = .ok (.goto 4, 3) := dk_167 0 4 (dk_at dksX1_fits_6 15 rfl rfl)
theorem dX1_fits_158 : decode cX1_fits 158 = .ok (.iconst 0, 1) := dk_3 (dk_at dksX1_fits_6 18 rfl rfl)
theorem dX1_fits_159 : decode cX1_fits 159 = .ok (.iadd, 1) := dk_96 (dk_at dksX1_fits_6 19 rfl rfl)
theorem dX1_fits_160 : decode cX1_fits 160 = .ok (.istore 4, 2) := dk_54 4 (dk_at dksX1_fits_6 20 rfl rfl)
theorem dX1_fits_162 : decode cX1_fits 162 = .ok (.iinc 7 1, 3) := dk_132 7 1 (dk_at dksX1_fits_7 0 rfl rfl)
theorem dX1_fits_165 : decode cX1_fits 165 = .ok (.goto (-81), 3) := dk_167 255 175 (dk_at dksX1_fits_7 3 rfl rfl)
theorem dX1_fits_168 : decode cX1_fits 168 = .ok (.iinc 5 1, 3) := dk_132 5 1 (dk_at dksX1_fits_7 6 rfl rfl)
theorem dX1_fits_171 : decode cX1_fits 171 = .ok (.goto (-116), 3) := dk_167 255 140 (dk_at dksX1_fits_7 9 rfl rfl)
theorem dX1_fits_174 : decode cX1_fits 174 = .ok (.iload 4, 2) := dk_21 4 (dk_at dksX1_fits_7 12 rfl rfl)
theorem dX1_fits_176 : decode cX1_fits 176 = .ok (.ireturn, 1) := dk_172 (dk_at dksX1_fits_7 14 rfl rfl)
def dkwX1_doubt_7 : List UInt8 := [172]
abbrev dktX1_doubt_7 : List UInt8 := dkwX1_doubt_7 ++ []
def dkwX1_doubt_6 : List UInt8 := [21, 5, 54, 4, 132, 5, 1, 167, 255, 184, 28, 154, 0, 11, 21, 4, 184, 1, 145, 167, 0, 5, 21, 4]
abbrev dktX1_doubt_6 : List UInt8 := dkwX1_doubt_6 ++ dktX1_doubt_7
def dkwX1_doubt_5 : List UInt8 := [89, 42, 21, 5, 183, 1, 152, 58, 6, 25, 6, 182, 1, 153, 87, 25, 6, 180, 1, 154, 153, 0, 7]
abbrev dktX1_doubt_5 : List UInt8 := dkwX1_doubt_5 ++ dktX1_doubt_6
def dkwX1_doubt_4 : List UInt8 := [130, 126, 154, 0, 49, 21, 5, 184, 1, 145, 21, 4, 184, 1, 145, 161, 0, 6, 167, 0, 33, 187, 1, 150]
abbrev dktX1_doubt_4 : List UInt8 := dkwX1_doubt_4 ++ dktX1_doubt_5
def dkwX1_doubt_3 : List UInt8 := [29, 54, 4, 3, 54, 5, 21, 5, 4, 42, 180, 0, 36, 182, 0, 121, 120, 162, 0, 64, 21, 5, 29, 2]
abbrev dktX1_doubt_3 : List UInt8 := dkwX1_doubt_3 ++ dktX1_doubt_4
def dkwX1_doubt_2 : List UInt8 := [21, 4, 182, 1, 142, 153, 0, 10, 4, 21, 4, 120, 167, 0, 4, 3, 128, 62, 132, 4, 1, 167, 255, 221]
abbrev dktX1_doubt_2 : List UInt8 := dkwX1_doubt_2 ++ dktX1_doubt_3
def dkwX1_doubt_1 : List UInt8 := [182, 0, 237, 87, 3, 62, 3, 54, 4, 21, 4, 42, 180, 0, 36, 182, 0, 121, 162, 0, 29, 29, 42]
abbrev dktX1_doubt_1 : List UInt8 := dkwX1_doubt_1 ++ dktX1_doubt_2
def dkwX1_doubt_0 : List UInt8 := [42, 27, 182, 0, 213, 153, 0, 12, 28, 3, 4, 184, 0, 3, 154, 0, 5, 2, 172, 42, 180, 0, 81, 27]
abbrev dktX1_doubt_0 : List UInt8 := dkwX1_doubt_0 ++ dktX1_doubt_1
theorem dksX1_doubt_0 : cX1_doubt.data.toList.drop 0 = dktX1_doubt_0 := by decide +kernel
theorem dksX1_doubt_1 : cX1_doubt.data.toList.drop 24 = dktX1_doubt_1 := dk_seg dksX1_doubt_0 24 rfl rfl
theorem dksX1_doubt_2 : cX1_doubt.data.toList.drop 47 = dktX1_doubt_2 := dk_seg dksX1_doubt_1 23 rfl rfl
theorem dksX1_doubt_3 : cX1_doubt.data.toList.drop 71 = dktX1_doubt_3 := dk_seg dksX1_doubt_2 24 rfl rfl
theorem dksX1_doubt_4 : cX1_doubt.data.toList.drop 95 = dktX1_doubt_4 := dk_seg dksX1_doubt_3 24 rfl rfl
theorem dksX1_doubt_5 : cX1_doubt.data.toList.drop 119 = dktX1_doubt_5 := dk_seg dksX1_doubt_4 24 rfl rfl
theorem dksX1_doubt_6 : cX1_doubt.data.toList.drop 142 = dktX1_doubt_6 := dk_seg dksX1_doubt_5 23 rfl rfl
theorem dksX1_doubt_7 : cX1_doubt.data.toList.drop 166 = dktX1_doubt_7 := dk_seg dksX1_doubt_6 24 rfl rfl
theorem dX1_doubt_0 : decode cX1_doubt 0 = .ok (.aload_n 0, 1) := dk_42 (dk_at dksX1_doubt_0 0 rfl rfl)
theorem dX1_doubt_1 : decode cX1_doubt 1 = .ok (.iload_n 1, 1) := dk_27 (dk_at dksX1_doubt_0 1 rfl rfl)
theorem dX1_doubt_2 : decode cX1_doubt 2 = .ok (.invokevirtual 213, 3) := dk_182 0 213 (dk_at dksX1_doubt_0 2 rfl rfl)
theorem dX1_doubt_5 : decode cX1_doubt 5 = .ok (.ifCond .eq 12, 3) := dk_153 0 12 (dk_at dksX1_doubt_0 5 rfl rfl)
theorem dX1_doubt_8 : decode cX1_doubt 8 = .ok (.iload_n 2, 1) := dk_28 (dk_at dksX1_doubt_0 8 rfl rfl)
theorem dX1_doubt_9 : decode cX1_doubt 9 = .ok (.iconst 0, 1) := dk_3 (dk_at dksX1_doubt_0 9 rfl rfl)
theorem dX1_doubt_10 : decode cX1_doubt 10 = .ok (.iconst 1, 1) := dk_4 (dk_at dksX1_doubt_0 10 rfl rfl)
theorem dX1_doubt_11 : decode cX1_doubt 11 = .ok (.invokestatic 3, 3) := dk_184 0 3 (dk_at dksX1_doubt_0 11 rfl rfl)
theorem dX1_doubt_14 : decode cX1_doubt 14 = .ok (.ifCond .ne 5, 3) := dk_154 0 5 (dk_at dksX1_doubt_0 14 rfl rfl)
theorem dX1_doubt_17 : decode cX1_doubt 17 = .ok (.iconst (-1), 1) := dk_2 (dk_at dksX1_doubt_0 17 rfl rfl)
theorem dX1_doubt_18 : decode cX1_doubt 18 = .ok (.ireturn, 1) := dk_172 (dk_at dksX1_doubt_0 18 rfl rfl)
theorem dX1_doubt_19 : decode cX1_doubt 19 = .ok (.aload_n 0, 1) := dk_42 (dk_at dksX1_doubt_0 19 rfl rfl)
theorem dX1_doubt_20 : decode cX1_doubt 20 = .ok (.getfield 81, 3) := dk_180 0 81 (dk_at dksX1_doubt_0 20 rfl rfl)
theorem dX1_doubt_23 : decode cX1_doubt 23 = .ok (.iload_n 1, 1) := dk_27 (dk_at dksX1_doubt_0 23 rfl rfl)
theorem dX1_doubt_24 : decode cX1_doubt 24 = .ok (.invokevirtual 237, 3) := dk_182 0 237 (dk_at dksX1_doubt_1 0 rfl rfl)
theorem dX1_doubt_27 : decode cX1_doubt 27 = .ok (.pop, 1) := dk_87 (dk_at dksX1_doubt_1 3 rfl rfl)
theorem dX1_doubt_28 : decode cX1_doubt 28 = .ok (.iconst 0, 1) := dk_3 (dk_at dksX1_doubt_1 4 rfl rfl)
theorem dX1_doubt_29 : decode cX1_doubt 29 = .ok (.istore_n 3, 1) := dk_62 (dk_at dksX1_doubt_1 5 rfl rfl)
theorem dX1_doubt_30 : decode cX1_doubt 30 = .ok (.iconst 0, 1) := dk_3 (dk_at dksX1_doubt_1 6 rfl rfl)
theorem dX1_doubt_31 : decode cX1_doubt 31 = .ok (.istore 4, 2) := dk_54 4 (dk_at dksX1_doubt_1 7 rfl rfl)
theorem dX1_doubt_33 : decode cX1_doubt 33 = .ok (.iload 4, 2) := dk_21 4 (dk_at dksX1_doubt_1 9 rfl rfl)
theorem dX1_doubt_35 : decode cX1_doubt 35 = .ok (.aload_n 0, 1) := dk_42 (dk_at dksX1_doubt_1 11 rfl rfl)
theorem dX1_doubt_36 : decode cX1_doubt 36 = .ok (.getfield 36, 3) := dk_180 0 36 (dk_at dksX1_doubt_1 12 rfl rfl)
theorem dX1_doubt_39 : decode cX1_doubt 39 = .ok (.invokevirtual 121, 3) := dk_182 0 121 (dk_at dksX1_doubt_1 15 rfl rfl)
theorem dX1_doubt_42 : decode cX1_doubt 42 = .ok (.if_icmp .ge 29, 3) := dk_162 0 29 (dk_at dksX1_doubt_1 18 rfl rfl)
theorem dX1_doubt_45 : decode cX1_doubt 45 = .ok (.iload_n 3, 1) := dk_29 (dk_at dksX1_doubt_1 21 rfl rfl)
theorem dX1_doubt_46 : decode cX1_doubt 46 = .ok (.aload_n 0, 1) := dk_42 (dk_at dksX1_doubt_1 22 rfl rfl)
theorem dX1_doubt_47 : decode cX1_doubt 47 = .ok (.iload 4, 2) := dk_21 4 (dk_at dksX1_doubt_2 0 rfl rfl)
theorem dX1_doubt_49 : decode cX1_doubt 49 = .ok (.invokevirtual 398, 3) := dk_182 1 142 (dk_at dksX1_doubt_2 2 rfl rfl)
theorem dX1_doubt_52 : decode cX1_doubt 52 = .ok (.ifCond .eq 10, 3) := dk_153 0 10 (dk_at dksX1_doubt_2 5 rfl rfl)
theorem dX1_doubt_55 : decode cX1_doubt 55 = .ok (.iconst 1, 1) := dk_4 (dk_at dksX1_doubt_2 8 rfl rfl)
theorem dX1_doubt_56 : decode cX1_doubt 56 = .ok (.iload 4, 2) := dk_21 4 (dk_at dksX1_doubt_2 9 rfl rfl)
theorem dX1_doubt_58 : decode cX1_doubt 58 = .ok (.ishl, 1) := dk_120 (dk_at dksX1_doubt_2 11 rfl rfl)
theorem dX1_doubt_59 : decode cX1_doubt 59 = .ok (.goto 4, 3) := dk_167 0 4 (dk_at dksX1_doubt_2 12 rfl rfl)
theorem dX1_doubt_62 : decode cX1_doubt 62 = .ok (.iconst 0, 1) := dk_3 (dk_at dksX1_doubt_2 15 rfl rfl)
theorem dX1_doubt_63 : decode cX1_doubt 63 = .ok (.ior, 1) := dk_128 (dk_at dksX1_doubt_2 16 rfl rfl)
theorem dX1_doubt_64 : decode cX1_doubt 64 = .ok (.istore_n 3, 1) := dk_62 (dk_at dksX1_doubt_2 17 rfl rfl)
theorem dX1_doubt_65 : decode cX1_doubt 65 = .ok (.iinc 4 1, 3) := dk_132 4 1 (dk_at dksX1_doubt_2 18 rfl rfl)
theorem dX1_doubt_68 : decode cX1_doubt 68 = .ok (.goto (-35), 3) := dk_167 255 221 (dk_at dksX1_doubt_2 21 rfl rfl)
theorem dX1_doubt_71 : decode cX1_doubt 71 = .ok (.iload_n 3, 1) := dk_29 (dk_at dksX1_doubt_3 0 rfl rfl)
theorem dX1_doubt_72 : decode cX1_doubt 72 = .ok (.istore 4, 2) := dk_54 4 (dk_at dksX1_doubt_3 1 rfl rfl)
theorem dX1_doubt_74 : decode cX1_doubt 74 = .ok (.iconst 0, 1) := dk_3 (dk_at dksX1_doubt_3 3 rfl rfl)
theorem dX1_doubt_75 : decode cX1_doubt 75 = .ok (.istore 5, 2) := dk_54 5 (dk_at dksX1_doubt_3 4 rfl rfl)
theorem dX1_doubt_77 : decode cX1_doubt 77 = .ok (.iload 5, 2) := dk_21 5 (dk_at dksX1_doubt_3 6 rfl rfl)
theorem dX1_doubt_79 : decode cX1_doubt 79 = .ok (.iconst 1, 1) := dk_4 (dk_at dksX1_doubt_3 8 rfl rfl)
theorem dX1_doubt_80 : decode cX1_doubt 80 = .ok (.aload_n 0, 1) := dk_42 (dk_at dksX1_doubt_3 9 rfl rfl)
theorem dX1_doubt_81 : decode cX1_doubt 81 = .ok (.getfield 36, 3) := dk_180 0 36 (dk_at dksX1_doubt_3 10 rfl rfl)
theorem dX1_doubt_84 : decode cX1_doubt 84 = .ok (.invokevirtual 121, 3) := dk_182 0 121 (dk_at dksX1_doubt_3 13 rfl rfl)
theorem dX1_doubt_87 : decode cX1_doubt 87 = .ok (.ishl, 1) := dk_120 (dk_at dksX1_doubt_3 16 rfl rfl)
theorem dX1_doubt_88 : decode cX1_doubt 88 = .ok (.if_icmp .ge 64, 3) := dk_162 0 64 (dk_at dksX1_doubt_3 17 rfl rfl)
theorem dX1_doubt_91 : decode cX1_doubt 91 = .ok (.iload 5, 2) := dk_21 5 (dk_at dksX1_doubt_3 20 rfl rfl)
theorem dX1_doubt_93 : decode cX1_doubt 93 = .ok (.iload_n 3, 1) := dk_29 (dk_at dksX1_doubt_3 22 rfl rfl)
theorem dX1_doubt_94 : decode cX1_doubt 94 = .ok (.iconst (-1), 1) := dk_2 (dk_at dksX1_doubt_3 23 rfl rfl)
theorem dX1_doubt_95 : decode cX1_doubt 95 = .ok (.ixor, 1) := dk_130 (dk_at dksX1_doubt_4 0 rfl rfl)
theorem dX1_doubt_96 : decode cX1_doubt 96 = .ok (.iand, 1) := dk_126 (dk_at dksX1_doubt_4 1 rfl rfl)
theorem dX1_doubt_97 : decode cX1_doubt 97 = .ok (.ifCond .ne 49, 3) := dk_154 0 49 (dk_at dksX1_doubt_4 2 rfl rfl)
theorem dX1_doubt_100 : decode cX1_doubt 100 = .ok (.iload 5, 2) := dk_21 5 (dk_at dksX1_doubt_4 5 rfl rfl)
theorem dX1_doubt_102 : decode cX1_doubt 102 = .ok (.invokestatic 401, 3) := dk_184 1 145 (dk_at dksX1_doubt_4 7 rfl rfl)
theorem dX1_doubt_105 : decode cX1_doubt 105 = .ok (.iload 4, 2) := dk_21 4 (dk_at dksX1_doubt_4 10 rfl rfl)
theorem dX1_doubt_107 : decode cX1_doubt 107 = .ok (.invokestatic 401, 3) := dk_184 1 145 (dk_at dksX1_doubt_4 12 rfl rfl)
theorem dX1_doubt_110 : decode cX1_doubt 110 = .ok (.if_icmp .lt 6, 3) := dk_161 0 6 (dk_at dksX1_doubt_4 15 rfl rfl)
theorem dX1_doubt_113 : decode cX1_doubt 113 = .ok (.goto 33, 3) := dk_167 0 33 (dk_at dksX1_doubt_4 18 rfl rfl)
theorem dX1_doubt_116 : decode cX1_doubt 116 = .ok (.new 406, 3) := dk_187 1 150 (dk_at dksX1_doubt_4 21 rfl rfl)
theorem dX1_doubt_119 : decode cX1_doubt 119 = .ok (.dup, 1) := dk_89 (dk_at dksX1_doubt_5 0 rfl rfl)
theorem dX1_doubt_120 : decode cX1_doubt 120 = .ok (.aload_n 0, 1) := dk_42 (dk_at dksX1_doubt_5 1 rfl rfl)
theorem dX1_doubt_121 : decode cX1_doubt 121 = .ok (.iload 5, 2) := dk_21 5 (dk_at dksX1_doubt_5 2 rfl rfl)
theorem dX1_doubt_123 : decode cX1_doubt 123 = .ok (.invokespecial 408, 3) := dk_183 1 152 (dk_at dksX1_doubt_5 4 rfl rfl)
theorem dX1_doubt_126 : decode cX1_doubt 126 = .ok (.astore 6, 2) := dk_58 6 (dk_at dksX1_doubt_5 7 rfl rfl)
theorem dX1_doubt_128 : decode cX1_doubt 128 = .ok (.aload 6, 2) := dk_25 6 (dk_at dksX1_doubt_5 9 rfl rfl)
theorem dX1_doubt_130 : decode cX1_doubt 130 = .ok (.invokevirtual 409, 3) := dk_182 1 153 (dk_at dksX1_doubt_5 11 rfl rfl)
theorem dX1_doubt_133 : decode cX1_doubt 133 = .ok (.pop, 1) := dk_87 (dk_at dksX1_doubt_5 14 rfl rfl)
theorem dX1_doubt_134 : decode cX1_doubt 134 = .ok (.aload 6, 2) := dk_25 6 (dk_at dksX1_doubt_5 15 rfl rfl)
theorem dX1_doubt_136 : decode cX1_doubt 136 = .ok (.getfield 410, 3) := dk_180 1 154 (dk_at dksX1_doubt_5 17 rfl rfl)
theorem dX1_doubt_139 : decode cX1_doubt 139 = .ok (.ifCond .eq 7, 3) := dk_153 0 7 (dk_at dksX1_doubt_5 20 rfl rfl)
theorem dX1_doubt_142 : decode cX1_doubt 142 = .ok (.iload 5, 2) := dk_21 5 (dk_at dksX1_doubt_6 0 rfl rfl)
theorem dX1_doubt_144 : decode cX1_doubt 144 = .ok (.istore 4, 2) := dk_54 4 (dk_at dksX1_doubt_6 2 rfl rfl)
theorem dX1_doubt_146 : decode cX1_doubt 146 = .ok (.iinc 5 1, 3) := dk_132 5 1 (dk_at dksX1_doubt_6 4 rfl rfl)
theorem dX1_doubt_149 : decode cX1_doubt 149 = .ok (.goto (-72), 3) := dk_167 255 184 (dk_at dksX1_doubt_6 7 rfl rfl)
theorem dX1_doubt_152 : decode cX1_doubt 152 = .ok (.iload_n 2, 1) := dk_28 (dk_at dksX1_doubt_6 10 rfl rfl)
theorem dX1_doubt_153 : decode cX1_doubt 153 = .ok (.ifCond .ne 11, 3) := dk_154 0 11 (dk_at dksX1_doubt_6 11 rfl rfl)
theorem dX1_doubt_156 : decode cX1_doubt 156 = .ok (.iload 4, 2) := dk_21 4 (dk_at dksX1_doubt_6 14 rfl rfl)
theorem dX1_doubt_158 : decode cX1_doubt 158 = .ok (.invokestatic 401, 3) := dk_184 1 145 (dk_at dksX1_doubt_6 16 rfl rfl)
theorem dX1_doubt_161 : decode cX1_doubt 161 = .ok (.goto 5, 3) := dk_167 0 5 (dk_at dksX1_doubt_6 19 rfl rfl)
theorem dX1_doubt_164 : decode cX1_doubt 164 = .ok (.iload 4, 2) := dk_21 4 (dk_at dksX1_doubt_6 22 rfl rfl)
theorem dX1_doubt_166 : decode cX1_doubt 166 = .ok (.ireturn, 1) := dk_172 (dk_at dksX1_doubt_7 0 rfl rfl)
def dkwX1_could_4 : List UInt8 := [21, 6, 167, 0, 5, 21, 7, 172, 132, 5, 255, 132, 6, 1, 167, 255, 193, 2, 172]
abbrev dktX1_could_4 : List UInt8 := dkwX1_could_4 ++ []
def dkwX1_could_3 : List UInt8 := [21, 6, 96, 46, 54, 7, 21, 7, 154, 0, 6, 167, 0, 24, 21, 5, 154, 0, 16, 21, 4, 154, 0, 8]
abbrev dktX1_could_3 : List UInt8 := dkwX1_could_3 ++ dktX1_could_4
def dkwX1_could_2 : List UInt8 := [17, 0, 135, 162, 0, 61, 42, 180, 0, 109, 17, 0, 135, 42, 180, 0, 81, 180, 0, 220, 28, 46, 104]
abbrev dktX1_could_2 : List UInt8 := dkwX1_could_2 ++ dktX1_could_3
def dkwX1_could_1 : List UInt8 := [184, 0, 3, 154, 0, 5, 2, 172, 42, 27, 182, 1, 103, 87, 29, 54, 5, 3, 54, 6, 21, 6]
abbrev dktX1_could_1 : List UInt8 := dkwX1_could_1 ++ dktX1_could_2
def dkwX1_could_0 : List UInt8 := [42, 27, 182, 0, 213, 153, 0, 24, 28, 184, 0, 183, 153, 0, 17, 29, 155, 0, 13, 21, 4, 3, 4]
abbrev dktX1_could_0 : List UInt8 := dkwX1_could_0 ++ dktX1_could_1
theorem dksX1_could_0 : cX1_could.data.toList.drop 0 = dktX1_could_0 := by decide +kernel
theorem dksX1_could_1 : cX1_could.data.toList.drop 23 = dktX1_could_1 := dk_seg dksX1_could_0 23 rfl rfl
theorem dksX1_could_2 : cX1_could.data.toList.drop 45 = dktX1_could_2 := dk_seg dksX1_could_1 22 rfl rfl
theorem dksX1_could_3 : cX1_could.data.toList.drop 68 = dktX1_could_3 := dk_seg dksX1_could_2 23 rfl rfl
theorem dksX1_could_4 : cX1_could.data.toList.drop 92 = dktX1_could_4 := dk_seg dksX1_could_3 24 rfl rfl
theorem dX1_could_0 : decode cX1_could 0 = .ok (.aload_n 0, 1) := dk_42 (dk_at dksX1_could_0 0 rfl rfl)
theorem dX1_could_1 : decode cX1_could 1 = .ok (.iload_n 1, 1) := dk_27 (dk_at dksX1_could_0 1 rfl rfl)
theorem dX1_could_2 : decode cX1_could 2 = .ok (.invokevirtual 213, 3) := dk_182 0 213 (dk_at dksX1_could_0 2 rfl rfl)
theorem dX1_could_5 : decode cX1_could 5 = .ok (.ifCond .eq 24, 3) := dk_153 0 24 (dk_at dksX1_could_0 5 rfl rfl)
theorem dX1_could_8 : decode cX1_could 8 = .ok (.iload_n 2, 1) := dk_28 (dk_at dksX1_could_0 8 rfl rfl)
theorem dX1_could_9 : decode cX1_could 9 = .ok (.invokestatic 183, 3) := dk_184 0 183 (dk_at dksX1_could_0 9 rfl rfl)
theorem dX1_could_12 : decode cX1_could 12 = .ok (.ifCond .eq 17, 3) := dk_153 0 17 (dk_at dksX1_could_0 12 rfl rfl)
theorem dX1_could_15 : decode cX1_could 15 = .ok (.iload_n 3, 1) := dk_29 (dk_at dksX1_could_0 15 rfl rfl)
theorem dX1_could_16 : decode cX1_could 16 = .ok (.ifCond .lt 13, 3) := dk_155 0 13 (dk_at dksX1_could_0 16 rfl rfl)
theorem dX1_could_19 : decode cX1_could 19 = .ok (.iload 4, 2) := dk_21 4 (dk_at dksX1_could_0 19 rfl rfl)
theorem dX1_could_21 : decode cX1_could 21 = .ok (.iconst 0, 1) := dk_3 (dk_at dksX1_could_0 21 rfl rfl)
theorem dX1_could_22 : decode cX1_could 22 = .ok (.iconst 1, 1) := dk_4 (dk_at dksX1_could_0 22 rfl rfl)
theorem dX1_could_23 : decode cX1_could 23 = .ok (.invokestatic 3, 3) := dk_184 0 3 (dk_at dksX1_could_1 0 rfl rfl)
theorem dX1_could_26 : decode cX1_could 26 = .ok (.ifCond .ne 5, 3) := dk_154 0 5 (dk_at dksX1_could_1 3 rfl rfl)
theorem dX1_could_29 : decode cX1_could 29 = .ok (.iconst (-1), 1) := dk_2 (dk_at dksX1_could_1 6 rfl rfl)
theorem dX1_could_30 : decode cX1_could 30 = .ok (.ireturn, 1) := dk_172 (dk_at dksX1_could_1 7 rfl rfl)
theorem dX1_could_31 : decode cX1_could 31 = .ok (.aload_n 0, 1) := dk_42 (dk_at dksX1_could_1 8 rfl rfl)
theorem dX1_could_32 : decode cX1_could 32 = .ok (.iload_n 1, 1) := dk_27 (dk_at dksX1_could_1 9 rfl rfl)
theorem dX1_could_33 : decode cX1_could 33 = .ok (.invokevirtual 359, 3) := dk_182 1 103 (dk_at dksX1_could_1 10 rfl rfl)
theorem dX1_could_36 : decode cX1_could 36 = .ok (.pop, 1) := dk_87 (dk_at dksX1_could_1 13 rfl rfl)
theorem dX1_could_37 : decode cX1_could 37 = .ok (.iload_n 3, 1) := dk_29 (dk_at dksX1_could_1 14 rfl rfl)
theorem dX1_could_38 : decode cX1_could 38 = .ok (.istore 5, 2) := dk_54 5 (dk_at dksX1_could_1 15 rfl rfl)
theorem dX1_could_40 : decode cX1_could 40 = .ok (.iconst 0, 1) := dk_3 (dk_at dksX1_could_1 17 rfl rfl)
theorem dX1_could_41 : decode cX1_could 41 = .ok (.istore 6, 2) := dk_54 6 (dk_at dksX1_could_1 18 rfl rfl)
theorem dX1_could_43 : decode cX1_could 43 = .ok (.iload 6, 2) := dk_21 6 (dk_at dksX1_could_1 20 rfl rfl)
theorem dX1_could_45 : decode cX1_could 45 = .ok (.sipush 135, 3) := dk_17 0 135 (dk_at dksX1_could_2 0 rfl rfl)
theorem dX1_could_48 : decode cX1_could 48 = .ok (.if_icmp .ge 61, 3) := dk_162 0 61 (dk_at dksX1_could_2 3 rfl rfl)
theorem dX1_could_51 : decode cX1_could 51 = .ok (.aload_n 0, 1) := dk_42 (dk_at dksX1_could_2 6 rfl rfl)
theorem dX1_could_52 : decode cX1_could 52 = .ok (.getfield 109, 3) := dk_180 0 109 (dk_at dksX1_could_2 7 rfl rfl)
theorem dX1_could_55 : decode cX1_could 55 = .ok (.sipush 135, 3) := dk_17 0 135 (dk_at dksX1_could_2 10 rfl rfl)
theorem dX1_could_58 : decode cX1_could 58 = .ok (.aload_n 0, 1) := dk_42 (dk_at dksX1_could_2 13 rfl rfl)
theorem dX1_could_59 : decode cX1_could 59 = .ok (.getfield 81, 3) := dk_180 0 81 (dk_at dksX1_could_2 14 rfl rfl)
theorem dX1_could_62 : decode cX1_could 62 = .ok (.getfield 220, 3) := dk_180 0 220 (dk_at dksX1_could_2 17 rfl rfl)
theorem dX1_could_65 : decode cX1_could 65 = .ok (.iload_n 2, 1) := dk_28 (dk_at dksX1_could_2 20 rfl rfl)
theorem dX1_could_66 : decode cX1_could 66 = .ok (.iaload, 1) := dk_46 (dk_at dksX1_could_2 21 rfl rfl)
theorem dX1_could_67 : decode cX1_could 67 = .ok (.imul, 1) := dk_104 (dk_at dksX1_could_2 22 rfl rfl)
theorem dX1_could_68 : decode cX1_could 68 = .ok (.iload 6, 2) := dk_21 6 (dk_at dksX1_could_3 0 rfl rfl)
theorem dX1_could_70 : decode cX1_could 70 = .ok (.iadd, 1) := dk_96 (dk_at dksX1_could_3 2 rfl rfl)
theorem dX1_could_71 : decode cX1_could 71 = .ok (.iaload, 1) := dk_46 (dk_at dksX1_could_3 3 rfl rfl)
theorem dX1_could_72 : decode cX1_could 72 = .ok (.istore 7, 2) := dk_54 7 (dk_at dksX1_could_3 4 rfl rfl)
theorem dX1_could_74 : decode cX1_could 74 = .ok (.iload 7, 2) := dk_21 7 (dk_at dksX1_could_3 6 rfl rfl)
theorem dX1_could_76 : decode cX1_could 76 = .ok (.ifCond .ne 6, 3) := dk_154 0 6 (dk_at dksX1_could_3 8 rfl rfl)
theorem dX1_could_79 : decode cX1_could 79 = .ok (.goto 24, 3) := dk_167 0 24 (dk_at dksX1_could_3 11 rfl rfl)
theorem dX1_could_82 : decode cX1_could 82 = .ok (.iload 5, 2) := dk_21 5 (dk_at dksX1_could_3 14 rfl rfl)
theorem dX1_could_84 : decode cX1_could 84 = .ok (.ifCond .ne 16, 3) := dk_154 0 16 (dk_at dksX1_could_3 16 rfl rfl)
theorem dX1_could_87 : decode cX1_could 87 = .ok (.iload 4, 2) := dk_21 4 (dk_at dksX1_could_3 19 rfl rfl)
theorem dX1_could_89 : decode cX1_could 89 = .ok (.ifCond .ne 8, 3) := dk_154 0 8 (dk_at dksX1_could_3 21 rfl rfl)
theorem dX1_could_92 : decode cX1_could 92 = .ok (.iload 6, 2) := dk_21 6 (dk_at dksX1_could_4 0 rfl rfl)
theorem dX1_could_94 : decode cX1_could 94 = .ok (.goto 5, 3) := dk_167 0 5 (dk_at dksX1_could_4 2 rfl rfl)
theorem dX1_could_97 : decode cX1_could 97 = .ok (.iload 7, 2) := dk_21 7 (dk_at dksX1_could_4 5 rfl rfl)
theorem dX1_could_99 : decode cX1_could 99 = .ok (.ireturn, 1) := dk_172 (dk_at dksX1_could_4 7 rfl rfl)
theorem dX1_could_100 : decode cX1_could 100 = .ok (.iinc 5 (-1), 3) := dk_132 5 255 (dk_at dksX1_could_4 8 rfl rfl)
theorem dX1_could_103 : decode cX1_could 103 = .ok (.iinc 6 1, 3) := dk_132 6 1 (dk_at dksX1_could_4 11 rfl rfl)
theorem dX1_could_106 : decode cX1_could 106 = .ok (.goto (-63), 3) := dk_167 255 193 (dk_at dksX1_could_4 14 rfl rfl)
theorem dX1_could_109 : decode cX1_could 109 = .ok (.iconst (-1), 1) := dk_2 (dk_at dksX1_could_4 17 rfl rfl)
theorem dX1_could_110 : decode cX1_could 110 = .ok (.ireturn, 1) := dk_172 (dk_at dksX1_could_4 18 rfl rfl)
def dkwX1_inGrid_2 : List UInt8 := [21, 4, 172, 132, 4, 1, 167, 255, 233, 2, 172]
abbrev dktX1_inGrid_2 : List UInt8 := dkwX1_inGrid_2 ++ []
def dkwX1_inGrid_1 : List UInt8 := [182, 1, 103, 78, 3, 54, 4, 21, 4, 16, 40, 162, 0, 22, 45, 21, 4, 182, 1, 107, 28, 160, 0, 6]
abbrev dktX1_inGrid_1 : List UInt8 := dkwX1_inGrid_1 ++ dktX1_inGrid_2
def dkwX1_inGrid_0 : List UInt8 := [42, 27, 182, 0, 213, 153, 0, 14, 28, 3, 17, 0, 134, 184, 0, 3, 154, 0, 5, 2, 172, 42, 27]
abbrev dktX1_inGrid_0 : List UInt8 := dkwX1_inGrid_0 ++ dktX1_inGrid_1
theorem dksX1_inGrid_0 : cX1_inGrid.data.toList.drop 0 = dktX1_inGrid_0 := by decide +kernel
theorem dksX1_inGrid_1 : cX1_inGrid.data.toList.drop 23 = dktX1_inGrid_1 := dk_seg dksX1_inGrid_0 23 rfl rfl
theorem dksX1_inGrid_2 : cX1_inGrid.data.toList.drop 47 = dktX1_inGrid_2 := dk_seg dksX1_inGrid_1 24 rfl rfl
theorem dX1_inGrid_0 : decode cX1_inGrid 0 = .ok (.aload_n 0, 1) := dk_42 (dk_at dksX1_inGrid_0 0 rfl rfl)
theorem dX1_inGrid_1 : decode cX1_inGrid 1 = .ok (.iload_n 1, 1) := dk_27 (dk_at dksX1_inGrid_0 1 rfl rfl)
theorem dX1_inGrid_2 : decode cX1_inGrid 2 = .ok (.invokevirtual 213, 3) := dk_182 0 213 (dk_at dksX1_inGrid_0 2 rfl rfl)
theorem dX1_inGrid_5 : decode cX1_inGrid 5 = .ok (.ifCond .eq 14, 3) := dk_153 0 14 (dk_at dksX1_inGrid_0 5 rfl rfl)
theorem dX1_inGrid_8 : decode cX1_inGrid 8 = .ok (.iload_n 2, 1) := dk_28 (dk_at dksX1_inGrid_0 8 rfl rfl)
theorem dX1_inGrid_9 : decode cX1_inGrid 9 = .ok (.iconst 0, 1) := dk_3 (dk_at dksX1_inGrid_0 9 rfl rfl)
theorem dX1_inGrid_10 : decode cX1_inGrid 10 = .ok (.sipush 134, 3) := dk_17 0 134 (dk_at dksX1_inGrid_0 10 rfl rfl)
theorem dX1_inGrid_13 : decode cX1_inGrid 13 = .ok (.invokestatic 3, 3) := dk_184 0 3 (dk_at dksX1_inGrid_0 13 rfl rfl)
theorem dX1_inGrid_16 : decode cX1_inGrid 16 = .ok (.ifCond .ne 5, 3) := dk_154 0 5 (dk_at dksX1_inGrid_0 16 rfl rfl)
theorem dX1_inGrid_19 : decode cX1_inGrid 19 = .ok (.iconst (-1), 1) := dk_2 (dk_at dksX1_inGrid_0 19 rfl rfl)
theorem dX1_inGrid_20 : decode cX1_inGrid 20 = .ok (.ireturn, 1) := dk_172 (dk_at dksX1_inGrid_0 20 rfl rfl)
theorem dX1_inGrid_21 : decode cX1_inGrid 21 = .ok (.aload_n 0, 1) := dk_42 (dk_at dksX1_inGrid_0 21 rfl rfl)
theorem dX1_inGrid_22 : decode cX1_inGrid 22 = .ok (.iload_n 1, 1) := dk_27 (dk_at dksX1_inGrid_0 22 rfl rfl)
theorem dX1_inGrid_23 : decode cX1_inGrid 23 = .ok (.invokevirtual 359, 3) := dk_182 1 103 (dk_at dksX1_inGrid_1 0 rfl rfl)
theorem dX1_inGrid_26 : decode cX1_inGrid 26 = .ok (.astore_n 3, 1) := dk_78 (dk_at dksX1_inGrid_1 3 rfl rfl)
theorem dX1_inGrid_27 : decode cX1_inGrid 27 = .ok (.iconst 0, 1) := dk_3 (dk_at dksX1_inGrid_1 4 rfl rfl)
theorem dX1_inGrid_28 : decode cX1_inGrid 28 = .ok (.istore 4, 2) := dk_54 4 (dk_at dksX1_inGrid_1 5 rfl rfl)
theorem dX1_inGrid_30 : decode cX1_inGrid 30 = .ok (.iload 4, 2) := dk_21 4 (dk_at dksX1_inGrid_1 7 rfl rfl)
theorem dX1_inGrid_32 : decode cX1_inGrid 32 = .ok (.bipush 40, 2) := dk_16 40 (dk_at dksX1_inGrid_1 9 rfl rfl)
theorem dX1_inGrid_34 : decode cX1_inGrid 34 = .ok (.if_icmp .ge 22, 3) := dk_162 0 22 (dk_at dksX1_inGrid_1 11 rfl rfl)
theorem dX1_inGrid_37 : decode cX1_inGrid 37 = .ok (.aload_n 3, 1) := dk_45 (dk_at dksX1_inGrid_1 14 rfl rfl)
theorem dX1_inGrid_38 : decode cX1_inGrid 38 = .ok (.iload 4, 2) := dk_21 4 (dk_at dksX1_inGrid_1 15 rfl rfl)
theorem dX1_inGrid_40 : decode cX1_inGrid 40 = .ok (.invokevirtual 363, 3) := dk_182 1 107 (dk_at dksX1_inGrid_1 17 rfl rfl)
theorem dX1_inGrid_43 : decode cX1_inGrid 43 = .ok (.iload_n 2, 1) := dk_28 (dk_at dksX1_inGrid_1 20 rfl rfl)
theorem dX1_inGrid_44 : decode cX1_inGrid 44 = .ok (.if_icmp .ne 6, 3) := dk_160 0 6 (dk_at dksX1_inGrid_1 21 rfl rfl)
theorem dX1_inGrid_47 : decode cX1_inGrid 47 = .ok (.iload 4, 2) := dk_21 4 (dk_at dksX1_inGrid_2 0 rfl rfl)
theorem dX1_inGrid_49 : decode cX1_inGrid 49 = .ok (.ireturn, 1) := dk_172 (dk_at dksX1_inGrid_2 2 rfl rfl)
theorem dX1_inGrid_50 : decode cX1_inGrid 50 = .ok (.iinc 4 1, 3) := dk_132 4 1 (dk_at dksX1_inGrid_2 3 rfl rfl)
theorem dX1_inGrid_53 : decode cX1_inGrid 53 = .ok (.goto (-23), 3) := dk_167 255 233 (dk_at dksX1_inGrid_2 6 rfl rfl)
theorem dX1_inGrid_56 : decode cX1_inGrid 56 = .ok (.iconst (-1), 1) := dk_2 (dk_at dksX1_inGrid_2 9 rfl rfl)
theorem dX1_inGrid_57 : decode cX1_inGrid 57 = .ok (.ireturn, 1) := dk_172 (dk_at dksX1_inGrid_2 10 rfl rfl)
def dkwX1_where_6 : List UInt8 := [167, 255, 157, 29, 172]
abbrev dktX1_where_6 : List UInt8 := dkwX1_where_6 ++ []
def dkwX1_where_5 : List UInt8 := [180, 1, 77, 21, 4, 161, 0, 6, 167, 0, 13, 21, 5, 62, 25, 6, 180, 1, 77, 54, 4, 132, 5, 1]
abbrev dktX1_where_5 : List UInt8 := dkwX1_where_5 ++ dktX1_where_6
def dkwX1_where_4 : List UInt8 := [182, 1, 129, 25, 6, 182, 1, 73, 87, 25, 6, 180, 1, 77, 153, 0, 31, 29, 2, 159, 0, 16, 25, 6]
abbrev dktX1_where_4 : List UInt8 := dkwX1_where_4 ++ dktX1_where_5
def dkwX1_where_3 : List UInt8 := [154, 0, 6, 167, 0, 65, 187, 1, 70, 89, 42, 183, 1, 72, 58, 6, 25, 6, 44, 21, 5, 16, 6]
abbrev dktX1_where_3 : List UInt8 := dkwX1_where_3 ++ dktX1_where_4
def dkwX1_where_2 : List UInt8 := [182, 0, 121, 162, 0, 93, 42, 180, 0, 26, 21, 5, 182, 0, 169, 192, 0, 135, 27, 182, 1, 69]
abbrev dktX1_where_2 : List UInt8 := dkwX1_where_2 ++ dktX1_where_3
def dkwX1_where_1 : List UInt8 := [42, 180, 0, 81, 27, 182, 0, 237, 87, 2, 62, 3, 54, 4, 3, 54, 5, 21, 5, 42, 180, 0, 26]
abbrev dktX1_where_1 : List UInt8 := dkwX1_where_1 ++ dktX1_where_2
def dkwX1_where_0 : List UInt8 := [42, 182, 1, 38, 77, 42, 27, 182, 0, 213, 153, 0, 7, 44, 199, 0, 5, 2, 172, 42, 3, 181, 0, 126]
abbrev dktX1_where_0 : List UInt8 := dkwX1_where_0 ++ dktX1_where_1
theorem dksX1_where_0 : cX1_where.data.toList.drop 0 = dktX1_where_0 := by decide +kernel
theorem dksX1_where_1 : cX1_where.data.toList.drop 24 = dktX1_where_1 := dk_seg dksX1_where_0 24 rfl rfl
theorem dksX1_where_2 : cX1_where.data.toList.drop 47 = dktX1_where_2 := dk_seg dksX1_where_1 23 rfl rfl
theorem dksX1_where_3 : cX1_where.data.toList.drop 69 = dktX1_where_3 := dk_seg dksX1_where_2 22 rfl rfl
theorem dksX1_where_4 : cX1_where.data.toList.drop 92 = dktX1_where_4 := dk_seg dksX1_where_3 23 rfl rfl
theorem dksX1_where_5 : cX1_where.data.toList.drop 116 = dktX1_where_5 := dk_seg dksX1_where_4 24 rfl rfl
theorem dksX1_where_6 : cX1_where.data.toList.drop 140 = dktX1_where_6 := dk_seg dksX1_where_5 24 rfl rfl
theorem dX1_where_0 : decode cX1_where 0 = .ok (.aload_n 0, 1) := dk_42 (dk_at dksX1_where_0 0 rfl rfl)
theorem dX1_where_1 : decode cX1_where 1 = .ok (.invokevirtual 294, 3) := dk_182 1 38 (dk_at dksX1_where_0 1 rfl rfl)
theorem dX1_where_4 : decode cX1_where 4 = .ok (.astore_n 2, 1) := dk_77 (dk_at dksX1_where_0 4 rfl rfl)
theorem dX1_where_5 : decode cX1_where 5 = .ok (.aload_n 0, 1) := dk_42 (dk_at dksX1_where_0 5 rfl rfl)
theorem dX1_where_6 : decode cX1_where 6 = .ok (.iload_n 1, 1) := dk_27 (dk_at dksX1_where_0 6 rfl rfl)
theorem dX1_where_7 : decode cX1_where 7 = .ok (.invokevirtual 213, 3) := dk_182 0 213 (dk_at dksX1_where_0 7 rfl rfl)
theorem dX1_where_10 : decode cX1_where 10 = .ok (.ifCond .eq 7, 3) := dk_153 0 7 (dk_at dksX1_where_0 10 rfl rfl)
theorem dX1_where_13 : decode cX1_where 13 = .ok (.aload_n 2, 1) := dk_44 (dk_at dksX1_where_0 13 rfl rfl)
theorem dX1_where_14 : decode cX1_where 14 = .ok (.ifnonnull 5, 3) := dk_199 0 5 (dk_at dksX1_where_0 14 rfl rfl)
theorem dX1_where_17 : decode cX1_where 17 = .ok (.iconst (-1), 1) := dk_2 (dk_at dksX1_where_0 17 rfl rfl)
theorem dX1_where_18 : decode cX1_where 18 = .ok (.ireturn, 1) := dk_172 (dk_at dksX1_where_0 18 rfl rfl)
theorem dX1_where_19 : decode cX1_where 19 = .ok (.aload_n 0, 1) := dk_42 (dk_at dksX1_where_0 19 rfl rfl)
theorem dX1_where_20 : decode cX1_where 20 = .ok (.iconst 0, 1) := dk_3 (dk_at dksX1_where_0 20 rfl rfl)
theorem dX1_where_21 : decode cX1_where 21 = .ok (.putfield 126, 3) := dk_181 0 126 (dk_at dksX1_where_0 21 rfl rfl)
theorem dX1_where_24 : decode cX1_where 24 = .ok (.aload_n 0, 1) := dk_42 (dk_at dksX1_where_1 0 rfl rfl)
theorem dX1_where_25 : decode cX1_where 25 = .ok (.getfield 81, 3) := dk_180 0 81 (dk_at dksX1_where_1 1 rfl rfl)
theorem dX1_where_28 : decode cX1_where 28 = .ok (.iload_n 1, 1) := dk_27 (dk_at dksX1_where_1 4 rfl rfl)
theorem dX1_where_29 : decode cX1_where 29 = .ok (.invokevirtual 237, 3) := dk_182 0 237 (dk_at dksX1_where_1 5 rfl rfl)
theorem dX1_where_32 : decode cX1_where 32 = .ok (.pop, 1) := dk_87 (dk_at dksX1_where_1 8 rfl rfl)
theorem dX1_where_33 : decode cX1_where 33 = .ok (.iconst (-1), 1) := dk_2 (dk_at dksX1_where_1 9 rfl rfl)
theorem dX1_where_34 : decode cX1_where 34 = .ok (.istore_n 3, 1) := dk_62 (dk_at dksX1_where_1 10 rfl rfl)
theorem dX1_where_35 : decode cX1_where 35 = .ok (.iconst 0, 1) := dk_3 (dk_at dksX1_where_1 11 rfl rfl)
theorem dX1_where_36 : decode cX1_where 36 = .ok (.istore 4, 2) := dk_54 4 (dk_at dksX1_where_1 12 rfl rfl)
theorem dX1_where_38 : decode cX1_where 38 = .ok (.iconst 0, 1) := dk_3 (dk_at dksX1_where_1 14 rfl rfl)
theorem dX1_where_39 : decode cX1_where 39 = .ok (.istore 5, 2) := dk_54 5 (dk_at dksX1_where_1 15 rfl rfl)
theorem dX1_where_41 : decode cX1_where 41 = .ok (.iload 5, 2) := dk_21 5 (dk_at dksX1_where_1 17 rfl rfl)
theorem dX1_where_43 : decode cX1_where 43 = .ok (.aload_n 0, 1) := dk_42 (dk_at dksX1_where_1 19 rfl rfl)
theorem dX1_where_44 : decode cX1_where 44 = .ok (.getfield 26, 3) := dk_180 0 26 (dk_at dksX1_where_1 20 rfl rfl)
theorem dX1_where_47 : decode cX1_where 47 = .ok (.invokevirtual 121, 3) := dk_182 0 121 (dk_at dksX1_where_2 0 rfl rfl)
theorem dX1_where_50 : decode cX1_where 50 = .ok (.if_icmp .ge 93, 3) := dk_162 0 93 (dk_at dksX1_where_2 3 rfl rfl)
theorem dX1_where_53 : decode cX1_where 53 = .ok (.aload_n 0, 1) := dk_42 (dk_at dksX1_where_2 6 rfl rfl)
theorem dX1_where_54 : decode cX1_where 54 = .ok (.getfield 26, 3) := dk_180 0 26 (dk_at dksX1_where_2 7 rfl rfl)
theorem dX1_where_57 : decode cX1_where 57 = .ok (.iload 5, 2) := dk_21 5 (dk_at dksX1_where_2 10 rfl rfl)
theorem dX1_where_59 : decode cX1_where 59 = .ok (.invokevirtual 169, 3) := dk_182 0 169 (dk_at dksX1_where_2 12 rfl rfl)
theorem dX1_where_62 : decode cX1_where 62 = .ok (.checkcast 135, 3) := dk_192 0 135 (dk_at dksX1_where_2 15 rfl rfl)
theorem dX1_where_65 : decode cX1_where 65 = .ok (.iload_n 1, 1) := dk_27 (dk_at dksX1_where_2 18 rfl rfl)
theorem dX1_where_66 : decode cX1_where 66 = .ok (.invokevirtual 325, 3) := dk_182 1 69 (dk_at dksX1_where_2 19 rfl rfl)
theorem dX1_where_69 : decode cX1_where 69 = .ok (.ifCond .ne 6, 3) := dk_154 0 6 (dk_at dksX1_where_3 0 rfl rfl)
theorem dX1_where_72 : decode cX1_where 72 = .ok (.goto 65, 3) := dk_167 0 65 (dk_at dksX1_where_3 3 rfl rfl)
theorem dX1_where_75 : decode cX1_where 75 = .ok (.new 326, 3) := dk_187 1 70 (dk_at dksX1_where_3 6 rfl rfl)
theorem dX1_where_78 : decode cX1_where 78 = .ok (.dup, 1) := dk_89 (dk_at dksX1_where_3 9 rfl rfl)
theorem dX1_where_79 : decode cX1_where 79 = .ok (.aload_n 0, 1) := dk_42 (dk_at dksX1_where_3 10 rfl rfl)
theorem dX1_where_80 : decode cX1_where 80 = .ok (.invokespecial 328, 3) := dk_183 1 72 (dk_at dksX1_where_3 11 rfl rfl)
theorem dX1_where_83 : decode cX1_where 83 = .ok (.astore 6, 2) := dk_58 6 (dk_at dksX1_where_3 14 rfl rfl)
theorem dX1_where_85 : decode cX1_where 85 = .ok (.aload 6, 2) := dk_25 6 (dk_at dksX1_where_3 16 rfl rfl)
theorem dX1_where_87 : decode cX1_where 87 = .ok (.aload_n 2, 1) := dk_44 (dk_at dksX1_where_3 18 rfl rfl)
theorem dX1_where_88 : decode cX1_where 88 = .ok (.iload 5, 2) := dk_21 5 (dk_at dksX1_where_3 19 rfl rfl)
theorem dX1_where_90 : decode cX1_where 90 = .ok (.bipush 6, 2) := dk_16 6 (dk_at dksX1_where_3 21 rfl rfl)
theorem dX1_where_92 : decode cX1_where 92 = .ok (.invokevirtual 385, 3) := dk_182 1 129 (dk_at dksX1_where_4 0 rfl rfl)
theorem dX1_where_95 : decode cX1_where 95 = .ok (.aload 6, 2) := dk_25 6 (dk_at dksX1_where_4 3 rfl rfl)
theorem dX1_where_97 : decode cX1_where 97 = .ok (.invokevirtual 329, 3) := dk_182 1 73 (dk_at dksX1_where_4 5 rfl rfl)
theorem dX1_where_100 : decode cX1_where 100 = .ok (.pop, 1) := dk_87 (dk_at dksX1_where_4 8 rfl rfl)
theorem dX1_where_101 : decode cX1_where 101 = .ok (.aload 6, 2) := dk_25 6 (dk_at dksX1_where_4 9 rfl rfl)
theorem dX1_where_103 : decode cX1_where 103 = .ok (.getfield 333, 3) := dk_180 1 77 (dk_at dksX1_where_4 11 rfl rfl)
theorem dX1_where_106 : decode cX1_where 106 = .ok (.ifCond .eq 31, 3) := dk_153 0 31 (dk_at dksX1_where_4 14 rfl rfl)
theorem dX1_where_109 : decode cX1_where 109 = .ok (.iload_n 3, 1) := dk_29 (dk_at dksX1_where_4 17 rfl rfl)
theorem dX1_where_110 : decode cX1_where 110 = .ok (.iconst (-1), 1) := dk_2 (dk_at dksX1_where_4 18 rfl rfl)
theorem dX1_where_111 : decode cX1_where 111 = .ok (.if_icmp .eq 16, 3) := dk_159 0 16 (dk_at dksX1_where_4 19 rfl rfl)
theorem dX1_where_114 : decode cX1_where 114 = .ok (.aload 6, 2) := dk_25 6 (dk_at dksX1_where_4 22 rfl rfl)
theorem dX1_where_116 : decode cX1_where 116 = .ok (.getfield 333, 3) := dk_180 1 77 (dk_at dksX1_where_5 0 rfl rfl)
theorem dX1_where_119 : decode cX1_where 119 = .ok (.iload 4, 2) := dk_21 4 (dk_at dksX1_where_5 3 rfl rfl)
theorem dX1_where_121 : decode cX1_where 121 = .ok (.if_icmp .lt 6, 3) := dk_161 0 6 (dk_at dksX1_where_5 5 rfl rfl)
theorem dX1_where_124 : decode cX1_where 124 = .ok (.goto 13, 3) := dk_167 0 13 (dk_at dksX1_where_5 8 rfl rfl)
theorem dX1_where_127 : decode cX1_where 127 = .ok (.iload 5, 2) := dk_21 5 (dk_at dksX1_where_5 11 rfl rfl)
theorem dX1_where_129 : decode cX1_where 129 = .ok (.istore_n 3, 1) := dk_62 (dk_at dksX1_where_5 13 rfl rfl)
theorem dX1_where_130 : decode cX1_where 130 = .ok (.aload 6, 2) := dk_25 6 (dk_at dksX1_where_5 14 rfl rfl)
theorem dX1_where_132 : decode cX1_where 132 = .ok (.getfield 333, 3) := dk_180 1 77 (dk_at dksX1_where_5 16 rfl rfl)
theorem dX1_where_135 : decode cX1_where 135 = .ok (.istore 4, 2) := dk_54 4 (dk_at dksX1_where_5 19 rfl rfl)
theorem dX1_where_137 : decode cX1_where 137 = .ok (.iinc 5 1, 3) := dk_132 5 1 (dk_at dksX1_where_5 21 rfl rfl)
theorem dX1_where_140 : decode cX1_where 140 = .ok (.goto (-99), 3) := dk_167 255 157 (dk_at dksX1_where_6 0 rfl rfl)
theorem dX1_where_143 : decode cX1_where 143 = .ok (.iload_n 3, 1) := dk_29 (dk_at dksX1_where_6 3 rfl rfl)
theorem dX1_where_144 : decode cX1_where 144 = .ok (.ireturn, 1) := dk_172 (dk_at dksX1_where_6 4 rfl rfl)
def dkwX1_often_3 : List UInt8 := [172]
abbrev dktX1_often_3 : List UInt8 := dkwX1_often_3 ++ []
def dkwX1_often_2 : List UInt8 := [182, 1, 157, 167, 0, 21, 42, 180, 0, 115, 7, 42, 180, 0, 81, 180, 0, 220, 27, 46, 104, 29, 96, 46]
abbrev dktX1_often_2 : List UInt8 := dkwX1_often_2 ++ dktX1_often_3
def dkwX1_often_1 : List UInt8 := [2, 172, 42, 28, 182, 1, 155, 29, 7, 160, 0, 19, 42, 42, 180, 0, 81, 180, 0, 220, 27, 46]
abbrev dktX1_often_1 : List UInt8 := dkwX1_often_1 ++ dktX1_often_2
def dkwX1_often_0 : List UInt8 := [27, 184, 0, 183, 153, 0, 20, 42, 28, 182, 0, 213, 153, 0, 12, 29, 3, 7, 184, 0, 3, 154, 0, 5]
abbrev dktX1_often_0 : List UInt8 := dkwX1_often_0 ++ dktX1_often_1
theorem dksX1_often_0 : cX1_often.data.toList.drop 0 = dktX1_often_0 := by decide +kernel
theorem dksX1_often_1 : cX1_often.data.toList.drop 24 = dktX1_often_1 := dk_seg dksX1_often_0 24 rfl rfl
theorem dksX1_often_2 : cX1_often.data.toList.drop 46 = dktX1_often_2 := dk_seg dksX1_often_1 22 rfl rfl
theorem dksX1_often_3 : cX1_often.data.toList.drop 70 = dktX1_often_3 := dk_seg dksX1_often_2 24 rfl rfl
theorem dX1_often_0 : decode cX1_often 0 = .ok (.iload_n 1, 1) := dk_27 (dk_at dksX1_often_0 0 rfl rfl)
theorem dX1_often_1 : decode cX1_often 1 = .ok (.invokestatic 183, 3) := dk_184 0 183 (dk_at dksX1_often_0 1 rfl rfl)
theorem dX1_often_4 : decode cX1_often 4 = .ok (.ifCond .eq 20, 3) := dk_153 0 20 (dk_at dksX1_often_0 4 rfl rfl)
theorem dX1_often_7 : decode cX1_often 7 = .ok (.aload_n 0, 1) := dk_42 (dk_at dksX1_often_0 7 rfl rfl)
theorem dX1_often_8 : decode cX1_often 8 = .ok (.iload_n 2, 1) := dk_28 (dk_at dksX1_often_0 8 rfl rfl)
theorem dX1_often_9 : decode cX1_often 9 = .ok (.invokevirtual 213, 3) := dk_182 0 213 (dk_at dksX1_often_0 9 rfl rfl)
theorem dX1_often_12 : decode cX1_often 12 = .ok (.ifCond .eq 12, 3) := dk_153 0 12 (dk_at dksX1_often_0 12 rfl rfl)
theorem dX1_often_15 : decode cX1_often 15 = .ok (.iload_n 3, 1) := dk_29 (dk_at dksX1_often_0 15 rfl rfl)
theorem dX1_often_16 : decode cX1_often 16 = .ok (.iconst 0, 1) := dk_3 (dk_at dksX1_often_0 16 rfl rfl)
theorem dX1_often_17 : decode cX1_often 17 = .ok (.iconst 4, 1) := dk_7 (dk_at dksX1_often_0 17 rfl rfl)
theorem dX1_often_18 : decode cX1_often 18 = .ok (.invokestatic 3, 3) := dk_184 0 3 (dk_at dksX1_often_0 18 rfl rfl)
theorem dX1_often_21 : decode cX1_often 21 = .ok (.ifCond .ne 5, 3) := dk_154 0 5 (dk_at dksX1_often_0 21 rfl rfl)
theorem dX1_often_24 : decode cX1_often 24 = .ok (.iconst (-1), 1) := dk_2 (dk_at dksX1_often_1 0 rfl rfl)
theorem dX1_often_25 : decode cX1_often 25 = .ok (.ireturn, 1) := dk_172 (dk_at dksX1_often_1 1 rfl rfl)
theorem dX1_often_26 : decode cX1_often 26 = .ok (.aload_n 0, 1) := dk_42 (dk_at dksX1_often_1 2 rfl rfl)
theorem dX1_often_27 : decode cX1_often 27 = .ok (.iload_n 2, 1) := dk_28 (dk_at dksX1_often_1 3 rfl rfl)
theorem dX1_often_28 : decode cX1_often 28 = .ok (.invokevirtual 411, 3) := dk_182 1 155 (dk_at dksX1_often_1 4 rfl rfl)
theorem dX1_often_31 : decode cX1_often 31 = .ok (.iload_n 3, 1) := dk_29 (dk_at dksX1_often_1 7 rfl rfl)
theorem dX1_often_32 : decode cX1_often 32 = .ok (.iconst 4, 1) := dk_7 (dk_at dksX1_often_1 8 rfl rfl)
theorem dX1_often_33 : decode cX1_often 33 = .ok (.if_icmp .ne 19, 3) := dk_160 0 19 (dk_at dksX1_often_1 9 rfl rfl)
theorem dX1_often_36 : decode cX1_often 36 = .ok (.aload_n 0, 1) := dk_42 (dk_at dksX1_often_1 12 rfl rfl)
theorem dX1_often_37 : decode cX1_often 37 = .ok (.aload_n 0, 1) := dk_42 (dk_at dksX1_often_1 13 rfl rfl)
theorem dX1_often_38 : decode cX1_often 38 = .ok (.getfield 81, 3) := dk_180 0 81 (dk_at dksX1_often_1 14 rfl rfl)
theorem dX1_often_41 : decode cX1_often 41 = .ok (.getfield 220, 3) := dk_180 0 220 (dk_at dksX1_often_1 17 rfl rfl)
theorem dX1_often_44 : decode cX1_often 44 = .ok (.iload_n 1, 1) := dk_27 (dk_at dksX1_often_1 20 rfl rfl)
theorem dX1_often_45 : decode cX1_often 45 = .ok (.iaload, 1) := dk_46 (dk_at dksX1_often_1 21 rfl rfl)
theorem dX1_often_46 : decode cX1_often 46 = .ok (.invokevirtual 413, 3) := dk_182 1 157 (dk_at dksX1_often_2 0 rfl rfl)
theorem dX1_often_49 : decode cX1_often 49 = .ok (.goto 21, 3) := dk_167 0 21 (dk_at dksX1_often_2 3 rfl rfl)
theorem dX1_often_52 : decode cX1_often 52 = .ok (.aload_n 0, 1) := dk_42 (dk_at dksX1_often_2 6 rfl rfl)
theorem dX1_often_53 : decode cX1_often 53 = .ok (.getfield 115, 3) := dk_180 0 115 (dk_at dksX1_often_2 7 rfl rfl)
theorem dX1_often_56 : decode cX1_often 56 = .ok (.iconst 4, 1) := dk_7 (dk_at dksX1_often_2 10 rfl rfl)
theorem dX1_often_57 : decode cX1_often 57 = .ok (.aload_n 0, 1) := dk_42 (dk_at dksX1_often_2 11 rfl rfl)
theorem dX1_often_58 : decode cX1_often 58 = .ok (.getfield 81, 3) := dk_180 0 81 (dk_at dksX1_often_2 12 rfl rfl)
theorem dX1_often_61 : decode cX1_often 61 = .ok (.getfield 220, 3) := dk_180 0 220 (dk_at dksX1_often_2 15 rfl rfl)
theorem dX1_often_64 : decode cX1_often 64 = .ok (.iload_n 1, 1) := dk_27 (dk_at dksX1_often_2 18 rfl rfl)
theorem dX1_often_65 : decode cX1_often 65 = .ok (.iaload, 1) := dk_46 (dk_at dksX1_often_2 19 rfl rfl)
theorem dX1_often_66 : decode cX1_often 66 = .ok (.imul, 1) := dk_104 (dk_at dksX1_often_2 20 rfl rfl)
theorem dX1_often_67 : decode cX1_often 67 = .ok (.iload_n 3, 1) := dk_29 (dk_at dksX1_often_2 21 rfl rfl)
theorem dX1_often_68 : decode cX1_often 68 = .ok (.iadd, 1) := dk_96 (dk_at dksX1_often_2 22 rfl rfl)
theorem dX1_often_69 : decode cX1_often 69 = .ok (.iaload, 1) := dk_46 (dk_at dksX1_often_2 23 rfl rfl)
theorem dX1_often_70 : decode cX1_often 70 = .ok (.ireturn, 1) := dk_172 (dk_at dksX1_often_3 0 rfl rfl)
def dkwX1_counts_8 : List UInt8 := [167, 255, 132, 132, 2, 1, 167, 255, 100, 177]
abbrev dktX1_counts_8 : List UInt8 := dkwX1_counts_8 ++ []
def dkwX1_counts_7 : List UInt8 := [160, 0, 7, 4, 167, 0, 4, 6, 96, 92, 46, 4, 96, 79, 132, 6, 1, 167, 255, 169, 132, 4, 1]
abbrev dktX1_counts_7 : List UInt8 := dkwX1_counts_7 ++ dktX1_counts_8
def dkwX1_counts_6 : List UInt8 := [160, 0, 7, 5, 167, 0, 26, 21, 6, 154, 0, 7, 3, 167, 0, 17, 21, 6, 21, 5, 4, 100]
abbrev dktX1_counts_6 : List UInt8 := dkwX1_counts_6 ++ dktX1_counts_7
def dkwX1_counts_5 : List UInt8 := [42, 180, 0, 81, 180, 0, 220, 45, 180, 0, 201, 21, 4, 50, 21, 6, 46, 46, 104, 21, 5, 4]
abbrev dktX1_counts_5 : List UInt8 := dkwX1_counts_5 ++ dktX1_counts_6
def dkwX1_counts_4 : List UInt8 := [21, 5, 162, 0, 86, 45, 180, 0, 201, 21, 4, 50, 21, 6, 46, 2, 159, 0, 66, 42, 180, 0, 115, 7]
abbrev dktX1_counts_4 : List UInt8 := dkwX1_counts_4 ++ dktX1_counts_5
def dkwX1_counts_3 : List UInt8 := [45, 27, 182, 1, 69, 153, 0, 112, 45, 180, 0, 201, 21, 4, 50, 190, 54, 5, 3, 54, 6, 21, 6]
abbrev dktX1_counts_3 : List UInt8 := dkwX1_counts_3 ++ dktX1_counts_4
def dkwX1_counts_2 : List UInt8 := [180, 0, 26, 28, 182, 0, 169, 192, 0, 135, 78, 3, 54, 4, 21, 4, 45, 180, 0, 201, 190, 162, 0, 120]
abbrev dktX1_counts_2 : List UInt8 := dkwX1_counts_2 ++ dktX1_counts_3
def dkwX1_counts_1 : List UInt8 := [28, 3, 79, 132, 2, 1, 167, 255, 237, 3, 61, 28, 42, 180, 0, 26, 182, 0, 121, 162, 0, 151, 42]
abbrev dktX1_counts_1 : List UInt8 := dkwX1_counts_1 ++ dktX1_counts_2
def dkwX1_counts_0 : List UInt8 := [42, 180, 0, 81, 27, 182, 0, 216, 87, 3, 61, 28, 42, 180, 0, 115, 190, 162, 0, 16, 42, 180, 0, 115]
abbrev dktX1_counts_0 : List UInt8 := dkwX1_counts_0 ++ dktX1_counts_1
theorem dksX1_counts_0 : cX1_counts.data.toList.drop 0 = dktX1_counts_0 := by decide +kernel
theorem dksX1_counts_1 : cX1_counts.data.toList.drop 24 = dktX1_counts_1 := dk_seg dksX1_counts_0 24 rfl rfl
theorem dksX1_counts_2 : cX1_counts.data.toList.drop 47 = dktX1_counts_2 := dk_seg dksX1_counts_1 23 rfl rfl
theorem dksX1_counts_3 : cX1_counts.data.toList.drop 71 = dktX1_counts_3 := dk_seg dksX1_counts_2 24 rfl rfl
theorem dksX1_counts_4 : cX1_counts.data.toList.drop 94 = dktX1_counts_4 := dk_seg dksX1_counts_3 23 rfl rfl
theorem dksX1_counts_5 : cX1_counts.data.toList.drop 118 = dktX1_counts_5 := dk_seg dksX1_counts_4 24 rfl rfl
theorem dksX1_counts_6 : cX1_counts.data.toList.drop 140 = dktX1_counts_6 := dk_seg dksX1_counts_5 22 rfl rfl
theorem dksX1_counts_7 : cX1_counts.data.toList.drop 162 = dktX1_counts_7 := dk_seg dksX1_counts_6 22 rfl rfl
theorem dksX1_counts_8 : cX1_counts.data.toList.drop 185 = dktX1_counts_8 := dk_seg dksX1_counts_7 23 rfl rfl
theorem dX1_counts_0 : decode cX1_counts 0 = .ok (.aload_n 0, 1) := dk_42 (dk_at dksX1_counts_0 0 rfl rfl)
theorem dX1_counts_1 : decode cX1_counts 1 = .ok (.getfield 81, 3) := dk_180 0 81 (dk_at dksX1_counts_0 1 rfl rfl)
theorem dX1_counts_4 : decode cX1_counts 4 = .ok (.iload_n 1, 1) := dk_27 (dk_at dksX1_counts_0 4 rfl rfl)
theorem dX1_counts_5 : decode cX1_counts 5 = .ok (.invokevirtual 216, 3) := dk_182 0 216 (dk_at dksX1_counts_0 5 rfl rfl)
theorem dX1_counts_8 : decode cX1_counts 8 = .ok (.pop, 1) := dk_87 (dk_at dksX1_counts_0 8 rfl rfl)
theorem dX1_counts_9 : decode cX1_counts 9 = .ok (.iconst 0, 1) := dk_3 (dk_at dksX1_counts_0 9 rfl rfl)
theorem dX1_counts_10 : decode cX1_counts 10 = .ok (.istore_n 2, 1) := dk_61 (dk_at dksX1_counts_0 10 rfl rfl)
theorem dX1_counts_11 : decode cX1_counts 11 = .ok (.iload_n 2, 1) := dk_28 (dk_at dksX1_counts_0 11 rfl rfl)
theorem dX1_counts_12 : decode cX1_counts 12 = .ok (.aload_n 0, 1) := dk_42 (dk_at dksX1_counts_0 12 rfl rfl)
theorem dX1_counts_13 : decode cX1_counts 13 = .ok (.getfield 115, 3) := dk_180 0 115 (dk_at dksX1_counts_0 13 rfl rfl)
theorem dX1_counts_16 : decode cX1_counts 16 = .ok (.arraylength, 1) := dk_190 (dk_at dksX1_counts_0 16 rfl rfl)
theorem dX1_counts_17 : decode cX1_counts 17 = .ok (.if_icmp .ge 16, 3) := dk_162 0 16 (dk_at dksX1_counts_0 17 rfl rfl)
theorem dX1_counts_20 : decode cX1_counts 20 = .ok (.aload_n 0, 1) := dk_42 (dk_at dksX1_counts_0 20 rfl rfl)
theorem dX1_counts_21 : decode cX1_counts 21 = .ok (.getfield 115, 3) := dk_180 0 115 (dk_at dksX1_counts_0 21 rfl rfl)
theorem dX1_counts_24 : decode cX1_counts 24 = .ok (.iload_n 2, 1) := dk_28 (dk_at dksX1_counts_1 0 rfl rfl)
theorem dX1_counts_25 : decode cX1_counts 25 = .ok (.iconst 0, 1) := dk_3 (dk_at dksX1_counts_1 1 rfl rfl)
theorem dX1_counts_26 : decode cX1_counts 26 = .ok (.iastore, 1) := dk_79 (dk_at dksX1_counts_1 2 rfl rfl)
theorem dX1_counts_27 : decode cX1_counts 27 = .ok (.iinc 2 1, 3) := dk_132 2 1 (dk_at dksX1_counts_1 3 rfl rfl)
theorem dX1_counts_30 : decode cX1_counts 30 = .ok (.goto (-19), 3) := dk_167 255 237 (dk_at dksX1_counts_1 6 rfl rfl)
theorem dX1_counts_33 : decode cX1_counts 33 = .ok (.iconst 0, 1) := dk_3 (dk_at dksX1_counts_1 9 rfl rfl)
theorem dX1_counts_34 : decode cX1_counts 34 = .ok (.istore_n 2, 1) := dk_61 (dk_at dksX1_counts_1 10 rfl rfl)
theorem dX1_counts_35 : decode cX1_counts 35 = .ok (.iload_n 2, 1) := dk_28 (dk_at dksX1_counts_1 11 rfl rfl)
theorem dX1_counts_36 : decode cX1_counts 36 = .ok (.aload_n 0, 1) := dk_42 (dk_at dksX1_counts_1 12 rfl rfl)
theorem dX1_counts_37 : decode cX1_counts 37 = .ok (.getfield 26, 3) := dk_180 0 26 (dk_at dksX1_counts_1 13 rfl rfl)
theorem dX1_counts_40 : decode cX1_counts 40 = .ok (.invokevirtual 121, 3) := dk_182 0 121 (dk_at dksX1_counts_1 16 rfl rfl)
theorem dX1_counts_43 : decode cX1_counts 43 = .ok (.if_icmp .ge 151, 3) := dk_162 0 151 (dk_at dksX1_counts_1 19 rfl rfl)
theorem dX1_counts_46 : decode cX1_counts 46 = .ok (.aload_n 0, 1) := dk_42 (dk_at dksX1_counts_1 22 rfl rfl)
theorem dX1_counts_47 : decode cX1_counts 47 = .ok (.getfield 26, 3) := dk_180 0 26 (dk_at dksX1_counts_2 0 rfl rfl)
theorem dX1_counts_50 : decode cX1_counts 50 = .ok (.iload_n 2, 1) := dk_28 (dk_at dksX1_counts_2 3 rfl rfl)
theorem dX1_counts_51 : decode cX1_counts 51 = .ok (.invokevirtual 169, 3) := dk_182 0 169 (dk_at dksX1_counts_2 4 rfl rfl)
theorem dX1_counts_54 : decode cX1_counts 54 = .ok (.checkcast 135, 3) := dk_192 0 135 (dk_at dksX1_counts_2 7 rfl rfl)
theorem dX1_counts_57 : decode cX1_counts 57 = .ok (.astore_n 3, 1) := dk_78 (dk_at dksX1_counts_2 10 rfl rfl)
theorem dX1_counts_58 : decode cX1_counts 58 = .ok (.iconst 0, 1) := dk_3 (dk_at dksX1_counts_2 11 rfl rfl)
theorem dX1_counts_59 : decode cX1_counts 59 = .ok (.istore 4, 2) := dk_54 4 (dk_at dksX1_counts_2 12 rfl rfl)
theorem dX1_counts_61 : decode cX1_counts 61 = .ok (.iload 4, 2) := dk_21 4 (dk_at dksX1_counts_2 14 rfl rfl)
theorem dX1_counts_63 : decode cX1_counts 63 = .ok (.aload_n 3, 1) := dk_45 (dk_at dksX1_counts_2 16 rfl rfl)
theorem dX1_counts_64 : decode cX1_counts 64 = .ok (.getfield 201, 3) := dk_180 0 201 (dk_at dksX1_counts_2 17 rfl rfl)
theorem dX1_counts_67 : decode cX1_counts 67 = .ok (.arraylength, 1) := dk_190 (dk_at dksX1_counts_2 20 rfl rfl)
theorem dX1_counts_68 : decode cX1_counts 68 = .ok (.if_icmp .ge 120, 3) := dk_162 0 120 (dk_at dksX1_counts_2 21 rfl rfl)
theorem dX1_counts_71 : decode cX1_counts 71 = .ok (.aload_n 3, 1) := dk_45 (dk_at dksX1_counts_3 0 rfl rfl)
theorem dX1_counts_72 : decode cX1_counts 72 = .ok (.iload_n 1, 1) := dk_27 (dk_at dksX1_counts_3 1 rfl rfl)
theorem dX1_counts_73 : decode cX1_counts 73 = .ok (.invokevirtual 325, 3) := dk_182 1 69 (dk_at dksX1_counts_3 2 rfl rfl)
theorem dX1_counts_76 : decode cX1_counts 76 = .ok (.ifCond .eq 112, 3) := dk_153 0 112 (dk_at dksX1_counts_3 5 rfl rfl)
theorem dX1_counts_79 : decode cX1_counts 79 = .ok (.aload_n 3, 1) := dk_45 (dk_at dksX1_counts_3 8 rfl rfl)
theorem dX1_counts_80 : decode cX1_counts 80 = .ok (.getfield 201, 3) := dk_180 0 201 (dk_at dksX1_counts_3 9 rfl rfl)
theorem dX1_counts_83 : decode cX1_counts 83 = .ok (.iload 4, 2) := dk_21 4 (dk_at dksX1_counts_3 12 rfl rfl)
theorem dX1_counts_85 : decode cX1_counts 85 = .ok (.aaload, 1) := dk_50 (dk_at dksX1_counts_3 14 rfl rfl)
theorem dX1_counts_86 : decode cX1_counts 86 = .ok (.arraylength, 1) := dk_190 (dk_at dksX1_counts_3 15 rfl rfl)
theorem dX1_counts_87 : decode cX1_counts 87 = .ok (.istore 5, 2) := dk_54 5 (dk_at dksX1_counts_3 16 rfl rfl)
theorem dX1_counts_89 : decode cX1_counts 89 = .ok (.iconst 0, 1) := dk_3 (dk_at dksX1_counts_3 18 rfl rfl)
theorem dX1_counts_90 : decode cX1_counts 90 = .ok (.istore 6, 2) := dk_54 6 (dk_at dksX1_counts_3 19 rfl rfl)
theorem dX1_counts_92 : decode cX1_counts 92 = .ok (.iload 6, 2) := dk_21 6 (dk_at dksX1_counts_3 21 rfl rfl)
theorem dX1_counts_94 : decode cX1_counts 94 = .ok (.iload 5, 2) := dk_21 5 (dk_at dksX1_counts_4 0 rfl rfl)
theorem dX1_counts_96 : decode cX1_counts 96 = .ok (.if_icmp .ge 86, 3) := dk_162 0 86 (dk_at dksX1_counts_4 2 rfl rfl)
theorem dX1_counts_99 : decode cX1_counts 99 = .ok (.aload_n 3, 1) := dk_45 (dk_at dksX1_counts_4 5 rfl rfl)
theorem dX1_counts_100 : decode cX1_counts 100 = .ok (.getfield 201, 3) := dk_180 0 201 (dk_at dksX1_counts_4 6 rfl rfl)
theorem dX1_counts_103 : decode cX1_counts 103 = .ok (.iload 4, 2) := dk_21 4 (dk_at dksX1_counts_4 9 rfl rfl)
theorem dX1_counts_105 : decode cX1_counts 105 = .ok (.aaload, 1) := dk_50 (dk_at dksX1_counts_4 11 rfl rfl)
theorem dX1_counts_106 : decode cX1_counts 106 = .ok (.iload 6, 2) := dk_21 6 (dk_at dksX1_counts_4 12 rfl rfl)
theorem dX1_counts_108 : decode cX1_counts 108 = .ok (.iaload, 1) := dk_46 (dk_at dksX1_counts_4 14 rfl rfl)
theorem dX1_counts_109 : decode cX1_counts 109 = .ok (.iconst (-1), 1) := dk_2 (dk_at dksX1_counts_4 15 rfl rfl)
theorem dX1_counts_110 : decode cX1_counts 110 = .ok (.if_icmp .eq 66, 3) := dk_159 0 66 (dk_at dksX1_counts_4 16 rfl rfl)
theorem dX1_counts_113 : decode cX1_counts 113 = .ok (.aload_n 0, 1) := dk_42 (dk_at dksX1_counts_4 19 rfl rfl)
theorem dX1_counts_114 : decode cX1_counts 114 = .ok (.getfield 115, 3) := dk_180 0 115 (dk_at dksX1_counts_4 20 rfl rfl)
theorem dX1_counts_117 : decode cX1_counts 117 = .ok (.iconst 4, 1) := dk_7 (dk_at dksX1_counts_4 23 rfl rfl)
theorem dX1_counts_118 : decode cX1_counts 118 = .ok (.aload_n 0, 1) := dk_42 (dk_at dksX1_counts_5 0 rfl rfl)
theorem dX1_counts_119 : decode cX1_counts 119 = .ok (.getfield 81, 3) := dk_180 0 81 (dk_at dksX1_counts_5 1 rfl rfl)
theorem dX1_counts_122 : decode cX1_counts 122 = .ok (.getfield 220, 3) := dk_180 0 220 (dk_at dksX1_counts_5 4 rfl rfl)
theorem dX1_counts_125 : decode cX1_counts 125 = .ok (.aload_n 3, 1) := dk_45 (dk_at dksX1_counts_5 7 rfl rfl)
theorem dX1_counts_126 : decode cX1_counts 126 = .ok (.getfield 201, 3) := dk_180 0 201 (dk_at dksX1_counts_5 8 rfl rfl)
theorem dX1_counts_129 : decode cX1_counts 129 = .ok (.iload 4, 2) := dk_21 4 (dk_at dksX1_counts_5 11 rfl rfl)
theorem dX1_counts_131 : decode cX1_counts 131 = .ok (.aaload, 1) := dk_50 (dk_at dksX1_counts_5 13 rfl rfl)
theorem dX1_counts_132 : decode cX1_counts 132 = .ok (.iload 6, 2) := dk_21 6 (dk_at dksX1_counts_5 14 rfl rfl)
theorem dX1_counts_134 : decode cX1_counts 134 = .ok (.iaload, 1) := dk_46 (dk_at dksX1_counts_5 16 rfl rfl)
theorem dX1_counts_135 : decode cX1_counts 135 = .ok (.iaload, 1) := dk_46 (dk_at dksX1_counts_5 17 rfl rfl)
theorem dX1_counts_136 : decode cX1_counts 136 = .ok (.imul, 1) := dk_104 (dk_at dksX1_counts_5 18 rfl rfl)
theorem dX1_counts_137 : decode cX1_counts 137 = .ok (.iload 5, 2) := dk_21 5 (dk_at dksX1_counts_5 19 rfl rfl)
theorem dX1_counts_139 : decode cX1_counts 139 = .ok (.iconst 1, 1) := dk_4 (dk_at dksX1_counts_5 21 rfl rfl)
theorem dX1_counts_140 : decode cX1_counts 140 = .ok (.if_icmp .ne 7, 3) := dk_160 0 7 (dk_at dksX1_counts_6 0 rfl rfl)
theorem dX1_counts_143 : decode cX1_counts 143 = .ok (.iconst 2, 1) := dk_5 (dk_at dksX1_counts_6 3 rfl rfl)
theorem dX1_counts_144 : decode cX1_counts 144 = .ok (.goto 26, 3) := dk_167 0 26 (dk_at dksX1_counts_6 4 rfl rfl)
theorem dX1_counts_147 : decode cX1_counts 147 = .ok (.iload 6, 2) := dk_21 6 (dk_at dksX1_counts_6 7 rfl rfl)
theorem dX1_counts_149 : decode cX1_counts 149 = .ok (.ifCond .ne 7, 3) := dk_154 0 7 (dk_at dksX1_counts_6 9 rfl rfl)
theorem dX1_counts_152 : decode cX1_counts 152 = .ok (.iconst 0, 1) := dk_3 (dk_at dksX1_counts_6 12 rfl rfl)
theorem dX1_counts_153 : decode cX1_counts 153 = .ok (.goto 17, 3) := dk_167 0 17 (dk_at dksX1_counts_6 13 rfl rfl)
theorem dX1_counts_156 : decode cX1_counts 156 = .ok (.iload 6, 2) := dk_21 6 (dk_at dksX1_counts_6 16 rfl rfl)
theorem dX1_counts_158 : decode cX1_counts 158 = .ok (.iload 5, 2) := dk_21 5 (dk_at dksX1_counts_6 18 rfl rfl)
theorem dX1_counts_160 : decode cX1_counts 160 = .ok (.iconst 1, 1) := dk_4 (dk_at dksX1_counts_6 20 rfl rfl)
theorem dX1_counts_161 : decode cX1_counts 161 = .ok (.isub, 1) := dk_100 (dk_at dksX1_counts_6 21 rfl rfl)
theorem dX1_counts_162 : decode cX1_counts 162 = .ok (.if_icmp .ne 7, 3) := dk_160 0 7 (dk_at dksX1_counts_7 0 rfl rfl)
theorem dX1_counts_165 : decode cX1_counts 165 = .ok (.iconst 1, 1) := dk_4 (dk_at dksX1_counts_7 3 rfl rfl)
theorem dX1_counts_166 : decode cX1_counts 166 = .ok (.goto 4, 3) := dk_167 0 4 (dk_at dksX1_counts_7 4 rfl rfl)
theorem dX1_counts_169 : decode cX1_counts 169 = .ok (.iconst 3, 1) := dk_6 (dk_at dksX1_counts_7 7 rfl rfl)
theorem dX1_counts_170 : decode cX1_counts 170 = .ok (.iadd, 1) := dk_96 (dk_at dksX1_counts_7 8 rfl rfl)
theorem dX1_counts_171 : decode cX1_counts 171 = .ok (.dup2, 1) := dk_92 (dk_at dksX1_counts_7 9 rfl rfl)
theorem dX1_counts_172 : decode cX1_counts 172 = .ok (.iaload, 1) := dk_46 (dk_at dksX1_counts_7 10 rfl rfl)
theorem dX1_counts_173 : decode cX1_counts 173 = .ok (.iconst 1, 1) := dk_4 (dk_at dksX1_counts_7 11 rfl rfl)
theorem dX1_counts_174 : decode cX1_counts 174 = .ok (.iadd, 1) := dk_96 (dk_at dksX1_counts_7 12 rfl rfl)
theorem dX1_counts_175 : decode cX1_counts 175 = .ok (.iastore, 1) := dk_79 (dk_at dksX1_counts_7 13 rfl rfl)
theorem dX1_counts_176 : decode cX1_counts 176 = .ok (.iinc 6 1, 3) := dk_132 6 1 (dk_at dksX1_counts_7 14 rfl rfl)
theorem dX1_counts_179 : decode cX1_counts 179 = .ok (.goto (-87), 3) := dk_167 255 169 (dk_at dksX1_counts_7 17 rfl rfl)
theorem dX1_counts_182 : decode cX1_counts 182 = .ok (.iinc 4 1, 3) := dk_132 4 1 (dk_at dksX1_counts_7 20 rfl rfl)
theorem dX1_counts_185 : decode cX1_counts 185 = .ok (.goto (-124), 3) := dk_167 255 132 (dk_at dksX1_counts_8 0 rfl rfl)
theorem dX1_counts_188 : decode cX1_counts 188 = .ok (.iinc 2 1, 3) := dk_132 2 1 (dk_at dksX1_counts_8 3 rfl rfl)
theorem dX1_counts_191 : decode cX1_counts 191 = .ok (.goto (-156), 3) := dk_167 255 100 (dk_at dksX1_counts_8 6 rfl rfl)
theorem dX1_counts_194 : decode cX1_counts 194 = .ok (.return_, 1) := dk_177 (dk_at dksX1_counts_8 9 rfl rfl)
def dkwX1_inAll_1 : List UInt8 := [27, 104, 5, 96, 46, 96, 42, 180, 0, 115, 7, 27, 104, 6, 96, 46, 96, 172]
abbrev dktX1_inAll_1 : List UInt8 := dkwX1_inAll_1 ++ []
def dkwX1_inAll_0 : List UInt8 := [42, 180, 0, 115, 7, 27, 104, 46, 42, 180, 0, 115, 7, 27, 104, 4, 96, 46, 96, 42, 180, 0, 115, 7]
abbrev dktX1_inAll_0 : List UInt8 := dkwX1_inAll_0 ++ dktX1_inAll_1
theorem dksX1_inAll_0 : cX1_inAll.data.toList.drop 0 = dktX1_inAll_0 := by decide +kernel
theorem dksX1_inAll_1 : cX1_inAll.data.toList.drop 24 = dktX1_inAll_1 := dk_seg dksX1_inAll_0 24 rfl rfl
theorem dX1_inAll_0 : decode cX1_inAll 0 = .ok (.aload_n 0, 1) := dk_42 (dk_at dksX1_inAll_0 0 rfl rfl)
theorem dX1_inAll_1 : decode cX1_inAll 1 = .ok (.getfield 115, 3) := dk_180 0 115 (dk_at dksX1_inAll_0 1 rfl rfl)
theorem dX1_inAll_4 : decode cX1_inAll 4 = .ok (.iconst 4, 1) := dk_7 (dk_at dksX1_inAll_0 4 rfl rfl)
theorem dX1_inAll_5 : decode cX1_inAll 5 = .ok (.iload_n 1, 1) := dk_27 (dk_at dksX1_inAll_0 5 rfl rfl)
theorem dX1_inAll_6 : decode cX1_inAll 6 = .ok (.imul, 1) := dk_104 (dk_at dksX1_inAll_0 6 rfl rfl)
theorem dX1_inAll_7 : decode cX1_inAll 7 = .ok (.iaload, 1) := dk_46 (dk_at dksX1_inAll_0 7 rfl rfl)
theorem dX1_inAll_8 : decode cX1_inAll 8 = .ok (.aload_n 0, 1) := dk_42 (dk_at dksX1_inAll_0 8 rfl rfl)
theorem dX1_inAll_9 : decode cX1_inAll 9 = .ok (.getfield 115, 3) := dk_180 0 115 (dk_at dksX1_inAll_0 9 rfl rfl)
theorem dX1_inAll_12 : decode cX1_inAll 12 = .ok (.iconst 4, 1) := dk_7 (dk_at dksX1_inAll_0 12 rfl rfl)
theorem dX1_inAll_13 : decode cX1_inAll 13 = .ok (.iload_n 1, 1) := dk_27 (dk_at dksX1_inAll_0 13 rfl rfl)
theorem dX1_inAll_14 : decode cX1_inAll 14 = .ok (.imul, 1) := dk_104 (dk_at dksX1_inAll_0 14 rfl rfl)
theorem dX1_inAll_15 : decode cX1_inAll 15 = .ok (.iconst 1, 1) := dk_4 (dk_at dksX1_inAll_0 15 rfl rfl)
theorem dX1_inAll_16 : decode cX1_inAll 16 = .ok (.iadd, 1) := dk_96 (dk_at dksX1_inAll_0 16 rfl rfl)
theorem dX1_inAll_17 : decode cX1_inAll 17 = .ok (.iaload, 1) := dk_46 (dk_at dksX1_inAll_0 17 rfl rfl)
theorem dX1_inAll_18 : decode cX1_inAll 18 = .ok (.iadd, 1) := dk_96 (dk_at dksX1_inAll_0 18 rfl rfl)
theorem dX1_inAll_19 : decode cX1_inAll 19 = .ok (.aload_n 0, 1) := dk_42 (dk_at dksX1_inAll_0 19 rfl rfl)
theorem dX1_inAll_20 : decode cX1_inAll 20 = .ok (.getfield 115, 3) := dk_180 0 115 (dk_at dksX1_inAll_0 20 rfl rfl)
theorem dX1_inAll_23 : decode cX1_inAll 23 = .ok (.iconst 4, 1) := dk_7 (dk_at dksX1_inAll_0 23 rfl rfl)
theorem dX1_inAll_24 : decode cX1_inAll 24 = .ok (.iload_n 1, 1) := dk_27 (dk_at dksX1_inAll_1 0 rfl rfl)
theorem dX1_inAll_25 : decode cX1_inAll 25 = .ok (.imul, 1) := dk_104 (dk_at dksX1_inAll_1 1 rfl rfl)
theorem dX1_inAll_26 : decode cX1_inAll 26 = .ok (.iconst 2, 1) := dk_5 (dk_at dksX1_inAll_1 2 rfl rfl)
theorem dX1_inAll_27 : decode cX1_inAll 27 = .ok (.iadd, 1) := dk_96 (dk_at dksX1_inAll_1 3 rfl rfl)
theorem dX1_inAll_28 : decode cX1_inAll 28 = .ok (.iaload, 1) := dk_46 (dk_at dksX1_inAll_1 4 rfl rfl)
theorem dX1_inAll_29 : decode cX1_inAll 29 = .ok (.iadd, 1) := dk_96 (dk_at dksX1_inAll_1 5 rfl rfl)
theorem dX1_inAll_30 : decode cX1_inAll 30 = .ok (.aload_n 0, 1) := dk_42 (dk_at dksX1_inAll_1 6 rfl rfl)
theorem dX1_inAll_31 : decode cX1_inAll 31 = .ok (.getfield 115, 3) := dk_180 0 115 (dk_at dksX1_inAll_1 7 rfl rfl)
theorem dX1_inAll_34 : decode cX1_inAll 34 = .ok (.iconst 4, 1) := dk_7 (dk_at dksX1_inAll_1 10 rfl rfl)
theorem dX1_inAll_35 : decode cX1_inAll 35 = .ok (.iload_n 1, 1) := dk_27 (dk_at dksX1_inAll_1 11 rfl rfl)
theorem dX1_inAll_36 : decode cX1_inAll 36 = .ok (.imul, 1) := dk_104 (dk_at dksX1_inAll_1 12 rfl rfl)
theorem dX1_inAll_37 : decode cX1_inAll 37 = .ok (.iconst 3, 1) := dk_6 (dk_at dksX1_inAll_1 13 rfl rfl)
theorem dX1_inAll_38 : decode cX1_inAll 38 = .ok (.iadd, 1) := dk_96 (dk_at dksX1_inAll_1 14 rfl rfl)
theorem dX1_inAll_39 : decode cX1_inAll 39 = .ok (.iaload, 1) := dk_46 (dk_at dksX1_inAll_1 15 rfl rfl)
theorem dX1_inAll_40 : decode cX1_inAll 40 = .ok (.iadd, 1) := dk_96 (dk_at dksX1_inAll_1 16 rfl rfl)
theorem dX1_inAll_41 : decode cX1_inAll 41 = .ok (.ireturn, 1) := dk_172 (dk_at dksX1_inAll_1 17 rfl rfl)
def dkwX1_rank_4 : List UInt8 := [167, 255, 183, 2, 172]
abbrev dktX1_rank_4 : List UInt8 := dkwX1_rank_4 ++ []
def dkwX1_rank_3 : List UInt8 := [167, 255, 217, 42, 29, 182, 1, 157, 158, 0, 11, 21, 4, 28, 160, 0, 5, 29, 172, 132, 3, 1]
abbrev dktX1_rank_3 : List UInt8 := dkwX1_rank_3 ++ dktX1_rank_4
def dkwX1_rank_2 : List UInt8 := [158, 0, 17, 42, 21, 5, 29, 182, 1, 160, 153, 0, 7, 4, 167, 0, 4, 3, 96, 54, 4, 132, 5, 1]
abbrev dktX1_rank_2 : List UInt8 := dkwX1_rank_2 ++ dktX1_rank_3
def dkwX1_rank_1 : List UInt8 := [162, 0, 73, 3, 54, 4, 3, 54, 5, 21, 5, 16, 40, 162, 0, 38, 21, 4, 42, 21, 5, 182, 1, 157]
abbrev dktX1_rank_1 : List UInt8 := dkwX1_rank_1 ++ dktX1_rank_2
def dkwX1_rank_0 : List UInt8 := [42, 27, 182, 0, 213, 153, 0, 7, 28, 156, 0, 5, 2, 172, 42, 27, 182, 1, 155, 3, 62, 29, 16, 40]
abbrev dktX1_rank_0 : List UInt8 := dkwX1_rank_0 ++ dktX1_rank_1
theorem dksX1_rank_0 : cX1_rank.data.toList.drop 0 = dktX1_rank_0 := by decide +kernel
theorem dksX1_rank_1 : cX1_rank.data.toList.drop 24 = dktX1_rank_1 := dk_seg dksX1_rank_0 24 rfl rfl
theorem dksX1_rank_2 : cX1_rank.data.toList.drop 48 = dktX1_rank_2 := dk_seg dksX1_rank_1 24 rfl rfl
theorem dksX1_rank_3 : cX1_rank.data.toList.drop 72 = dktX1_rank_3 := dk_seg dksX1_rank_2 24 rfl rfl
theorem dksX1_rank_4 : cX1_rank.data.toList.drop 94 = dktX1_rank_4 := dk_seg dksX1_rank_3 22 rfl rfl
theorem dX1_rank_0 : decode cX1_rank 0 = .ok (.aload_n 0, 1) := dk_42 (dk_at dksX1_rank_0 0 rfl rfl)
theorem dX1_rank_1 : decode cX1_rank 1 = .ok (.iload_n 1, 1) := dk_27 (dk_at dksX1_rank_0 1 rfl rfl)
theorem dX1_rank_2 : decode cX1_rank 2 = .ok (.invokevirtual 213, 3) := dk_182 0 213 (dk_at dksX1_rank_0 2 rfl rfl)
theorem dX1_rank_5 : decode cX1_rank 5 = .ok (.ifCond .eq 7, 3) := dk_153 0 7 (dk_at dksX1_rank_0 5 rfl rfl)
theorem dX1_rank_8 : decode cX1_rank 8 = .ok (.iload_n 2, 1) := dk_28 (dk_at dksX1_rank_0 8 rfl rfl)
theorem dX1_rank_9 : decode cX1_rank 9 = .ok (.ifCond .ge 5, 3) := dk_156 0 5 (dk_at dksX1_rank_0 9 rfl rfl)
theorem dX1_rank_12 : decode cX1_rank 12 = .ok (.iconst (-1), 1) := dk_2 (dk_at dksX1_rank_0 12 rfl rfl)
theorem dX1_rank_13 : decode cX1_rank 13 = .ok (.ireturn, 1) := dk_172 (dk_at dksX1_rank_0 13 rfl rfl)
theorem dX1_rank_14 : decode cX1_rank 14 = .ok (.aload_n 0, 1) := dk_42 (dk_at dksX1_rank_0 14 rfl rfl)
theorem dX1_rank_15 : decode cX1_rank 15 = .ok (.iload_n 1, 1) := dk_27 (dk_at dksX1_rank_0 15 rfl rfl)
theorem dX1_rank_16 : decode cX1_rank 16 = .ok (.invokevirtual 411, 3) := dk_182 1 155 (dk_at dksX1_rank_0 16 rfl rfl)
theorem dX1_rank_19 : decode cX1_rank 19 = .ok (.iconst 0, 1) := dk_3 (dk_at dksX1_rank_0 19 rfl rfl)
theorem dX1_rank_20 : decode cX1_rank 20 = .ok (.istore_n 3, 1) := dk_62 (dk_at dksX1_rank_0 20 rfl rfl)
theorem dX1_rank_21 : decode cX1_rank 21 = .ok (.iload_n 3, 1) := dk_29 (dk_at dksX1_rank_0 21 rfl rfl)
theorem dX1_rank_22 : decode cX1_rank 22 = .ok (.bipush 40, 2) := dk_16 40 (dk_at dksX1_rank_0 22 rfl rfl)
theorem dX1_rank_24 : decode cX1_rank 24 = .ok (.if_icmp .ge 73, 3) := dk_162 0 73 (dk_at dksX1_rank_1 0 rfl rfl)
theorem dX1_rank_27 : decode cX1_rank 27 = .ok (.iconst 0, 1) := dk_3 (dk_at dksX1_rank_1 3 rfl rfl)
theorem dX1_rank_28 : decode cX1_rank 28 = .ok (.istore 4, 2) := dk_54 4 (dk_at dksX1_rank_1 4 rfl rfl)
theorem dX1_rank_30 : decode cX1_rank 30 = .ok (.iconst 0, 1) := dk_3 (dk_at dksX1_rank_1 6 rfl rfl)
theorem dX1_rank_31 : decode cX1_rank 31 = .ok (.istore 5, 2) := dk_54 5 (dk_at dksX1_rank_1 7 rfl rfl)
theorem dX1_rank_33 : decode cX1_rank 33 = .ok (.iload 5, 2) := dk_21 5 (dk_at dksX1_rank_1 9 rfl rfl)
theorem dX1_rank_35 : decode cX1_rank 35 = .ok (.bipush 40, 2) := dk_16 40 (dk_at dksX1_rank_1 11 rfl rfl)
theorem dX1_rank_37 : decode cX1_rank 37 = .ok (.if_icmp .ge 38, 3) := dk_162 0 38 (dk_at dksX1_rank_1 13 rfl rfl)
theorem dX1_rank_40 : decode cX1_rank 40 = .ok (.iload 4, 2) := dk_21 4 (dk_at dksX1_rank_1 16 rfl rfl)
theorem dX1_rank_42 : decode cX1_rank 42 = .ok (.aload_n 0, 1) := dk_42 (dk_at dksX1_rank_1 18 rfl rfl)
theorem dX1_rank_43 : decode cX1_rank 43 = .ok (.iload 5, 2) := dk_21 5 (dk_at dksX1_rank_1 19 rfl rfl)
theorem dX1_rank_45 : decode cX1_rank 45 = .ok (.invokevirtual 413, 3) := dk_182 1 157 (dk_at dksX1_rank_1 21 rfl rfl)
theorem dX1_rank_48 : decode cX1_rank 48 = .ok (.ifCond .le 17, 3) := dk_158 0 17 (dk_at dksX1_rank_2 0 rfl rfl)
theorem dX1_rank_51 : decode cX1_rank 51 = .ok (.aload_n 0, 1) := dk_42 (dk_at dksX1_rank_2 3 rfl rfl)
theorem dX1_rank_52 : decode cX1_rank 52 = .ok (.iload 5, 2) := dk_21 5 (dk_at dksX1_rank_2 4 rfl rfl)
theorem dX1_rank_54 : decode cX1_rank 54 = .ok (.iload_n 3, 1) := dk_29 (dk_at dksX1_rank_2 6 rfl rfl)
theorem dX1_rank_55 : decode cX1_rank 55 = .ok (.invokevirtual 416, 3) := dk_182 1 160 (dk_at dksX1_rank_2 7 rfl rfl)
theorem dX1_rank_58 : decode cX1_rank 58 = .ok (.ifCond .eq 7, 3) := dk_153 0 7 (dk_at dksX1_rank_2 10 rfl rfl)
theorem dX1_rank_61 : decode cX1_rank 61 = .ok (.iconst 1, 1) := dk_4 (dk_at dksX1_rank_2 13 rfl rfl)
theorem dX1_rank_62 : decode cX1_rank 62 = .ok (.goto 4, 3) := dk_167 0 4 (dk_at dksX1_rank_2 14 rfl rfl)
theorem dX1_rank_65 : decode cX1_rank 65 = .ok (.iconst 0, 1) := dk_3 (dk_at dksX1_rank_2 17 rfl rfl)
theorem dX1_rank_66 : decode cX1_rank 66 = .ok (.iadd, 1) := dk_96 (dk_at dksX1_rank_2 18 rfl rfl)
theorem dX1_rank_67 : decode cX1_rank 67 = .ok (.istore 4, 2) := dk_54 4 (dk_at dksX1_rank_2 19 rfl rfl)
theorem dX1_rank_69 : decode cX1_rank 69 = .ok (.iinc 5 1, 3) := dk_132 5 1 (dk_at dksX1_rank_2 21 rfl rfl)
theorem dX1_rank_72 : decode cX1_rank 72 = .ok (.goto (-39), 3) := dk_167 255 217 (dk_at dksX1_rank_3 0 rfl rfl)
theorem dX1_rank_75 : decode cX1_rank 75 = .ok (.aload_n 0, 1) := dk_42 (dk_at dksX1_rank_3 3 rfl rfl)
theorem dX1_rank_76 : decode cX1_rank 76 = .ok (.iload_n 3, 1) := dk_29 (dk_at dksX1_rank_3 4 rfl rfl)
theorem dX1_rank_77 : decode cX1_rank 77 = .ok (.invokevirtual 413, 3) := dk_182 1 157 (dk_at dksX1_rank_3 5 rfl rfl)
theorem dX1_rank_80 : decode cX1_rank 80 = .ok (.ifCond .le 11, 3) := dk_158 0 11 (dk_at dksX1_rank_3 8 rfl rfl)
theorem dX1_rank_83 : decode cX1_rank 83 = .ok (.iload 4, 2) := dk_21 4 (dk_at dksX1_rank_3 11 rfl rfl)
theorem dX1_rank_85 : decode cX1_rank 85 = .ok (.iload_n 2, 1) := dk_28 (dk_at dksX1_rank_3 13 rfl rfl)
theorem dX1_rank_86 : decode cX1_rank 86 = .ok (.if_icmp .ne 5, 3) := dk_160 0 5 (dk_at dksX1_rank_3 14 rfl rfl)
theorem dX1_rank_89 : decode cX1_rank 89 = .ok (.iload_n 3, 1) := dk_29 (dk_at dksX1_rank_3 17 rfl rfl)
theorem dX1_rank_90 : decode cX1_rank 90 = .ok (.ireturn, 1) := dk_172 (dk_at dksX1_rank_3 18 rfl rfl)
theorem dX1_rank_91 : decode cX1_rank 91 = .ok (.iinc 3 1, 3) := dk_132 3 1 (dk_at dksX1_rank_3 19 rfl rfl)
theorem dX1_rank_94 : decode cX1_rank 94 = .ok (.goto (-73), 3) := dk_167 255 183 (dk_at dksX1_rank_4 0 rfl rfl)
theorem dX1_rank_97 : decode cX1_rank 97 = .ok (.iconst (-1), 1) := dk_2 (dk_at dksX1_rank_4 3 rfl rfl)
theorem dX1_rank_98 : decode cX1_rank 98 = .ok (.ireturn, 1) := dk_172 (dk_at dksX1_rank_4 4 rfl rfl)
def dkwX1_isAhead_2 : List UInt8 := [167, 0, 13, 27, 28, 162, 0, 7, 4, 167, 0, 4, 3, 172]
abbrev dktX1_isAhead_2 : List UInt8 := dkwX1_isAhead_2 ++ []
def dkwX1_isAhead_1 : List UInt8 := [27, 182, 1, 157, 104, 54, 4, 29, 21, 4, 159, 0, 17, 29, 21, 4, 164, 0, 7, 4, 167, 0, 17, 3]
abbrev dktX1_isAhead_1 : List UInt8 := dkwX1_isAhead_1 ++ dktX1_isAhead_2
def dkwX1_isAhead_0 : List UInt8 := [42, 180, 0, 115, 7, 27, 104, 46, 42, 28, 182, 1, 157, 104, 62, 42, 180, 0, 115, 7, 28, 104, 46, 42]
abbrev dktX1_isAhead_0 : List UInt8 := dkwX1_isAhead_0 ++ dktX1_isAhead_1
theorem dksX1_isAhead_0 : cX1_isAhead.data.toList.drop 0 = dktX1_isAhead_0 := by decide +kernel
theorem dksX1_isAhead_1 : cX1_isAhead.data.toList.drop 24 = dktX1_isAhead_1 := dk_seg dksX1_isAhead_0 24 rfl rfl
theorem dksX1_isAhead_2 : cX1_isAhead.data.toList.drop 48 = dktX1_isAhead_2 := dk_seg dksX1_isAhead_1 24 rfl rfl
theorem dX1_isAhead_0 : decode cX1_isAhead 0 = .ok (.aload_n 0, 1) := dk_42 (dk_at dksX1_isAhead_0 0 rfl rfl)
theorem dX1_isAhead_1 : decode cX1_isAhead 1 = .ok (.getfield 115, 3) := dk_180 0 115 (dk_at dksX1_isAhead_0 1 rfl rfl)
theorem dX1_isAhead_4 : decode cX1_isAhead 4 = .ok (.iconst 4, 1) := dk_7 (dk_at dksX1_isAhead_0 4 rfl rfl)
theorem dX1_isAhead_5 : decode cX1_isAhead 5 = .ok (.iload_n 1, 1) := dk_27 (dk_at dksX1_isAhead_0 5 rfl rfl)
theorem dX1_isAhead_6 : decode cX1_isAhead 6 = .ok (.imul, 1) := dk_104 (dk_at dksX1_isAhead_0 6 rfl rfl)
theorem dX1_isAhead_7 : decode cX1_isAhead 7 = .ok (.iaload, 1) := dk_46 (dk_at dksX1_isAhead_0 7 rfl rfl)
theorem dX1_isAhead_8 : decode cX1_isAhead 8 = .ok (.aload_n 0, 1) := dk_42 (dk_at dksX1_isAhead_0 8 rfl rfl)
theorem dX1_isAhead_9 : decode cX1_isAhead 9 = .ok (.iload_n 2, 1) := dk_28 (dk_at dksX1_isAhead_0 9 rfl rfl)
theorem dX1_isAhead_10 : decode cX1_isAhead 10 = .ok (.invokevirtual 413, 3) := dk_182 1 157 (dk_at dksX1_isAhead_0 10 rfl rfl)
theorem dX1_isAhead_13 : decode cX1_isAhead 13 = .ok (.imul, 1) := dk_104 (dk_at dksX1_isAhead_0 13 rfl rfl)
theorem dX1_isAhead_14 : decode cX1_isAhead 14 = .ok (.istore_n 3, 1) := dk_62 (dk_at dksX1_isAhead_0 14 rfl rfl)
theorem dX1_isAhead_15 : decode cX1_isAhead 15 = .ok (.aload_n 0, 1) := dk_42 (dk_at dksX1_isAhead_0 15 rfl rfl)
theorem dX1_isAhead_16 : decode cX1_isAhead 16 = .ok (.getfield 115, 3) := dk_180 0 115 (dk_at dksX1_isAhead_0 16 rfl rfl)
theorem dX1_isAhead_19 : decode cX1_isAhead 19 = .ok (.iconst 4, 1) := dk_7 (dk_at dksX1_isAhead_0 19 rfl rfl)
theorem dX1_isAhead_20 : decode cX1_isAhead 20 = .ok (.iload_n 2, 1) := dk_28 (dk_at dksX1_isAhead_0 20 rfl rfl)
theorem dX1_isAhead_21 : decode cX1_isAhead 21 = .ok (.imul, 1) := dk_104 (dk_at dksX1_isAhead_0 21 rfl rfl)
theorem dX1_isAhead_22 : decode cX1_isAhead 22 = .ok (.iaload, 1) := dk_46 (dk_at dksX1_isAhead_0 22 rfl rfl)
theorem dX1_isAhead_23 : decode cX1_isAhead 23 = .ok (.aload_n 0, 1) := dk_42 (dk_at dksX1_isAhead_0 23 rfl rfl)
theorem dX1_isAhead_24 : decode cX1_isAhead 24 = .ok (.iload_n 1, 1) := dk_27 (dk_at dksX1_isAhead_1 0 rfl rfl)
theorem dX1_isAhead_25 : decode cX1_isAhead 25 = .ok (.invokevirtual 413, 3) := dk_182 1 157 (dk_at dksX1_isAhead_1 1 rfl rfl)
theorem dX1_isAhead_28 : decode cX1_isAhead 28 = .ok (.imul, 1) := dk_104 (dk_at dksX1_isAhead_1 4 rfl rfl)
theorem dX1_isAhead_29 : decode cX1_isAhead 29 = .ok (.istore 4, 2) := dk_54 4 (dk_at dksX1_isAhead_1 5 rfl rfl)
theorem dX1_isAhead_31 : decode cX1_isAhead 31 = .ok (.iload_n 3, 1) := dk_29 (dk_at dksX1_isAhead_1 7 rfl rfl)
theorem dX1_isAhead_32 : decode cX1_isAhead 32 = .ok (.iload 4, 2) := dk_21 4 (dk_at dksX1_isAhead_1 8 rfl rfl)
theorem dX1_isAhead_34 : decode cX1_isAhead 34 = .ok (.if_icmp .eq 17, 3) := dk_159 0 17 (dk_at dksX1_isAhead_1 10 rfl rfl)
theorem dX1_isAhead_37 : decode cX1_isAhead 37 = .ok (.iload_n 3, 1) := dk_29 (dk_at dksX1_isAhead_1 13 rfl rfl)
theorem dX1_isAhead_38 : decode cX1_isAhead 38 = .ok (.iload 4, 2) := dk_21 4 (dk_at dksX1_isAhead_1 14 rfl rfl)
theorem dX1_isAhead_40 : decode cX1_isAhead 40 = .ok (.if_icmp .le 7, 3) := dk_164 0 7 (dk_at dksX1_isAhead_1 16 rfl rfl)
theorem dX1_isAhead_43 : decode cX1_isAhead 43 = .ok (.iconst 1, 1) := dk_4 (dk_at dksX1_isAhead_1 19 rfl rfl)
theorem dX1_isAhead_44 : decode cX1_isAhead 44 = .ok (.goto 17, 3) := dk_167 0 17 (dk_at dksX1_isAhead_1 20 rfl rfl)
theorem dX1_isAhead_47 : decode cX1_isAhead 47 = .ok (.iconst 0, 1) := dk_3 (dk_at dksX1_isAhead_1 23 rfl rfl)
theorem dX1_isAhead_48 : decode cX1_isAhead 48 = .ok (.goto 13, 3) := dk_167 0 13 (dk_at dksX1_isAhead_2 0 rfl rfl)
theorem dX1_isAhead_51 : decode cX1_isAhead 51 = .ok (.iload_n 1, 1) := dk_27 (dk_at dksX1_isAhead_2 3 rfl rfl)
theorem dX1_isAhead_52 : decode cX1_isAhead 52 = .ok (.iload_n 2, 1) := dk_28 (dk_at dksX1_isAhead_2 4 rfl rfl)
theorem dX1_isAhead_53 : decode cX1_isAhead 53 = .ok (.if_icmp .ge 7, 3) := dk_162 0 7 (dk_at dksX1_isAhead_2 5 rfl rfl)
theorem dX1_isAhead_56 : decode cX1_isAhead 56 = .ok (.iconst 1, 1) := dk_4 (dk_at dksX1_isAhead_2 8 rfl rfl)
theorem dX1_isAhead_57 : decode cX1_isAhead 57 = .ok (.goto 4, 3) := dk_167 0 4 (dk_at dksX1_isAhead_2 9 rfl rfl)
theorem dX1_isAhead_60 : decode cX1_isAhead 60 = .ok (.iconst 0, 1) := dk_3 (dk_at dksX1_isAhead_2 12 rfl rfl)
theorem dX1_isAhead_61 : decode cX1_isAhead 61 = .ok (.ireturn, 1) := dk_172 (dk_at dksX1_isAhead_2 13 rfl rfl)
def dkwX1_count_8 : List UInt8 := [3, 96, 61, 132, 3, 1, 167, 255, 213, 28, 172, 2, 172]
abbrev dktX1_count_8 : List UInt8 := dkwX1_count_8 ++ []
def dkwX1_count_7 : List UInt8 := [180, 0, 36, 29, 182, 0, 169, 192, 1, 42, 42, 180, 0, 118, 182, 1, 63, 153, 0, 7, 4, 167, 0, 4]
abbrev dktX1_count_7 : List UInt8 := dkwX1_count_7 ++ dktX1_count_8
def dkwX1_count_6 : List UInt8 := [132, 3, 1, 167, 255, 213, 28, 172, 3, 62, 29, 42, 180, 0, 36, 182, 0, 121, 162, 0, 38, 28, 42]
abbrev dktX1_count_6 : List UInt8 := dkwX1_count_6 ++ dktX1_count_7
def dkwX1_count_5 : List UInt8 := [29, 182, 0, 169, 192, 0, 135, 42, 180, 0, 118, 182, 1, 69, 153, 0, 7, 4, 167, 0, 4, 3, 96, 61]
abbrev dktX1_count_5 : List UInt8 := dkwX1_count_5 ++ dktX1_count_6
def dkwX1_count_4 : List UInt8 := [172, 42, 180, 1, 110, 172, 3, 62, 29, 42, 180, 0, 26, 182, 0, 121, 162, 0, 38, 28, 42, 180, 0, 26]
abbrev dktX1_count_4 : List UInt8 := dkwX1_count_4 ++ dktX1_count_5
def dkwX1_count_3 : List UInt8 := [180, 0, 33, 182, 0, 121, 172, 42, 180, 0, 36, 182, 0, 121, 172, 42, 180, 0, 186, 172, 42, 180, 0, 126]
abbrev dktX1_count_3 : List UInt8 := dkwX1_count_3 ++ dktX1_count_4
def dkwX1_count_2 : List UInt8 := [42, 180, 0, 118, 172, 42, 180, 0, 26, 182, 0, 121, 172, 42, 180, 0, 30, 182, 0, 121, 172, 42]
abbrev dktX1_count_2 : List UInt8 := dkwX1_count_2 ++ dktX1_count_3
def dkwX1_count_1 : List UInt8 := [170, 0, 0, 0, 205, 0, 0, 0, 0, 0, 0, 0, 9, 0, 0, 0, 53, 0, 0, 0, 58, 0, 0, 0, 66, 0, 0, 0, 74, 0, 0, 0, 82, 0, 0, 0, 90, 0, 0, 0, 95, 0, 0, 0, 100, 0, 0, 0, 105, 0, 0, 0, 155]
abbrev dktX1_count_1 : List UInt8 := dkwX1_count_1 ++ dktX1_count_2
def dkwX1_count_0 : List UInt8 := [3, 61, 27]
abbrev dktX1_count_0 : List UInt8 := dkwX1_count_0 ++ dktX1_count_1
theorem dksX1_count_0 : cX1_count.data.toList.drop 0 = dktX1_count_0 := by decide +kernel
theorem dksX1_count_1 : cX1_count.data.toList.drop 3 = dktX1_count_1 := dk_seg dksX1_count_0 3 rfl rfl
theorem dksX1_count_2 : cX1_count.data.toList.drop 56 = dktX1_count_2 := dk_seg dksX1_count_1 53 rfl rfl
theorem dksX1_count_3 : cX1_count.data.toList.drop 78 = dktX1_count_3 := dk_seg dksX1_count_2 22 rfl rfl
theorem dksX1_count_4 : cX1_count.data.toList.drop 102 = dktX1_count_4 := dk_seg dksX1_count_3 24 rfl rfl
theorem dksX1_count_5 : cX1_count.data.toList.drop 126 = dktX1_count_5 := dk_seg dksX1_count_4 24 rfl rfl
theorem dksX1_count_6 : cX1_count.data.toList.drop 150 = dktX1_count_6 := dk_seg dksX1_count_5 24 rfl rfl
theorem dksX1_count_7 : cX1_count.data.toList.drop 173 = dktX1_count_7 := dk_seg dksX1_count_6 23 rfl rfl
theorem dksX1_count_8 : cX1_count.data.toList.drop 197 = dktX1_count_8 := dk_seg dksX1_count_7 24 rfl rfl
theorem dX1_count_0 : decode cX1_count 0 = .ok (.iconst 0, 1) := dk_3 (dk_at dksX1_count_0 0 rfl rfl)
theorem dX1_count_1 : decode cX1_count 1 = .ok (.istore_n 2, 1) := dk_61 (dk_at dksX1_count_0 1 rfl rfl)
theorem dX1_count_2 : decode cX1_count 2 = .ok (.iload_n 1, 1) := dk_27 (dk_at dksX1_count_0 2 rfl rfl)
theorem dX1_count_3 : decode cX1_count 3 = .ok (.tableswitch 205 0 9 #[53, 58, 66, 74, 82, 90, 95, 100, 105, 155], 53) := by decide +kernel
theorem dX1_count_56 : decode cX1_count 56 = .ok (.aload_n 0, 1) := dk_42 (dk_at dksX1_count_2 0 rfl rfl)
theorem dX1_count_57 : decode cX1_count 57 = .ok (.getfield 118, 3) := dk_180 0 118 (dk_at dksX1_count_2 1 rfl rfl)
theorem dX1_count_60 : decode cX1_count 60 = .ok (.ireturn, 1) := dk_172 (dk_at dksX1_count_2 4 rfl rfl)
theorem dX1_count_61 : decode cX1_count 61 = .ok (.aload_n 0, 1) := dk_42 (dk_at dksX1_count_2 5 rfl rfl)
theorem dX1_count_62 : decode cX1_count 62 = .ok (.getfield 26, 3) := dk_180 0 26 (dk_at dksX1_count_2 6 rfl rfl)
theorem dX1_count_65 : decode cX1_count 65 = .ok (.invokevirtual 121, 3) := dk_182 0 121 (dk_at dksX1_count_2 9 rfl rfl)
theorem dX1_count_68 : decode cX1_count 68 = .ok (.ireturn, 1) := dk_172 (dk_at dksX1_count_2 12 rfl rfl)
theorem dX1_count_69 : decode cX1_count 69 = .ok (.aload_n 0, 1) := dk_42 (dk_at dksX1_count_2 13 rfl rfl)
theorem dX1_count_70 : decode cX1_count 70 = .ok (.getfield 30, 3) := dk_180 0 30 (dk_at dksX1_count_2 14 rfl rfl)
theorem dX1_count_73 : decode cX1_count 73 = .ok (.invokevirtual 121, 3) := dk_182 0 121 (dk_at dksX1_count_2 17 rfl rfl)
theorem dX1_count_76 : decode cX1_count 76 = .ok (.ireturn, 1) := dk_172 (dk_at dksX1_count_2 20 rfl rfl)
theorem dX1_count_77 : decode cX1_count 77 = .ok (.aload_n 0, 1) := dk_42 (dk_at dksX1_count_2 21 rfl rfl)
theorem dX1_count_78 : decode cX1_count 78 = .ok (.getfield 33, 3) := dk_180 0 33 (dk_at dksX1_count_3 0 rfl rfl)
theorem dX1_count_81 : decode cX1_count 81 = .ok (.invokevirtual 121, 3) := dk_182 0 121 (dk_at dksX1_count_3 3 rfl rfl)
theorem dX1_count_84 : decode cX1_count 84 = .ok (.ireturn, 1) := dk_172 (dk_at dksX1_count_3 6 rfl rfl)
theorem dX1_count_85 : decode cX1_count 85 = .ok (.aload_n 0, 1) := dk_42 (dk_at dksX1_count_3 7 rfl rfl)
theorem dX1_count_86 : decode cX1_count 86 = .ok (.getfield 36, 3) := dk_180 0 36 (dk_at dksX1_count_3 8 rfl rfl)
theorem dX1_count_89 : decode cX1_count 89 = .ok (.invokevirtual 121, 3) := dk_182 0 121 (dk_at dksX1_count_3 11 rfl rfl)
theorem dX1_count_92 : decode cX1_count 92 = .ok (.ireturn, 1) := dk_172 (dk_at dksX1_count_3 14 rfl rfl)
theorem dX1_count_93 : decode cX1_count 93 = .ok (.aload_n 0, 1) := dk_42 (dk_at dksX1_count_3 15 rfl rfl)
theorem dX1_count_94 : decode cX1_count 94 = .ok (.getfield 186, 3) := dk_180 0 186 (dk_at dksX1_count_3 16 rfl rfl)
theorem dX1_count_97 : decode cX1_count 97 = .ok (.ireturn, 1) := dk_172 (dk_at dksX1_count_3 19 rfl rfl)
theorem dX1_count_98 : decode cX1_count 98 = .ok (.aload_n 0, 1) := dk_42 (dk_at dksX1_count_3 20 rfl rfl)
theorem dX1_count_99 : decode cX1_count 99 = .ok (.getfield 126, 3) := dk_180 0 126 (dk_at dksX1_count_3 21 rfl rfl)
theorem dX1_count_102 : decode cX1_count 102 = .ok (.ireturn, 1) := dk_172 (dk_at dksX1_count_4 0 rfl rfl)
theorem dX1_count_103 : decode cX1_count 103 = .ok (.aload_n 0, 1) := dk_42 (dk_at dksX1_count_4 1 rfl rfl)
theorem dX1_count_104 : decode cX1_count 104 = .ok (.getfield 366, 3) := dk_180 1 110 (dk_at dksX1_count_4 2 rfl rfl)
theorem dX1_count_107 : decode cX1_count 107 = .ok (.ireturn, 1) := dk_172 (dk_at dksX1_count_4 5 rfl rfl)
theorem dX1_count_108 : decode cX1_count 108 = .ok (.iconst 0, 1) := dk_3 (dk_at dksX1_count_4 6 rfl rfl)
theorem dX1_count_109 : decode cX1_count 109 = .ok (.istore_n 3, 1) := dk_62 (dk_at dksX1_count_4 7 rfl rfl)
theorem dX1_count_110 : decode cX1_count 110 = .ok (.iload_n 3, 1) := dk_29 (dk_at dksX1_count_4 8 rfl rfl)
theorem dX1_count_111 : decode cX1_count 111 = .ok (.aload_n 0, 1) := dk_42 (dk_at dksX1_count_4 9 rfl rfl)
theorem dX1_count_112 : decode cX1_count 112 = .ok (.getfield 26, 3) := dk_180 0 26 (dk_at dksX1_count_4 10 rfl rfl)
theorem dX1_count_115 : decode cX1_count 115 = .ok (.invokevirtual 121, 3) := dk_182 0 121 (dk_at dksX1_count_4 13 rfl rfl)
theorem dX1_count_118 : decode cX1_count 118 = .ok (.if_icmp .ge 38, 3) := dk_162 0 38 (dk_at dksX1_count_4 16 rfl rfl)
theorem dX1_count_121 : decode cX1_count 121 = .ok (.iload_n 2, 1) := dk_28 (dk_at dksX1_count_4 19 rfl rfl)
theorem dX1_count_122 : decode cX1_count 122 = .ok (.aload_n 0, 1) := dk_42 (dk_at dksX1_count_4 20 rfl rfl)
theorem dX1_count_123 : decode cX1_count 123 = .ok (.getfield 26, 3) := dk_180 0 26 (dk_at dksX1_count_4 21 rfl rfl)
theorem dX1_count_126 : decode cX1_count 126 = .ok (.iload_n 3, 1) := dk_29 (dk_at dksX1_count_5 0 rfl rfl)
theorem dX1_count_127 : decode cX1_count 127 = .ok (.invokevirtual 169, 3) := dk_182 0 169 (dk_at dksX1_count_5 1 rfl rfl)
theorem dX1_count_130 : decode cX1_count 130 = .ok (.checkcast 135, 3) := dk_192 0 135 (dk_at dksX1_count_5 4 rfl rfl)
theorem dX1_count_133 : decode cX1_count 133 = .ok (.aload_n 0, 1) := dk_42 (dk_at dksX1_count_5 7 rfl rfl)
theorem dX1_count_134 : decode cX1_count 134 = .ok (.getfield 118, 3) := dk_180 0 118 (dk_at dksX1_count_5 8 rfl rfl)
theorem dX1_count_137 : decode cX1_count 137 = .ok (.invokevirtual 325, 3) := dk_182 1 69 (dk_at dksX1_count_5 11 rfl rfl)
theorem dX1_count_140 : decode cX1_count 140 = .ok (.ifCond .eq 7, 3) := dk_153 0 7 (dk_at dksX1_count_5 14 rfl rfl)
theorem dX1_count_143 : decode cX1_count 143 = .ok (.iconst 1, 1) := dk_4 (dk_at dksX1_count_5 17 rfl rfl)
theorem dX1_count_144 : decode cX1_count 144 = .ok (.goto 4, 3) := dk_167 0 4 (dk_at dksX1_count_5 18 rfl rfl)
theorem dX1_count_147 : decode cX1_count 147 = .ok (.iconst 0, 1) := dk_3 (dk_at dksX1_count_5 21 rfl rfl)
theorem dX1_count_148 : decode cX1_count 148 = .ok (.iadd, 1) := dk_96 (dk_at dksX1_count_5 22 rfl rfl)
theorem dX1_count_149 : decode cX1_count 149 = .ok (.istore_n 2, 1) := dk_61 (dk_at dksX1_count_5 23 rfl rfl)
theorem dX1_count_150 : decode cX1_count 150 = .ok (.iinc 3 1, 3) := dk_132 3 1 (dk_at dksX1_count_6 0 rfl rfl)
theorem dX1_count_153 : decode cX1_count 153 = .ok (.goto (-43), 3) := dk_167 255 213 (dk_at dksX1_count_6 3 rfl rfl)
theorem dX1_count_156 : decode cX1_count 156 = .ok (.iload_n 2, 1) := dk_28 (dk_at dksX1_count_6 6 rfl rfl)
theorem dX1_count_157 : decode cX1_count 157 = .ok (.ireturn, 1) := dk_172 (dk_at dksX1_count_6 7 rfl rfl)
theorem dX1_count_158 : decode cX1_count 158 = .ok (.iconst 0, 1) := dk_3 (dk_at dksX1_count_6 8 rfl rfl)
theorem dX1_count_159 : decode cX1_count 159 = .ok (.istore_n 3, 1) := dk_62 (dk_at dksX1_count_6 9 rfl rfl)
theorem dX1_count_160 : decode cX1_count 160 = .ok (.iload_n 3, 1) := dk_29 (dk_at dksX1_count_6 10 rfl rfl)
theorem dX1_count_161 : decode cX1_count 161 = .ok (.aload_n 0, 1) := dk_42 (dk_at dksX1_count_6 11 rfl rfl)
theorem dX1_count_162 : decode cX1_count 162 = .ok (.getfield 36, 3) := dk_180 0 36 (dk_at dksX1_count_6 12 rfl rfl)
theorem dX1_count_165 : decode cX1_count 165 = .ok (.invokevirtual 121, 3) := dk_182 0 121 (dk_at dksX1_count_6 15 rfl rfl)
theorem dX1_count_168 : decode cX1_count 168 = .ok (.if_icmp .ge 38, 3) := dk_162 0 38 (dk_at dksX1_count_6 18 rfl rfl)
theorem dX1_count_171 : decode cX1_count 171 = .ok (.iload_n 2, 1) := dk_28 (dk_at dksX1_count_6 21 rfl rfl)
theorem dX1_count_172 : decode cX1_count 172 = .ok (.aload_n 0, 1) := dk_42 (dk_at dksX1_count_6 22 rfl rfl)
theorem dX1_count_173 : decode cX1_count 173 = .ok (.getfield 36, 3) := dk_180 0 36 (dk_at dksX1_count_7 0 rfl rfl)
theorem dX1_count_176 : decode cX1_count 176 = .ok (.iload_n 3, 1) := dk_29 (dk_at dksX1_count_7 3 rfl rfl)
theorem dX1_count_177 : decode cX1_count 177 = .ok (.invokevirtual 169, 3) := dk_182 0 169 (dk_at dksX1_count_7 4 rfl rfl)
theorem dX1_count_180 : decode cX1_count 180 = .ok (.checkcast 298, 3) := dk_192 1 42 (dk_at dksX1_count_7 7 rfl rfl)
theorem dX1_count_183 : decode cX1_count 183 = .ok (.aload_n 0, 1) := dk_42 (dk_at dksX1_count_7 10 rfl rfl)
theorem dX1_count_184 : decode cX1_count 184 = .ok (.getfield 118, 3) := dk_180 0 118 (dk_at dksX1_count_7 11 rfl rfl)
theorem dX1_count_187 : decode cX1_count 187 = .ok (.invokevirtual 319, 3) := dk_182 1 63 (dk_at dksX1_count_7 14 rfl rfl)
theorem dX1_count_190 : decode cX1_count 190 = .ok (.ifCond .eq 7, 3) := dk_153 0 7 (dk_at dksX1_count_7 17 rfl rfl)
theorem dX1_count_193 : decode cX1_count 193 = .ok (.iconst 1, 1) := dk_4 (dk_at dksX1_count_7 20 rfl rfl)
theorem dX1_count_194 : decode cX1_count 194 = .ok (.goto 4, 3) := dk_167 0 4 (dk_at dksX1_count_7 21 rfl rfl)
theorem dX1_count_197 : decode cX1_count 197 = .ok (.iconst 0, 1) := dk_3 (dk_at dksX1_count_8 0 rfl rfl)
theorem dX1_count_198 : decode cX1_count 198 = .ok (.iadd, 1) := dk_96 (dk_at dksX1_count_8 1 rfl rfl)
theorem dX1_count_199 : decode cX1_count 199 = .ok (.istore_n 2, 1) := dk_61 (dk_at dksX1_count_8 2 rfl rfl)
theorem dX1_count_200 : decode cX1_count 200 = .ok (.iinc 3 1, 3) := dk_132 3 1 (dk_at dksX1_count_8 3 rfl rfl)
theorem dX1_count_203 : decode cX1_count 203 = .ok (.goto (-43), 3) := dk_167 255 213 (dk_at dksX1_count_8 6 rfl rfl)
theorem dX1_count_206 : decode cX1_count 206 = .ok (.iload_n 2, 1) := dk_28 (dk_at dksX1_count_8 9 rfl rfl)
theorem dX1_count_207 : decode cX1_count 207 = .ok (.ireturn, 1) := dk_172 (dk_at dksX1_count_8 10 rfl rfl)
theorem dX1_count_208 : decode cX1_count 208 = .ok (.iconst (-1), 1) := dk_2 (dk_at dksX1_count_8 11 rfl rfl)
theorem dX1_count_209 : decode cX1_count 209 = .ok (.ireturn, 1) := dk_172 (dk_at dksX1_count_8 12 rfl rfl)
def dkwX1_told_3 : List UInt8 := [180, 0, 26, 27, 182, 0, 169, 192, 0, 135, 180, 0, 201, 28, 50, 29, 46, 172]
abbrev dktX1_told_3 : List UInt8 := dkwX1_told_3 ++ []
def dkwX1_told_2 : List UInt8 := [180, 0, 201, 28, 50, 190, 4, 100, 184, 0, 3, 154, 0, 11, 187, 0, 205, 89, 183, 0, 207, 191, 42]
abbrev dktX1_told_2 : List UInt8 := dkwX1_told_2 ++ dktX1_told_3
def dkwX1_told_1 : List UInt8 := [190, 4, 100, 184, 0, 3, 153, 0, 30, 29, 3, 42, 180, 0, 26, 27, 182, 0, 169, 192, 0, 135]
abbrev dktX1_told_1 : List UInt8 := dkwX1_told_1 ++ dktX1_told_2
def dkwX1_told_0 : List UInt8 := [42, 27, 182, 0, 198, 153, 0, 55, 28, 3, 42, 180, 0, 26, 27, 182, 0, 169, 192, 0, 135, 180, 0, 201]
abbrev dktX1_told_0 : List UInt8 := dkwX1_told_0 ++ dktX1_told_1
theorem dksX1_told_0 : cX1_told.data.toList.drop 0 = dktX1_told_0 := by decide +kernel
theorem dksX1_told_1 : cX1_told.data.toList.drop 24 = dktX1_told_1 := dk_seg dksX1_told_0 24 rfl rfl
theorem dksX1_told_2 : cX1_told.data.toList.drop 46 = dktX1_told_2 := dk_seg dksX1_told_1 22 rfl rfl
theorem dksX1_told_3 : cX1_told.data.toList.drop 69 = dktX1_told_3 := dk_seg dksX1_told_2 23 rfl rfl
theorem dX1_told_0 : decode cX1_told 0 = .ok (.aload_n 0, 1) := dk_42 (dk_at dksX1_told_0 0 rfl rfl)
theorem dX1_told_1 : decode cX1_told 1 = .ok (.iload_n 1, 1) := dk_27 (dk_at dksX1_told_0 1 rfl rfl)
theorem dX1_told_2 : decode cX1_told 2 = .ok (.invokevirtual 198, 3) := dk_182 0 198 (dk_at dksX1_told_0 2 rfl rfl)
theorem dX1_told_5 : decode cX1_told 5 = .ok (.ifCond .eq 55, 3) := dk_153 0 55 (dk_at dksX1_told_0 5 rfl rfl)
theorem dX1_told_8 : decode cX1_told 8 = .ok (.iload_n 2, 1) := dk_28 (dk_at dksX1_told_0 8 rfl rfl)
theorem dX1_told_9 : decode cX1_told 9 = .ok (.iconst 0, 1) := dk_3 (dk_at dksX1_told_0 9 rfl rfl)
theorem dX1_told_10 : decode cX1_told 10 = .ok (.aload_n 0, 1) := dk_42 (dk_at dksX1_told_0 10 rfl rfl)
theorem dX1_told_11 : decode cX1_told 11 = .ok (.getfield 26, 3) := dk_180 0 26 (dk_at dksX1_told_0 11 rfl rfl)
theorem dX1_told_14 : decode cX1_told 14 = .ok (.iload_n 1, 1) := dk_27 (dk_at dksX1_told_0 14 rfl rfl)
theorem dX1_told_15 : decode cX1_told 15 = .ok (.invokevirtual 169, 3) := dk_182 0 169 (dk_at dksX1_told_0 15 rfl rfl)
theorem dX1_told_18 : decode cX1_told 18 = .ok (.checkcast 135, 3) := dk_192 0 135 (dk_at dksX1_told_0 18 rfl rfl)
theorem dX1_told_21 : decode cX1_told 21 = .ok (.getfield 201, 3) := dk_180 0 201 (dk_at dksX1_told_0 21 rfl rfl)
theorem dX1_told_24 : decode cX1_told 24 = .ok (.arraylength, 1) := dk_190 (dk_at dksX1_told_1 0 rfl rfl)
theorem dX1_told_25 : decode cX1_told 25 = .ok (.iconst 1, 1) := dk_4 (dk_at dksX1_told_1 1 rfl rfl)
theorem dX1_told_26 : decode cX1_told 26 = .ok (.isub, 1) := dk_100 (dk_at dksX1_told_1 2 rfl rfl)
theorem dX1_told_27 : decode cX1_told 27 = .ok (.invokestatic 3, 3) := dk_184 0 3 (dk_at dksX1_told_1 3 rfl rfl)
theorem dX1_told_30 : decode cX1_told 30 = .ok (.ifCond .eq 30, 3) := dk_153 0 30 (dk_at dksX1_told_1 6 rfl rfl)
theorem dX1_told_33 : decode cX1_told 33 = .ok (.iload_n 3, 1) := dk_29 (dk_at dksX1_told_1 9 rfl rfl)
theorem dX1_told_34 : decode cX1_told 34 = .ok (.iconst 0, 1) := dk_3 (dk_at dksX1_told_1 10 rfl rfl)
theorem dX1_told_35 : decode cX1_told 35 = .ok (.aload_n 0, 1) := dk_42 (dk_at dksX1_told_1 11 rfl rfl)
theorem dX1_told_36 : decode cX1_told 36 = .ok (.getfield 26, 3) := dk_180 0 26 (dk_at dksX1_told_1 12 rfl rfl)
theorem dX1_told_39 : decode cX1_told 39 = .ok (.iload_n 1, 1) := dk_27 (dk_at dksX1_told_1 15 rfl rfl)
theorem dX1_told_40 : decode cX1_told 40 = .ok (.invokevirtual 169, 3) := dk_182 0 169 (dk_at dksX1_told_1 16 rfl rfl)
theorem dX1_told_43 : decode cX1_told 43 = .ok (.checkcast 135, 3) := dk_192 0 135 (dk_at dksX1_told_1 19 rfl rfl)
theorem dX1_told_46 : decode cX1_told 46 = .ok (.getfield 201, 3) := dk_180 0 201 (dk_at dksX1_told_2 0 rfl rfl)
theorem dX1_told_49 : decode cX1_told 49 = .ok (.iload_n 2, 1) := dk_28 (dk_at dksX1_told_2 3 rfl rfl)
theorem dX1_told_50 : decode cX1_told 50 = .ok (.aaload, 1) := dk_50 (dk_at dksX1_told_2 4 rfl rfl)
theorem dX1_told_51 : decode cX1_told 51 = .ok (.arraylength, 1) := dk_190 (dk_at dksX1_told_2 5 rfl rfl)
theorem dX1_told_52 : decode cX1_told 52 = .ok (.iconst 1, 1) := dk_4 (dk_at dksX1_told_2 6 rfl rfl)
theorem dX1_told_53 : decode cX1_told 53 = .ok (.isub, 1) := dk_100 (dk_at dksX1_told_2 7 rfl rfl)
theorem dX1_told_54 : decode cX1_told 54 = .ok (.invokestatic 3, 3) := dk_184 0 3 (dk_at dksX1_told_2 8 rfl rfl)
theorem dX1_told_57 : decode cX1_told 57 = .ok (.ifCond .ne 11, 3) := dk_154 0 11 (dk_at dksX1_told_2 11 rfl rfl)
theorem dX1_told_60 : decode cX1_told 60 = .ok (.new 205, 3) := dk_187 0 205 (dk_at dksX1_told_2 14 rfl rfl)
theorem dX1_told_63 : decode cX1_told 63 = .ok (.dup, 1) := dk_89 (dk_at dksX1_told_2 17 rfl rfl)
theorem dX1_told_64 : decode cX1_told 64 = .ok (.invokespecial 207, 3) := dk_183 0 207 (dk_at dksX1_told_2 18 rfl rfl)
theorem dX1_told_67 : decode cX1_told 67 = .ok (.athrow, 1) := dk_191 (dk_at dksX1_told_2 21 rfl rfl)
theorem dX1_told_68 : decode cX1_told 68 = .ok (.aload_n 0, 1) := dk_42 (dk_at dksX1_told_2 22 rfl rfl)
theorem dX1_told_69 : decode cX1_told 69 = .ok (.getfield 26, 3) := dk_180 0 26 (dk_at dksX1_told_3 0 rfl rfl)
theorem dX1_told_72 : decode cX1_told 72 = .ok (.iload_n 1, 1) := dk_27 (dk_at dksX1_told_3 3 rfl rfl)
theorem dX1_told_73 : decode cX1_told 73 = .ok (.invokevirtual 169, 3) := dk_182 0 169 (dk_at dksX1_told_3 4 rfl rfl)
theorem dX1_told_76 : decode cX1_told 76 = .ok (.checkcast 135, 3) := dk_192 0 135 (dk_at dksX1_told_3 7 rfl rfl)
theorem dX1_told_79 : decode cX1_told 79 = .ok (.getfield 201, 3) := dk_180 0 201 (dk_at dksX1_told_3 10 rfl rfl)
theorem dX1_told_82 : decode cX1_told 82 = .ok (.iload_n 2, 1) := dk_28 (dk_at dksX1_told_3 13 rfl rfl)
theorem dX1_told_83 : decode cX1_told 83 = .ok (.aaload, 1) := dk_50 (dk_at dksX1_told_3 14 rfl rfl)
theorem dX1_told_84 : decode cX1_told 84 = .ok (.iload_n 3, 1) := dk_29 (dk_at dksX1_told_3 15 rfl rfl)
theorem dX1_told_85 : decode cX1_told 85 = .ok (.iaload, 1) := dk_46 (dk_at dksX1_told_3 16 rfl rfl)
theorem dX1_told_86 : decode cX1_told 86 = .ok (.ireturn, 1) := dk_172 (dk_at dksX1_told_3 17 rfl rfl)
