set_option maxRecDepth 100000
def dkwX10_init_12 : List UInt8 := [188, 4, 181, 0, 102, 42, 17, 0, 240, 188, 10, 181, 0, 105, 177]
abbrev dktX10_init_12 : List UInt8 := dkwX10_init_12 ++ []
def dkwX10_init_11 : List UInt8 := [181, 0, 93, 42, 17, 94, 236, 188, 10, 181, 0, 96, 42, 17, 94, 236, 188, 10, 181, 0, 99, 42, 16, 100]
abbrev dktX10_init_11 : List UInt8 := dkwX10_init_11 ++ dktX10_init_12
def dkwX10_init_10 : List UInt8 := [17, 94, 236, 188, 10, 181, 0, 87, 42, 17, 94, 236, 188, 10, 181, 0, 90, 42, 17, 94, 236, 188, 10]
abbrev dktX10_init_10 : List UInt8 := dkwX10_init_10 ++ dktX10_init_11
def dkwX10_init_9 : List UInt8 := [16, 254, 79, 89, 5, 16, 254, 79, 89, 6, 16, 254, 79, 89, 7, 16, 254, 79, 181, 0, 84, 42]
abbrev dktX10_init_9 : List UInt8 := dkwX10_init_9 ++ dktX10_init_10
def dkwX10_init_8 : List UInt8 := [188, 10, 181, 0, 78, 42, 16, 100, 188, 10, 181, 0, 81, 42, 8, 188, 10, 89, 3, 16, 254, 79, 89, 4]
abbrev dktX10_init_8 : List UInt8 := dkwX10_init_8 ++ dktX10_init_9
def dkwX10_init_7 : List UInt8 := [181, 0, 69, 42, 17, 4, 0, 188, 10, 181, 0, 72, 42, 16, 10, 188, 10, 181, 0, 75, 42, 16, 10]
abbrev dktX10_init_7 : List UInt8 := dkwX10_init_7 ++ dktX10_init_8
def dkwX10_init_6 : List UInt8 := [42, 16, 10, 188, 10, 181, 0, 63, 42, 16, 10, 188, 10, 181, 0, 66, 42, 17, 4, 0, 188, 10]
abbrev dktX10_init_6 : List UInt8 := dkwX10_init_6 ++ dktX10_init_7
def dkwX10_init_5 : List UInt8 := [42, 16, 10, 188, 10, 181, 0, 54, 42, 16, 10, 188, 10, 181, 0, 57, 42, 16, 10, 188, 10, 181, 0, 60]
abbrev dktX10_init_5 : List UInt8 := dkwX10_init_5 ++ dktX10_init_6
def dkwX10_init_4 : List UInt8 := [42, 16, 40, 188, 11, 181, 0, 45, 42, 16, 40, 188, 11, 181, 0, 48, 42, 16, 10, 188, 10, 181, 0, 51]
abbrev dktX10_init_4 : List UInt8 := dkwX10_init_4 ++ dktX10_init_5
def dkwX10_init_3 : List UInt8 := [181, 0, 32, 42, 5, 188, 4, 181, 0, 35, 42, 7, 188, 10, 181, 0, 39, 42, 7, 188, 10, 181, 0, 42]
abbrev dktX10_init_3 : List UInt8 := dkwX10_init_3 ++ dktX10_init_4
def dkwX10_init_2 : List UInt8 := [181, 0, 22, 42, 16, 10, 188, 11, 181, 0, 25, 42, 16, 10, 188, 11, 181, 0, 29, 42, 16, 20, 188, 11]
abbrev dktX10_init_2 : List UInt8 := dkwX10_init_2 ++ dktX10_init_3
def dkwX10_init_1 : List UInt8 := [17, 1, 74, 188, 10, 181, 0, 16, 42, 16, 120, 188, 10, 181, 0, 19, 42, 17, 5, 128, 188, 10]
abbrev dktX10_init_1 : List UInt8 := dkwX10_init_1 ++ dktX10_init_2
def dkwX10_init_0 : List UInt8 := [42, 183, 0, 1, 42, 17, 3, 172, 188, 10, 181, 0, 7, 42, 17, 2, 192, 188, 10, 181, 0, 13, 42]
abbrev dktX10_init_0 : List UInt8 := dkwX10_init_0 ++ dktX10_init_1
theorem dksX10_init_0 : cX10_init.data.toList.drop 0 = dktX10_init_0 := by decide +kernel
theorem dksX10_init_1 : cX10_init.data.toList.drop 23 = dktX10_init_1 := dk_seg dksX10_init_0 23 rfl rfl
theorem dksX10_init_2 : cX10_init.data.toList.drop 45 = dktX10_init_2 := dk_seg dksX10_init_1 22 rfl rfl
theorem dksX10_init_3 : cX10_init.data.toList.drop 69 = dktX10_init_3 := dk_seg dksX10_init_2 24 rfl rfl
theorem dksX10_init_4 : cX10_init.data.toList.drop 93 = dktX10_init_4 := dk_seg dksX10_init_3 24 rfl rfl
theorem dksX10_init_5 : cX10_init.data.toList.drop 117 = dktX10_init_5 := dk_seg dksX10_init_4 24 rfl rfl
theorem dksX10_init_6 : cX10_init.data.toList.drop 141 = dktX10_init_6 := dk_seg dksX10_init_5 24 rfl rfl
theorem dksX10_init_7 : cX10_init.data.toList.drop 163 = dktX10_init_7 := dk_seg dksX10_init_6 22 rfl rfl
theorem dksX10_init_8 : cX10_init.data.toList.drop 186 = dktX10_init_8 := dk_seg dksX10_init_7 23 rfl rfl
theorem dksX10_init_9 : cX10_init.data.toList.drop 210 = dktX10_init_9 := dk_seg dksX10_init_8 24 rfl rfl
theorem dksX10_init_10 : cX10_init.data.toList.drop 232 = dktX10_init_10 := dk_seg dksX10_init_9 22 rfl rfl
theorem dksX10_init_11 : cX10_init.data.toList.drop 255 = dktX10_init_11 := dk_seg dksX10_init_10 23 rfl rfl
theorem dksX10_init_12 : cX10_init.data.toList.drop 279 = dktX10_init_12 := dk_seg dksX10_init_11 24 rfl rfl
theorem dX10_init_0 : decode cX10_init 0 = .ok (.aload_n 0, 1) := dk_42 (dk_at dksX10_init_0 0 rfl rfl)
theorem dX10_init_1 : decode cX10_init 1 = .ok (.invokespecial 1, 3) := dk_183 0 1 (dk_at dksX10_init_0 1 rfl rfl)
theorem dX10_init_4 : decode cX10_init 4 = .ok (.aload_n 0, 1) := dk_42 (dk_at dksX10_init_0 4 rfl rfl)
theorem dX10_init_5 : decode cX10_init 5 = .ok (.sipush 940, 3) := dk_17 3 172 (dk_at dksX10_init_0 5 rfl rfl)
theorem dX10_init_8 : decode cX10_init 8 = .ok (.newarray .int, 2) := dk_188_10 (dk_at dksX10_init_0 8 rfl rfl)
theorem dX10_init_10 : decode cX10_init 10 = .ok (.putfield 7, 3) := dk_181 0 7 (dk_at dksX10_init_0 10 rfl rfl)
theorem dX10_init_13 : decode cX10_init 13 = .ok (.aload_n 0, 1) := dk_42 (dk_at dksX10_init_0 13 rfl rfl)
theorem dX10_init_14 : decode cX10_init 14 = .ok (.sipush 704, 3) := dk_17 2 192 (dk_at dksX10_init_0 14 rfl rfl)
theorem dX10_init_17 : decode cX10_init 17 = .ok (.newarray .int, 2) := dk_188_10 (dk_at dksX10_init_0 17 rfl rfl)
theorem dX10_init_19 : decode cX10_init 19 = .ok (.putfield 13, 3) := dk_181 0 13 (dk_at dksX10_init_0 19 rfl rfl)
theorem dX10_init_22 : decode cX10_init 22 = .ok (.aload_n 0, 1) := dk_42 (dk_at dksX10_init_0 22 rfl rfl)
theorem dX10_init_23 : decode cX10_init 23 = .ok (.sipush 330, 3) := dk_17 1 74 (dk_at dksX10_init_1 0 rfl rfl)
theorem dX10_init_26 : decode cX10_init 26 = .ok (.newarray .int, 2) := dk_188_10 (dk_at dksX10_init_1 3 rfl rfl)
theorem dX10_init_28 : decode cX10_init 28 = .ok (.putfield 16, 3) := dk_181 0 16 (dk_at dksX10_init_1 5 rfl rfl)
theorem dX10_init_31 : decode cX10_init 31 = .ok (.aload_n 0, 1) := dk_42 (dk_at dksX10_init_1 8 rfl rfl)
theorem dX10_init_32 : decode cX10_init 32 = .ok (.bipush 120, 2) := dk_16 120 (dk_at dksX10_init_1 9 rfl rfl)
theorem dX10_init_34 : decode cX10_init 34 = .ok (.newarray .int, 2) := dk_188_10 (dk_at dksX10_init_1 11 rfl rfl)
theorem dX10_init_36 : decode cX10_init 36 = .ok (.putfield 19, 3) := dk_181 0 19 (dk_at dksX10_init_1 13 rfl rfl)
theorem dX10_init_39 : decode cX10_init 39 = .ok (.aload_n 0, 1) := dk_42 (dk_at dksX10_init_1 16 rfl rfl)
theorem dX10_init_40 : decode cX10_init 40 = .ok (.sipush 1408, 3) := dk_17 5 128 (dk_at dksX10_init_1 17 rfl rfl)
theorem dX10_init_43 : decode cX10_init 43 = .ok (.newarray .int, 2) := dk_188_10 (dk_at dksX10_init_1 20 rfl rfl)
theorem dX10_init_45 : decode cX10_init 45 = .ok (.putfield 22, 3) := dk_181 0 22 (dk_at dksX10_init_2 0 rfl rfl)
theorem dX10_init_48 : decode cX10_init 48 = .ok (.aload_n 0, 1) := dk_42 (dk_at dksX10_init_2 3 rfl rfl)
theorem dX10_init_49 : decode cX10_init 49 = .ok (.bipush 10, 2) := dk_16 10 (dk_at dksX10_init_2 4 rfl rfl)
theorem dX10_init_51 : decode cX10_init 51 = .ok (.newarray .long, 2) := dk_188_11 (dk_at dksX10_init_2 6 rfl rfl)
theorem dX10_init_53 : decode cX10_init 53 = .ok (.putfield 25, 3) := dk_181 0 25 (dk_at dksX10_init_2 8 rfl rfl)
theorem dX10_init_56 : decode cX10_init 56 = .ok (.aload_n 0, 1) := dk_42 (dk_at dksX10_init_2 11 rfl rfl)
theorem dX10_init_57 : decode cX10_init 57 = .ok (.bipush 10, 2) := dk_16 10 (dk_at dksX10_init_2 12 rfl rfl)
theorem dX10_init_59 : decode cX10_init 59 = .ok (.newarray .long, 2) := dk_188_11 (dk_at dksX10_init_2 14 rfl rfl)
theorem dX10_init_61 : decode cX10_init 61 = .ok (.putfield 29, 3) := dk_181 0 29 (dk_at dksX10_init_2 16 rfl rfl)
theorem dX10_init_64 : decode cX10_init 64 = .ok (.aload_n 0, 1) := dk_42 (dk_at dksX10_init_2 19 rfl rfl)
theorem dX10_init_65 : decode cX10_init 65 = .ok (.bipush 20, 2) := dk_16 20 (dk_at dksX10_init_2 20 rfl rfl)
theorem dX10_init_67 : decode cX10_init 67 = .ok (.newarray .long, 2) := dk_188_11 (dk_at dksX10_init_2 22 rfl rfl)
theorem dX10_init_69 : decode cX10_init 69 = .ok (.putfield 32, 3) := dk_181 0 32 (dk_at dksX10_init_3 0 rfl rfl)
theorem dX10_init_72 : decode cX10_init 72 = .ok (.aload_n 0, 1) := dk_42 (dk_at dksX10_init_3 3 rfl rfl)
theorem dX10_init_73 : decode cX10_init 73 = .ok (.iconst 2, 1) := dk_5 (dk_at dksX10_init_3 4 rfl rfl)
theorem dX10_init_74 : decode cX10_init 74 = .ok (.newarray .boolean, 2) := dk_188_4 (dk_at dksX10_init_3 5 rfl rfl)
theorem dX10_init_76 : decode cX10_init 76 = .ok (.putfield 35, 3) := dk_181 0 35 (dk_at dksX10_init_3 7 rfl rfl)
theorem dX10_init_79 : decode cX10_init 79 = .ok (.aload_n 0, 1) := dk_42 (dk_at dksX10_init_3 10 rfl rfl)
theorem dX10_init_80 : decode cX10_init 80 = .ok (.iconst 4, 1) := dk_7 (dk_at dksX10_init_3 11 rfl rfl)
theorem dX10_init_81 : decode cX10_init 81 = .ok (.newarray .int, 2) := dk_188_10 (dk_at dksX10_init_3 12 rfl rfl)
theorem dX10_init_83 : decode cX10_init 83 = .ok (.putfield 39, 3) := dk_181 0 39 (dk_at dksX10_init_3 14 rfl rfl)
theorem dX10_init_86 : decode cX10_init 86 = .ok (.aload_n 0, 1) := dk_42 (dk_at dksX10_init_3 17 rfl rfl)
theorem dX10_init_87 : decode cX10_init 87 = .ok (.iconst 4, 1) := dk_7 (dk_at dksX10_init_3 18 rfl rfl)
theorem dX10_init_88 : decode cX10_init 88 = .ok (.newarray .int, 2) := dk_188_10 (dk_at dksX10_init_3 19 rfl rfl)
theorem dX10_init_90 : decode cX10_init 90 = .ok (.putfield 42, 3) := dk_181 0 42 (dk_at dksX10_init_3 21 rfl rfl)
theorem dX10_init_93 : decode cX10_init 93 = .ok (.aload_n 0, 1) := dk_42 (dk_at dksX10_init_4 0 rfl rfl)
theorem dX10_init_94 : decode cX10_init 94 = .ok (.bipush 40, 2) := dk_16 40 (dk_at dksX10_init_4 1 rfl rfl)
theorem dX10_init_96 : decode cX10_init 96 = .ok (.newarray .long, 2) := dk_188_11 (dk_at dksX10_init_4 3 rfl rfl)
theorem dX10_init_98 : decode cX10_init 98 = .ok (.putfield 45, 3) := dk_181 0 45 (dk_at dksX10_init_4 5 rfl rfl)
theorem dX10_init_101 : decode cX10_init 101 = .ok (.aload_n 0, 1) := dk_42 (dk_at dksX10_init_4 8 rfl rfl)
theorem dX10_init_102 : decode cX10_init 102 = .ok (.bipush 40, 2) := dk_16 40 (dk_at dksX10_init_4 9 rfl rfl)
theorem dX10_init_104 : decode cX10_init 104 = .ok (.newarray .long, 2) := dk_188_11 (dk_at dksX10_init_4 11 rfl rfl)
theorem dX10_init_106 : decode cX10_init 106 = .ok (.putfield 48, 3) := dk_181 0 48 (dk_at dksX10_init_4 13 rfl rfl)
theorem dX10_init_109 : decode cX10_init 109 = .ok (.aload_n 0, 1) := dk_42 (dk_at dksX10_init_4 16 rfl rfl)
theorem dX10_init_110 : decode cX10_init 110 = .ok (.bipush 10, 2) := dk_16 10 (dk_at dksX10_init_4 17 rfl rfl)
theorem dX10_init_112 : decode cX10_init 112 = .ok (.newarray .int, 2) := dk_188_10 (dk_at dksX10_init_4 19 rfl rfl)
theorem dX10_init_114 : decode cX10_init 114 = .ok (.putfield 51, 3) := dk_181 0 51 (dk_at dksX10_init_4 21 rfl rfl)
theorem dX10_init_117 : decode cX10_init 117 = .ok (.aload_n 0, 1) := dk_42 (dk_at dksX10_init_5 0 rfl rfl)
theorem dX10_init_118 : decode cX10_init 118 = .ok (.bipush 10, 2) := dk_16 10 (dk_at dksX10_init_5 1 rfl rfl)
theorem dX10_init_120 : decode cX10_init 120 = .ok (.newarray .int, 2) := dk_188_10 (dk_at dksX10_init_5 3 rfl rfl)
theorem dX10_init_122 : decode cX10_init 122 = .ok (.putfield 54, 3) := dk_181 0 54 (dk_at dksX10_init_5 5 rfl rfl)
theorem dX10_init_125 : decode cX10_init 125 = .ok (.aload_n 0, 1) := dk_42 (dk_at dksX10_init_5 8 rfl rfl)
theorem dX10_init_126 : decode cX10_init 126 = .ok (.bipush 10, 2) := dk_16 10 (dk_at dksX10_init_5 9 rfl rfl)
theorem dX10_init_128 : decode cX10_init 128 = .ok (.newarray .int, 2) := dk_188_10 (dk_at dksX10_init_5 11 rfl rfl)
theorem dX10_init_130 : decode cX10_init 130 = .ok (.putfield 57, 3) := dk_181 0 57 (dk_at dksX10_init_5 13 rfl rfl)
theorem dX10_init_133 : decode cX10_init 133 = .ok (.aload_n 0, 1) := dk_42 (dk_at dksX10_init_5 16 rfl rfl)
theorem dX10_init_134 : decode cX10_init 134 = .ok (.bipush 10, 2) := dk_16 10 (dk_at dksX10_init_5 17 rfl rfl)
theorem dX10_init_136 : decode cX10_init 136 = .ok (.newarray .int, 2) := dk_188_10 (dk_at dksX10_init_5 19 rfl rfl)
theorem dX10_init_138 : decode cX10_init 138 = .ok (.putfield 60, 3) := dk_181 0 60 (dk_at dksX10_init_5 21 rfl rfl)
theorem dX10_init_141 : decode cX10_init 141 = .ok (.aload_n 0, 1) := dk_42 (dk_at dksX10_init_6 0 rfl rfl)
theorem dX10_init_142 : decode cX10_init 142 = .ok (.bipush 10, 2) := dk_16 10 (dk_at dksX10_init_6 1 rfl rfl)
theorem dX10_init_144 : decode cX10_init 144 = .ok (.newarray .int, 2) := dk_188_10 (dk_at dksX10_init_6 3 rfl rfl)
theorem dX10_init_146 : decode cX10_init 146 = .ok (.putfield 63, 3) := dk_181 0 63 (dk_at dksX10_init_6 5 rfl rfl)
theorem dX10_init_149 : decode cX10_init 149 = .ok (.aload_n 0, 1) := dk_42 (dk_at dksX10_init_6 8 rfl rfl)
theorem dX10_init_150 : decode cX10_init 150 = .ok (.bipush 10, 2) := dk_16 10 (dk_at dksX10_init_6 9 rfl rfl)
theorem dX10_init_152 : decode cX10_init 152 = .ok (.newarray .int, 2) := dk_188_10 (dk_at dksX10_init_6 11 rfl rfl)
theorem dX10_init_154 : decode cX10_init 154 = .ok (.putfield 66, 3) := dk_181 0 66 (dk_at dksX10_init_6 13 rfl rfl)
theorem dX10_init_157 : decode cX10_init 157 = .ok (.aload_n 0, 1) := dk_42 (dk_at dksX10_init_6 16 rfl rfl)
theorem dX10_init_158 : decode cX10_init 158 = .ok (.sipush 1024, 3) := dk_17 4 0 (dk_at dksX10_init_6 17 rfl rfl)
theorem dX10_init_161 : decode cX10_init 161 = .ok (.newarray .int, 2) := dk_188_10 (dk_at dksX10_init_6 20 rfl rfl)
theorem dX10_init_163 : decode cX10_init 163 = .ok (.putfield 69, 3) := dk_181 0 69 (dk_at dksX10_init_7 0 rfl rfl)
theorem dX10_init_166 : decode cX10_init 166 = .ok (.aload_n 0, 1) := dk_42 (dk_at dksX10_init_7 3 rfl rfl)
theorem dX10_init_167 : decode cX10_init 167 = .ok (.sipush 1024, 3) := dk_17 4 0 (dk_at dksX10_init_7 4 rfl rfl)
theorem dX10_init_170 : decode cX10_init 170 = .ok (.newarray .int, 2) := dk_188_10 (dk_at dksX10_init_7 7 rfl rfl)
theorem dX10_init_172 : decode cX10_init 172 = .ok (.putfield 72, 3) := dk_181 0 72 (dk_at dksX10_init_7 9 rfl rfl)
theorem dX10_init_175 : decode cX10_init 175 = .ok (.aload_n 0, 1) := dk_42 (dk_at dksX10_init_7 12 rfl rfl)
theorem dX10_init_176 : decode cX10_init 176 = .ok (.bipush 10, 2) := dk_16 10 (dk_at dksX10_init_7 13 rfl rfl)
theorem dX10_init_178 : decode cX10_init 178 = .ok (.newarray .int, 2) := dk_188_10 (dk_at dksX10_init_7 15 rfl rfl)
theorem dX10_init_180 : decode cX10_init 180 = .ok (.putfield 75, 3) := dk_181 0 75 (dk_at dksX10_init_7 17 rfl rfl)
theorem dX10_init_183 : decode cX10_init 183 = .ok (.aload_n 0, 1) := dk_42 (dk_at dksX10_init_7 20 rfl rfl)
theorem dX10_init_184 : decode cX10_init 184 = .ok (.bipush 10, 2) := dk_16 10 (dk_at dksX10_init_7 21 rfl rfl)
theorem dX10_init_186 : decode cX10_init 186 = .ok (.newarray .int, 2) := dk_188_10 (dk_at dksX10_init_8 0 rfl rfl)
theorem dX10_init_188 : decode cX10_init 188 = .ok (.putfield 78, 3) := dk_181 0 78 (dk_at dksX10_init_8 2 rfl rfl)
theorem dX10_init_191 : decode cX10_init 191 = .ok (.aload_n 0, 1) := dk_42 (dk_at dksX10_init_8 5 rfl rfl)
theorem dX10_init_192 : decode cX10_init 192 = .ok (.bipush 100, 2) := dk_16 100 (dk_at dksX10_init_8 6 rfl rfl)
theorem dX10_init_194 : decode cX10_init 194 = .ok (.newarray .int, 2) := dk_188_10 (dk_at dksX10_init_8 8 rfl rfl)
theorem dX10_init_196 : decode cX10_init 196 = .ok (.putfield 81, 3) := dk_181 0 81 (dk_at dksX10_init_8 10 rfl rfl)
theorem dX10_init_199 : decode cX10_init 199 = .ok (.aload_n 0, 1) := dk_42 (dk_at dksX10_init_8 13 rfl rfl)
theorem dX10_init_200 : decode cX10_init 200 = .ok (.iconst 5, 1) := dk_8 (dk_at dksX10_init_8 14 rfl rfl)
theorem dX10_init_201 : decode cX10_init 201 = .ok (.newarray .int, 2) := dk_188_10 (dk_at dksX10_init_8 15 rfl rfl)
theorem dX10_init_203 : decode cX10_init 203 = .ok (.dup, 1) := dk_89 (dk_at dksX10_init_8 17 rfl rfl)
theorem dX10_init_204 : decode cX10_init 204 = .ok (.iconst 0, 1) := dk_3 (dk_at dksX10_init_8 18 rfl rfl)
theorem dX10_init_205 : decode cX10_init 205 = .ok (.bipush (-2), 2) := dk_16 254 (dk_at dksX10_init_8 19 rfl rfl)
theorem dX10_init_207 : decode cX10_init 207 = .ok (.iastore, 1) := dk_79 (dk_at dksX10_init_8 21 rfl rfl)
theorem dX10_init_208 : decode cX10_init 208 = .ok (.dup, 1) := dk_89 (dk_at dksX10_init_8 22 rfl rfl)
theorem dX10_init_209 : decode cX10_init 209 = .ok (.iconst 1, 1) := dk_4 (dk_at dksX10_init_8 23 rfl rfl)
theorem dX10_init_210 : decode cX10_init 210 = .ok (.bipush (-2), 2) := dk_16 254 (dk_at dksX10_init_9 0 rfl rfl)
theorem dX10_init_212 : decode cX10_init 212 = .ok (.iastore, 1) := dk_79 (dk_at dksX10_init_9 2 rfl rfl)
theorem dX10_init_213 : decode cX10_init 213 = .ok (.dup, 1) := dk_89 (dk_at dksX10_init_9 3 rfl rfl)
theorem dX10_init_214 : decode cX10_init 214 = .ok (.iconst 2, 1) := dk_5 (dk_at dksX10_init_9 4 rfl rfl)
theorem dX10_init_215 : decode cX10_init 215 = .ok (.bipush (-2), 2) := dk_16 254 (dk_at dksX10_init_9 5 rfl rfl)
theorem dX10_init_217 : decode cX10_init 217 = .ok (.iastore, 1) := dk_79 (dk_at dksX10_init_9 7 rfl rfl)
theorem dX10_init_218 : decode cX10_init 218 = .ok (.dup, 1) := dk_89 (dk_at dksX10_init_9 8 rfl rfl)
theorem dX10_init_219 : decode cX10_init 219 = .ok (.iconst 3, 1) := dk_6 (dk_at dksX10_init_9 9 rfl rfl)
theorem dX10_init_220 : decode cX10_init 220 = .ok (.bipush (-2), 2) := dk_16 254 (dk_at dksX10_init_9 10 rfl rfl)
theorem dX10_init_222 : decode cX10_init 222 = .ok (.iastore, 1) := dk_79 (dk_at dksX10_init_9 12 rfl rfl)
theorem dX10_init_223 : decode cX10_init 223 = .ok (.dup, 1) := dk_89 (dk_at dksX10_init_9 13 rfl rfl)
theorem dX10_init_224 : decode cX10_init 224 = .ok (.iconst 4, 1) := dk_7 (dk_at dksX10_init_9 14 rfl rfl)
theorem dX10_init_225 : decode cX10_init 225 = .ok (.bipush (-2), 2) := dk_16 254 (dk_at dksX10_init_9 15 rfl rfl)
theorem dX10_init_227 : decode cX10_init 227 = .ok (.iastore, 1) := dk_79 (dk_at dksX10_init_9 17 rfl rfl)
theorem dX10_init_228 : decode cX10_init 228 = .ok (.putfield 84, 3) := dk_181 0 84 (dk_at dksX10_init_9 18 rfl rfl)
theorem dX10_init_231 : decode cX10_init 231 = .ok (.aload_n 0, 1) := dk_42 (dk_at dksX10_init_9 21 rfl rfl)
theorem dX10_init_232 : decode cX10_init 232 = .ok (.sipush 24300, 3) := dk_17 94 236 (dk_at dksX10_init_10 0 rfl rfl)
theorem dX10_init_235 : decode cX10_init 235 = .ok (.newarray .int, 2) := dk_188_10 (dk_at dksX10_init_10 3 rfl rfl)
theorem dX10_init_237 : decode cX10_init 237 = .ok (.putfield 87, 3) := dk_181 0 87 (dk_at dksX10_init_10 5 rfl rfl)
theorem dX10_init_240 : decode cX10_init 240 = .ok (.aload_n 0, 1) := dk_42 (dk_at dksX10_init_10 8 rfl rfl)
theorem dX10_init_241 : decode cX10_init 241 = .ok (.sipush 24300, 3) := dk_17 94 236 (dk_at dksX10_init_10 9 rfl rfl)
theorem dX10_init_244 : decode cX10_init 244 = .ok (.newarray .int, 2) := dk_188_10 (dk_at dksX10_init_10 12 rfl rfl)
theorem dX10_init_246 : decode cX10_init 246 = .ok (.putfield 90, 3) := dk_181 0 90 (dk_at dksX10_init_10 14 rfl rfl)
theorem dX10_init_249 : decode cX10_init 249 = .ok (.aload_n 0, 1) := dk_42 (dk_at dksX10_init_10 17 rfl rfl)
theorem dX10_init_250 : decode cX10_init 250 = .ok (.sipush 24300, 3) := dk_17 94 236 (dk_at dksX10_init_10 18 rfl rfl)
theorem dX10_init_253 : decode cX10_init 253 = .ok (.newarray .int, 2) := dk_188_10 (dk_at dksX10_init_10 21 rfl rfl)
theorem dX10_init_255 : decode cX10_init 255 = .ok (.putfield 93, 3) := dk_181 0 93 (dk_at dksX10_init_11 0 rfl rfl)
theorem dX10_init_258 : decode cX10_init 258 = .ok (.aload_n 0, 1) := dk_42 (dk_at dksX10_init_11 3 rfl rfl)
theorem dX10_init_259 : decode cX10_init 259 = .ok (.sipush 24300, 3) := dk_17 94 236 (dk_at dksX10_init_11 4 rfl rfl)
theorem dX10_init_262 : decode cX10_init 262 = .ok (.newarray .int, 2) := dk_188_10 (dk_at dksX10_init_11 7 rfl rfl)
theorem dX10_init_264 : decode cX10_init 264 = .ok (.putfield 96, 3) := dk_181 0 96 (dk_at dksX10_init_11 9 rfl rfl)
theorem dX10_init_267 : decode cX10_init 267 = .ok (.aload_n 0, 1) := dk_42 (dk_at dksX10_init_11 12 rfl rfl)
theorem dX10_init_268 : decode cX10_init 268 = .ok (.sipush 24300, 3) := dk_17 94 236 (dk_at dksX10_init_11 13 rfl rfl)
theorem dX10_init_271 : decode cX10_init 271 = .ok (.newarray .int, 2) := dk_188_10 (dk_at dksX10_init_11 16 rfl rfl)
theorem dX10_init_273 : decode cX10_init 273 = .ok (.putfield 99, 3) := dk_181 0 99 (dk_at dksX10_init_11 18 rfl rfl)
theorem dX10_init_276 : decode cX10_init 276 = .ok (.aload_n 0, 1) := dk_42 (dk_at dksX10_init_11 21 rfl rfl)
theorem dX10_init_277 : decode cX10_init 277 = .ok (.bipush 100, 2) := dk_16 100 (dk_at dksX10_init_11 22 rfl rfl)
theorem dX10_init_279 : decode cX10_init 279 = .ok (.newarray .boolean, 2) := dk_188_4 (dk_at dksX10_init_12 0 rfl rfl)
theorem dX10_init_281 : decode cX10_init 281 = .ok (.putfield 102, 3) := dk_181 0 102 (dk_at dksX10_init_12 2 rfl rfl)
theorem dX10_init_284 : decode cX10_init 284 = .ok (.aload_n 0, 1) := dk_42 (dk_at dksX10_init_12 5 rfl rfl)
theorem dX10_init_285 : decode cX10_init 285 = .ok (.sipush 240, 3) := dk_17 0 240 (dk_at dksX10_init_12 6 rfl rfl)
theorem dX10_init_288 : decode cX10_init 288 = .ok (.newarray .int, 2) := dk_188_10 (dk_at dksX10_init_12 9 rfl rfl)
theorem dX10_init_290 : decode cX10_init 290 = .ok (.putfield 105, 3) := dk_181 0 105 (dk_at dksX10_init_12 11 rfl rfl)
theorem dX10_init_293 : decode cX10_init 293 = .ok (.return_, 1) := dk_177 (dk_at dksX10_init_12 14 rfl rfl)
theorem fp_X10_102_i : gFp "BitingDoorsModel" "<init>" 102 [8] 58 (.array .boolean) := by
  intro args s hts hN ci hc
  simp only [List.mem_cons, List.not_mem_nil, or_false] at hc
  subst hc
  exact ⟨RX10, TX10, 64, "BitingDoorsModel", gCl_X10, in_X10, by decide, Or.inr ⟨rfl, rfl, rfl, gFin hts in_X10 (k := 58) (by decide) rfl, hts _ q1708⟩, fun _ h => h, rfl, fun D tys hK => gap_X10 hts hK⟩
theorem fp_X10_105_i : gFp "BitingDoorsModel" "<init>" 105 [8] 59 (.array .int) := by
  intro args s hts hN ci hc
  simp only [List.mem_cons, List.not_mem_nil, or_false] at hc
  subst hc
  exact ⟨RX10, TX10, 64, "BitingDoorsModel", gCl_X10, in_X10, by decide, Or.inr ⟨rfl, rfl, rfl, gFin hts in_X10 (k := 59) (by decide) rfl, hts _ q1709⟩, fun _ h => h, rfl, fun D tys hK => gap_X10 hts hK⟩
theorem fp_X10_13_i : gFp "BitingDoorsModel" "<init>" 13 [8] 14 (.array .int) := by
  intro args s hts hN ci hc
  simp only [List.mem_cons, List.not_mem_nil, or_false] at hc
  subst hc
  exact ⟨RX10, TX10, 64, "BitingDoorsModel", gCl_X10, in_X10, by decide, Or.inr ⟨rfl, rfl, rfl, gFin hts in_X10 (k := 14) (by decide) rfl, hts _ q1664⟩, fun _ h => h, rfl, fun D tys hK => gap_X10 hts hK⟩
theorem fp_X10_16_i : gFp "BitingDoorsModel" "<init>" 16 [8] 15 (.array .int) := by
  intro args s hts hN ci hc
  simp only [List.mem_cons, List.not_mem_nil, or_false] at hc
  subst hc
  exact ⟨RX10, TX10, 64, "BitingDoorsModel", gCl_X10, in_X10, by decide, Or.inr ⟨rfl, rfl, rfl, gFin hts in_X10 (k := 15) (by decide) rfl, hts _ q1665⟩, fun _ h => h, rfl, fun D tys hK => gap_X10 hts hK⟩
theorem fp_X10_19_i : gFp "BitingDoorsModel" "<init>" 19 [8] 16 (.array .int) := by
  intro args s hts hN ci hc
  simp only [List.mem_cons, List.not_mem_nil, or_false] at hc
  subst hc
  exact ⟨RX10, TX10, 64, "BitingDoorsModel", gCl_X10, in_X10, by decide, Or.inr ⟨rfl, rfl, rfl, gFin hts in_X10 (k := 16) (by decide) rfl, hts _ q1666⟩, fun _ h => h, rfl, fun D tys hK => gap_X10 hts hK⟩
theorem fp_X10_22_i : gFp "BitingDoorsModel" "<init>" 22 [8] 17 (.array .int) := by
  intro args s hts hN ci hc
  simp only [List.mem_cons, List.not_mem_nil, or_false] at hc
  subst hc
  exact ⟨RX10, TX10, 64, "BitingDoorsModel", gCl_X10, in_X10, by decide, Or.inr ⟨rfl, rfl, rfl, gFin hts in_X10 (k := 17) (by decide) rfl, hts _ q1667⟩, fun _ h => h, rfl, fun D tys hK => gap_X10 hts hK⟩
theorem fp_X10_25_i : gFp "BitingDoorsModel" "<init>" 25 [8] 18 (.array .long) := by
  intro args s hts hN ci hc
  simp only [List.mem_cons, List.not_mem_nil, or_false] at hc
  subst hc
  exact ⟨RX10, TX10, 64, "BitingDoorsModel", gCl_X10, in_X10, by decide, Or.inr ⟨rfl, rfl, rfl, gFin hts in_X10 (k := 18) (by decide) rfl, hts _ q1668⟩, fun _ h => h, rfl, fun D tys hK => gap_X10 hts hK⟩
theorem fp_X10_29_i : gFp "BitingDoorsModel" "<init>" 29 [8] 19 (.array .long) := by
  intro args s hts hN ci hc
  simp only [List.mem_cons, List.not_mem_nil, or_false] at hc
  subst hc
  exact ⟨RX10, TX10, 64, "BitingDoorsModel", gCl_X10, in_X10, by decide, Or.inr ⟨rfl, rfl, rfl, gFin hts in_X10 (k := 19) (by decide) rfl, hts _ q1669⟩, fun _ h => h, rfl, fun D tys hK => gap_X10 hts hK⟩
theorem fp_X10_32_i : gFp "BitingDoorsModel" "<init>" 32 [8] 20 (.array .long) := by
  intro args s hts hN ci hc
  simp only [List.mem_cons, List.not_mem_nil, or_false] at hc
  subst hc
  exact ⟨RX10, TX10, 64, "BitingDoorsModel", gCl_X10, in_X10, by decide, Or.inr ⟨rfl, rfl, rfl, gFin hts in_X10 (k := 20) (by decide) rfl, hts _ q1670⟩, fun _ h => h, rfl, fun D tys hK => gap_X10 hts hK⟩
theorem fp_X10_35_i : gFp "BitingDoorsModel" "<init>" 35 [8] 21 (.array .boolean) := by
  intro args s hts hN ci hc
  simp only [List.mem_cons, List.not_mem_nil, or_false] at hc
  subst hc
  exact ⟨RX10, TX10, 64, "BitingDoorsModel", gCl_X10, in_X10, by decide, Or.inr ⟨rfl, rfl, rfl, gFin hts in_X10 (k := 21) (by decide) rfl, hts _ q1671⟩, fun _ h => h, rfl, fun D tys hK => gap_X10 hts hK⟩
theorem fp_X10_39_i : gFp "BitingDoorsModel" "<init>" 39 [8] 24 (.array .int) := by
  intro args s hts hN ci hc
  simp only [List.mem_cons, List.not_mem_nil, or_false] at hc
  subst hc
  exact ⟨RX10, TX10, 64, "BitingDoorsModel", gCl_X10, in_X10, by decide, Or.inr ⟨rfl, rfl, rfl, gFin hts in_X10 (k := 24) (by decide) rfl, hts _ q1674⟩, fun _ h => h, rfl, fun D tys hK => gap_X10 hts hK⟩
theorem fp_X10_42_i : gFp "BitingDoorsModel" "<init>" 42 [8] 25 (.array .int) := by
  intro args s hts hN ci hc
  simp only [List.mem_cons, List.not_mem_nil, or_false] at hc
  subst hc
  exact ⟨RX10, TX10, 64, "BitingDoorsModel", gCl_X10, in_X10, by decide, Or.inr ⟨rfl, rfl, rfl, gFin hts in_X10 (k := 25) (by decide) rfl, hts _ q1675⟩, fun _ h => h, rfl, fun D tys hK => gap_X10 hts hK⟩
theorem fp_X10_45_i : gFp "BitingDoorsModel" "<init>" 45 [8] 27 (.array .long) := by
  intro args s hts hN ci hc
  simp only [List.mem_cons, List.not_mem_nil, or_false] at hc
  subst hc
  exact ⟨RX10, TX10, 64, "BitingDoorsModel", gCl_X10, in_X10, by decide, Or.inr ⟨rfl, rfl, rfl, gFin hts in_X10 (k := 27) (by decide) rfl, hts _ q1677⟩, fun _ h => h, rfl, fun D tys hK => gap_X10 hts hK⟩
theorem fp_X10_48_i : gFp "BitingDoorsModel" "<init>" 48 [8] 28 (.array .long) := by
  intro args s hts hN ci hc
  simp only [List.mem_cons, List.not_mem_nil, or_false] at hc
  subst hc
  exact ⟨RX10, TX10, 64, "BitingDoorsModel", gCl_X10, in_X10, by decide, Or.inr ⟨rfl, rfl, rfl, gFin hts in_X10 (k := 28) (by decide) rfl, hts _ q1678⟩, fun _ h => h, rfl, fun D tys hK => gap_X10 hts hK⟩
theorem fp_X10_51_i : gFp "BitingDoorsModel" "<init>" 51 [8] 29 (.array .int) := by
  intro args s hts hN ci hc
  simp only [List.mem_cons, List.not_mem_nil, or_false] at hc
  subst hc
  exact ⟨RX10, TX10, 64, "BitingDoorsModel", gCl_X10, in_X10, by decide, Or.inr ⟨rfl, rfl, rfl, gFin hts in_X10 (k := 29) (by decide) rfl, hts _ q1679⟩, fun _ h => h, rfl, fun D tys hK => gap_X10 hts hK⟩
theorem fp_X10_54_i : gFp "BitingDoorsModel" "<init>" 54 [8] 30 (.array .int) := by
  intro args s hts hN ci hc
  simp only [List.mem_cons, List.not_mem_nil, or_false] at hc
  subst hc
  exact ⟨RX10, TX10, 64, "BitingDoorsModel", gCl_X10, in_X10, by decide, Or.inr ⟨rfl, rfl, rfl, gFin hts in_X10 (k := 30) (by decide) rfl, hts _ q1680⟩, fun _ h => h, rfl, fun D tys hK => gap_X10 hts hK⟩
theorem fp_X10_57_i : gFp "BitingDoorsModel" "<init>" 57 [8] 31 (.array .int) := by
  intro args s hts hN ci hc
  simp only [List.mem_cons, List.not_mem_nil, or_false] at hc
  subst hc
  exact ⟨RX10, TX10, 64, "BitingDoorsModel", gCl_X10, in_X10, by decide, Or.inr ⟨rfl, rfl, rfl, gFin hts in_X10 (k := 31) (by decide) rfl, hts _ q1681⟩, fun _ h => h, rfl, fun D tys hK => gap_X10 hts hK⟩
theorem fp_X10_60_i : gFp "BitingDoorsModel" "<init>" 60 [8] 34 (.array .int) := by
  intro args s hts hN ci hc
  simp only [List.mem_cons, List.not_mem_nil, or_false] at hc
  subst hc
  exact ⟨RX10, TX10, 64, "BitingDoorsModel", gCl_X10, in_X10, by decide, Or.inr ⟨rfl, rfl, rfl, gFin hts in_X10 (k := 34) (by decide) rfl, hts _ q1684⟩, fun _ h => h, rfl, fun D tys hK => gap_X10 hts hK⟩
theorem fp_X10_63_i : gFp "BitingDoorsModel" "<init>" 63 [8] 35 (.array .int) := by
  intro args s hts hN ci hc
  simp only [List.mem_cons, List.not_mem_nil, or_false] at hc
  subst hc
  exact ⟨RX10, TX10, 64, "BitingDoorsModel", gCl_X10, in_X10, by decide, Or.inr ⟨rfl, rfl, rfl, gFin hts in_X10 (k := 35) (by decide) rfl, hts _ q1685⟩, fun _ h => h, rfl, fun D tys hK => gap_X10 hts hK⟩
theorem fp_X10_66_i : gFp "BitingDoorsModel" "<init>" 66 [8] 36 (.array .int) := by
  intro args s hts hN ci hc
  simp only [List.mem_cons, List.not_mem_nil, or_false] at hc
  subst hc
  exact ⟨RX10, TX10, 64, "BitingDoorsModel", gCl_X10, in_X10, by decide, Or.inr ⟨rfl, rfl, rfl, gFin hts in_X10 (k := 36) (by decide) rfl, hts _ q1686⟩, fun _ h => h, rfl, fun D tys hK => gap_X10 hts hK⟩
theorem fp_X10_69_i : gFp "BitingDoorsModel" "<init>" 69 [8] 39 (.array .int) := by
  intro args s hts hN ci hc
  simp only [List.mem_cons, List.not_mem_nil, or_false] at hc
  subst hc
  exact ⟨RX10, TX10, 64, "BitingDoorsModel", gCl_X10, in_X10, by decide, Or.inr ⟨rfl, rfl, rfl, gFin hts in_X10 (k := 39) (by decide) rfl, hts _ q1689⟩, fun _ h => h, rfl, fun D tys hK => gap_X10 hts hK⟩
theorem fp_X10_7_i : gFp "BitingDoorsModel" "<init>" 7 [8] 1 (.array .int) := by
  intro args s hts hN ci hc
  simp only [List.mem_cons, List.not_mem_nil, or_false] at hc
  subst hc
  exact ⟨RX10, TX10, 64, "BitingDoorsModel", gCl_X10, in_X10, by decide, Or.inr ⟨rfl, rfl, rfl, gFin hts in_X10 (k := 1) (by decide) rfl, hts _ q1651⟩, fun _ h => h, rfl, fun D tys hK => gap_X10 hts hK⟩
theorem fp_X10_72_i : gFp "BitingDoorsModel" "<init>" 72 [8] 40 (.array .int) := by
  intro args s hts hN ci hc
  simp only [List.mem_cons, List.not_mem_nil, or_false] at hc
  subst hc
  exact ⟨RX10, TX10, 64, "BitingDoorsModel", gCl_X10, in_X10, by decide, Or.inr ⟨rfl, rfl, rfl, gFin hts in_X10 (k := 40) (by decide) rfl, hts _ q1690⟩, fun _ h => h, rfl, fun D tys hK => gap_X10 hts hK⟩
theorem fp_X10_75_i : gFp "BitingDoorsModel" "<init>" 75 [8] 41 (.array .int) := by
  intro args s hts hN ci hc
  simp only [List.mem_cons, List.not_mem_nil, or_false] at hc
  subst hc
  exact ⟨RX10, TX10, 64, "BitingDoorsModel", gCl_X10, in_X10, by decide, Or.inr ⟨rfl, rfl, rfl, gFin hts in_X10 (k := 41) (by decide) rfl, hts _ q1691⟩, fun _ h => h, rfl, fun D tys hK => gap_X10 hts hK⟩
theorem fp_X10_78_i : gFp "BitingDoorsModel" "<init>" 78 [8] 43 (.array .int) := by
  intro args s hts hN ci hc
  simp only [List.mem_cons, List.not_mem_nil, or_false] at hc
  subst hc
  exact ⟨RX10, TX10, 64, "BitingDoorsModel", gCl_X10, in_X10, by decide, Or.inr ⟨rfl, rfl, rfl, gFin hts in_X10 (k := 43) (by decide) rfl, hts _ q1693⟩, fun _ h => h, rfl, fun D tys hK => gap_X10 hts hK⟩
theorem fp_X10_81_i : gFp "BitingDoorsModel" "<init>" 81 [8] 44 (.array .int) := by
  intro args s hts hN ci hc
  simp only [List.mem_cons, List.not_mem_nil, or_false] at hc
  subst hc
  exact ⟨RX10, TX10, 64, "BitingDoorsModel", gCl_X10, in_X10, by decide, Or.inr ⟨rfl, rfl, rfl, gFin hts in_X10 (k := 44) (by decide) rfl, hts _ q1694⟩, fun _ h => h, rfl, fun D tys hK => gap_X10 hts hK⟩
theorem fp_X10_84_i : gFp "BitingDoorsModel" "<init>" 84 [8] 48 (.array .int) := by
  intro args s hts hN ci hc
  simp only [List.mem_cons, List.not_mem_nil, or_false] at hc
  subst hc
  exact ⟨RX10, TX10, 64, "BitingDoorsModel", gCl_X10, in_X10, by decide, Or.inr ⟨rfl, rfl, rfl, gFin hts in_X10 (k := 48) (by decide) rfl, hts _ q1698⟩, fun _ h => h, rfl, fun D tys hK => gap_X10 hts hK⟩
theorem fp_X10_87_i : gFp "BitingDoorsModel" "<init>" 87 [8] 50 (.array .int) := by
  intro args s hts hN ci hc
  simp only [List.mem_cons, List.not_mem_nil, or_false] at hc
  subst hc
  exact ⟨RX10, TX10, 64, "BitingDoorsModel", gCl_X10, in_X10, by decide, Or.inr ⟨rfl, rfl, rfl, gFin hts in_X10 (k := 50) (by decide) rfl, hts _ q1700⟩, fun _ h => h, rfl, fun D tys hK => gap_X10 hts hK⟩
theorem fp_X10_90_i : gFp "BitingDoorsModel" "<init>" 90 [8] 51 (.array .int) := by
  intro args s hts hN ci hc
  simp only [List.mem_cons, List.not_mem_nil, or_false] at hc
  subst hc
  exact ⟨RX10, TX10, 64, "BitingDoorsModel", gCl_X10, in_X10, by decide, Or.inr ⟨rfl, rfl, rfl, gFin hts in_X10 (k := 51) (by decide) rfl, hts _ q1701⟩, fun _ h => h, rfl, fun D tys hK => gap_X10 hts hK⟩
theorem fp_X10_93_i : gFp "BitingDoorsModel" "<init>" 93 [8] 52 (.array .int) := by
  intro args s hts hN ci hc
  simp only [List.mem_cons, List.not_mem_nil, or_false] at hc
  subst hc
  exact ⟨RX10, TX10, 64, "BitingDoorsModel", gCl_X10, in_X10, by decide, Or.inr ⟨rfl, rfl, rfl, gFin hts in_X10 (k := 52) (by decide) rfl, hts _ q1702⟩, fun _ h => h, rfl, fun D tys hK => gap_X10 hts hK⟩
theorem fp_X10_96_i : gFp "BitingDoorsModel" "<init>" 96 [8] 53 (.array .int) := by
  intro args s hts hN ci hc
  simp only [List.mem_cons, List.not_mem_nil, or_false] at hc
  subst hc
  exact ⟨RX10, TX10, 64, "BitingDoorsModel", gCl_X10, in_X10, by decide, Or.inr ⟨rfl, rfl, rfl, gFin hts in_X10 (k := 53) (by decide) rfl, hts _ q1703⟩, fun _ h => h, rfl, fun D tys hK => gap_X10 hts hK⟩
theorem fp_X10_99_i : gFp "BitingDoorsModel" "<init>" 99 [8] 54 (.array .int) := by
  intro args s hts hN ci hc
  simp only [List.mem_cons, List.not_mem_nil, or_false] at hc
  subst hc
  exact ⟨RX10, TX10, 64, "BitingDoorsModel", gCl_X10, in_X10, by decide, Or.inr ⟨rfl, rfl, rfl, gFin hts in_X10 (k := 54) (by decide) rfl, hts _ q1704⟩, fun _ h => h, rfl, fun D tys hK => gap_X10 hts hK⟩
theorem dn_X10_init : yX10_init.cls ≠ "java/lang/invoke/MethodHandle" ∧ yX10_init.cls ≠ "java/lang/invoke/VarHandle" ∧ (parseMethodDescriptor yX10_init.desc).map (fun d => d.parameters.length) = some 0 := by decide +kernel
noncomputable def M_X10_init (t : Nat) : Mo Unit := Mo.bind (nwI 0 940) (fun q1 => Mo.bind (pF [8] t 1 (.ref q1)) (fun _ => Mo.bind (nwI 0 704) (fun q2 => Mo.bind (pF [8] t 14 (.ref q2)) (fun _ => Mo.bind (nwI 0 330) (fun q3 => Mo.bind (pF [8] t 15 (.ref q3)) (fun _ => Mo.bind (nwI 0 120) (fun q4 => Mo.bind (pF [8] t 16 (.ref q4)) (fun _ => Mo.bind (nwI 0 1408) (fun q5 => Mo.bind (pF [8] t 17 (.ref q5)) (fun _ => Mo.bind (nwL 10) (fun q6 => Mo.bind (pF [8] t 18 (.ref q6)) (fun _ => Mo.bind (nwL 10) (fun q7 => Mo.bind (pF [8] t 19 (.ref q7)) (fun _ => Mo.bind (nwL 20) (fun q8 => Mo.bind (pF [8] t 20 (.ref q8)) (fun _ => Mo.bind (nwI 3 2) (fun q9 => Mo.bind (pF [8] t 21 (.ref q9)) (fun _ => Mo.bind (nwI 0 4) (fun q10 => Mo.bind (pF [8] t 24 (.ref q10)) (fun _ => Mo.bind (nwI 0 4) (fun q11 => Mo.bind (pF [8] t 25 (.ref q11)) (fun _ => Mo.bind (nwL 40) (fun q12 => Mo.bind (pF [8] t 27 (.ref q12)) (fun _ => Mo.bind (nwL 40) (fun q13 => Mo.bind (pF [8] t 28 (.ref q13)) (fun _ => Mo.bind (nwI 0 10) (fun q14 => Mo.bind (pF [8] t 29 (.ref q14)) (fun _ => Mo.bind (nwI 0 10) (fun q15 => Mo.bind (pF [8] t 30 (.ref q15)) (fun _ => Mo.bind (nwI 0 10) (fun q16 => Mo.bind (pF [8] t 31 (.ref q16)) (fun _ => Mo.bind (nwI 0 10) (fun q17 => Mo.bind (pF [8] t 34 (.ref q17)) (fun _ => Mo.bind (nwI 0 10) (fun q18 => Mo.bind (pF [8] t 35 (.ref q18)) (fun _ => Mo.bind (nwI 0 10) (fun q19 => Mo.bind (pF [8] t 36 (.ref q19)) (fun _ => Mo.bind (nwI 0 1024) (fun q20 => Mo.bind (pF [8] t 39 (.ref q20)) (fun _ => Mo.bind (nwI 0 1024) (fun q21 => Mo.bind (pF [8] t 40 (.ref q21)) (fun _ => Mo.bind (nwI 0 10) (fun q22 => Mo.bind (pF [8] t 41 (.ref q22)) (fun _ => Mo.bind (nwI 0 10) (fun q23 => Mo.bind (pF [8] t 43 (.ref q23)) (fun _ => Mo.bind (nwI 0 100) (fun q24 => Mo.bind (pF [8] t 44 (.ref q24)) (fun _ => Mo.bind (nwI 0 5) (fun q25 => Mo.bind (astI 0 q25 0 (-2)) (fun _ => Mo.bind (astI 0 q25 1 (-2)) (fun _ => Mo.bind (astI 0 q25 2 (-2)) (fun _ => Mo.bind (astI 0 q25 3 (-2)) (fun _ => Mo.bind (astI 0 q25 4 (-2)) (fun _ => Mo.bind (pF [8] t 48 (.ref q25)) (fun _ => Mo.bind (nwI 0 24300) (fun q26 => Mo.bind (pF [8] t 50 (.ref q26)) (fun _ => Mo.bind (nwI 0 24300) (fun q27 => Mo.bind (pF [8] t 51 (.ref q27)) (fun _ => Mo.bind (nwI 0 24300) (fun q28 => Mo.bind (pF [8] t 52 (.ref q28)) (fun _ => Mo.bind (nwI 0 24300) (fun q29 => Mo.bind (pF [8] t 53 (.ref q29)) (fun _ => Mo.bind (nwI 0 24300) (fun q30 => Mo.bind (pF [8] t 54 (.ref q30)) (fun _ => Mo.bind (nwI 3 100) (fun q31 => Mo.bind (pF [8] t 58 (.ref q31)) (fun _ => Mo.bind (nwI 0 240) (fun q32 => Mo.bind (pF [8] t 59 (.ref q32)) (fun _ => Mo.pure ())))))))))))))))))))))))))))))))))))))))))))))))))))))))))))))))))))))
set_option maxHeartbeats 4000000 in
theorem ct_X10_init (G : gG) (t : Nat) : gCt G yX10_init cX10_init 1 none 1 20 [.ref t] (M_X10_init t) (fun _ : Unit => none) := by
  refine gCt.of (by decide) (Nat.le_of_ble_eq_true rfl) (fun K r hG X hd ho => ?_)
  subst hG
  have X : gX K cX10_init 1 "BitingDoorsModel" "<init>" none 1 20 := X
  have hle : gLe (kh1 K) (kh1 K) := gLe.rf
  show V K 1 (kh0 K) 0 [(0, .ref t)] []
  generalize kh0 K = h at hd ⊢
  unfold M_X10_init at hd
  refine v_aload_n X dX10_init_0 0 0 rfl rfl ?_
  refine v_objInit X q1649 q152 q153 (Nat.le_of_ble_eq_true rfl) dX10_init_1 (by decide) (by decide) ?_
  refine v_aload_n X dX10_init_4 0 0 rfl rfl ?_
  refine v_sipush (v := 940) X dX10_init_5 (by decide) ?_
  refine v_newI X hd hle 0 rfl rfl rfl (fun _ z => by cases z) (by decide) q317 dX10_init_8 (fun q1 h hd => ?_)
  refine v_put (v := .ref q1) X hd fp_X10_7_i rfl rfl dX10_init_10 (fun h hd => ?_)
  refine v_aload_n X dX10_init_13 0 0 rfl rfl ?_
  refine v_sipush (v := 704) X dX10_init_14 (by decide) ?_
  refine v_newI X hd hle 0 rfl rfl rfl (fun _ z => by cases z) (by decide) q317 dX10_init_17 (fun q2 h hd => ?_)
  refine v_put (v := .ref q2) X hd fp_X10_13_i rfl rfl dX10_init_19 (fun h hd => ?_)
  refine v_aload_n X dX10_init_22 0 0 rfl rfl ?_
  refine v_sipush (v := 330) X dX10_init_23 (by decide) ?_
  refine v_newI X hd hle 0 rfl rfl rfl (fun _ z => by cases z) (by decide) q317 dX10_init_26 (fun q3 h hd => ?_)
  refine v_put (v := .ref q3) X hd fp_X10_16_i rfl rfl dX10_init_28 (fun h hd => ?_)
  refine v_aload_n X dX10_init_31 0 0 rfl rfl ?_
  refine v_bipush (v := 120) X dX10_init_32 (by decide) ?_
  refine v_newI X hd hle 0 rfl rfl rfl (fun _ z => by cases z) (by decide) q317 dX10_init_34 (fun q4 h hd => ?_)
  refine v_put (v := .ref q4) X hd fp_X10_19_i rfl rfl dX10_init_36 (fun h hd => ?_)
  refine v_aload_n X dX10_init_39 0 0 rfl rfl ?_
  refine v_sipush (v := 1408) X dX10_init_40 (by decide) ?_
  refine v_newI X hd hle 0 rfl rfl rfl (fun _ z => by cases z) (by decide) q317 dX10_init_43 (fun q5 h hd => ?_)
  refine v_put (v := .ref q5) X hd fp_X10_22_i rfl rfl dX10_init_45 (fun h hd => ?_)
  refine v_aload_n X dX10_init_48 0 0 rfl rfl ?_
  refine v_bipush (v := 10) X dX10_init_49 (by decide) ?_
  refine v_newL X hd hle q1843 dX10_init_51 (fun q6 h hd => ?_)
  refine v_put (v := .ref q6) X hd fp_X10_25_i rfl rfl dX10_init_53 (fun h hd => ?_)
  refine v_aload_n X dX10_init_56 0 0 rfl rfl ?_
  refine v_bipush (v := 10) X dX10_init_57 (by decide) ?_
  refine v_newL X hd hle q1843 dX10_init_59 (fun q7 h hd => ?_)
  refine v_put (v := .ref q7) X hd fp_X10_29_i rfl rfl dX10_init_61 (fun h hd => ?_)
  refine v_aload_n X dX10_init_64 0 0 rfl rfl ?_
  refine v_bipush (v := 20) X dX10_init_65 (by decide) ?_
  refine v_newL X hd hle q1843 dX10_init_67 (fun q8 h hd => ?_)
  refine v_put (v := .ref q8) X hd fp_X10_32_i rfl rfl dX10_init_69 (fun h hd => ?_)
  refine v_aload_n X dX10_init_72 0 0 rfl rfl ?_
  refine v_iconst (v := 2) X dX10_init_73 (by decide) ?_
  refine v_newI X hd hle 3 rfl rfl rfl (fun _ z => by cases z) (by decide) q487 dX10_init_74 (fun q9 h hd => ?_)
  refine v_put (v := .ref q9) X hd fp_X10_35_i rfl rfl dX10_init_76 (fun h hd => ?_)
  refine v_aload_n X dX10_init_79 0 0 rfl rfl ?_
  refine v_iconst (v := 4) X dX10_init_80 (by decide) ?_
  refine v_newI X hd hle 0 rfl rfl rfl (fun _ z => by cases z) (by decide) q317 dX10_init_81 (fun q10 h hd => ?_)
  refine v_put (v := .ref q10) X hd fp_X10_39_i rfl rfl dX10_init_83 (fun h hd => ?_)
  refine v_aload_n X dX10_init_86 0 0 rfl rfl ?_
  refine v_iconst (v := 4) X dX10_init_87 (by decide) ?_
  refine v_newI X hd hle 0 rfl rfl rfl (fun _ z => by cases z) (by decide) q317 dX10_init_88 (fun q11 h hd => ?_)
  refine v_put (v := .ref q11) X hd fp_X10_42_i rfl rfl dX10_init_90 (fun h hd => ?_)
  refine v_aload_n X dX10_init_93 0 0 rfl rfl ?_
  refine v_bipush (v := 40) X dX10_init_94 (by decide) ?_
  refine v_newL X hd hle q1843 dX10_init_96 (fun q12 h hd => ?_)
  refine v_put (v := .ref q12) X hd fp_X10_45_i rfl rfl dX10_init_98 (fun h hd => ?_)
  refine v_aload_n X dX10_init_101 0 0 rfl rfl ?_
  refine v_bipush (v := 40) X dX10_init_102 (by decide) ?_
  refine v_newL X hd hle q1843 dX10_init_104 (fun q13 h hd => ?_)
  refine v_put (v := .ref q13) X hd fp_X10_48_i rfl rfl dX10_init_106 (fun h hd => ?_)
  refine v_aload_n X dX10_init_109 0 0 rfl rfl ?_
  refine v_bipush (v := 10) X dX10_init_110 (by decide) ?_
  refine v_newI X hd hle 0 rfl rfl rfl (fun _ z => by cases z) (by decide) q317 dX10_init_112 (fun q14 h hd => ?_)
  refine v_put (v := .ref q14) X hd fp_X10_51_i rfl rfl dX10_init_114 (fun h hd => ?_)
  refine v_aload_n X dX10_init_117 0 0 rfl rfl ?_
  refine v_bipush (v := 10) X dX10_init_118 (by decide) ?_
  refine v_newI X hd hle 0 rfl rfl rfl (fun _ z => by cases z) (by decide) q317 dX10_init_120 (fun q15 h hd => ?_)
  refine v_put (v := .ref q15) X hd fp_X10_54_i rfl rfl dX10_init_122 (fun h hd => ?_)
  refine v_aload_n X dX10_init_125 0 0 rfl rfl ?_
  refine v_bipush (v := 10) X dX10_init_126 (by decide) ?_
  refine v_newI X hd hle 0 rfl rfl rfl (fun _ z => by cases z) (by decide) q317 dX10_init_128 (fun q16 h hd => ?_)
  refine v_put (v := .ref q16) X hd fp_X10_57_i rfl rfl dX10_init_130 (fun h hd => ?_)
  refine v_aload_n X dX10_init_133 0 0 rfl rfl ?_
  refine v_bipush (v := 10) X dX10_init_134 (by decide) ?_
  refine v_newI X hd hle 0 rfl rfl rfl (fun _ z => by cases z) (by decide) q317 dX10_init_136 (fun q17 h hd => ?_)
  refine v_put (v := .ref q17) X hd fp_X10_60_i rfl rfl dX10_init_138 (fun h hd => ?_)
  refine v_aload_n X dX10_init_141 0 0 rfl rfl ?_
  refine v_bipush (v := 10) X dX10_init_142 (by decide) ?_
  refine v_newI X hd hle 0 rfl rfl rfl (fun _ z => by cases z) (by decide) q317 dX10_init_144 (fun q18 h hd => ?_)
  refine v_put (v := .ref q18) X hd fp_X10_63_i rfl rfl dX10_init_146 (fun h hd => ?_)
  refine v_aload_n X dX10_init_149 0 0 rfl rfl ?_
  refine v_bipush (v := 10) X dX10_init_150 (by decide) ?_
  refine v_newI X hd hle 0 rfl rfl rfl (fun _ z => by cases z) (by decide) q317 dX10_init_152 (fun q19 h hd => ?_)
  refine v_put (v := .ref q19) X hd fp_X10_66_i rfl rfl dX10_init_154 (fun h hd => ?_)
  refine v_aload_n X dX10_init_157 0 0 rfl rfl ?_
  refine v_sipush (v := 1024) X dX10_init_158 (by decide) ?_
  refine v_newI X hd hle 0 rfl rfl rfl (fun _ z => by cases z) (by decide) q317 dX10_init_161 (fun q20 h hd => ?_)
  refine v_put (v := .ref q20) X hd fp_X10_69_i rfl rfl dX10_init_163 (fun h hd => ?_)
  refine v_aload_n X dX10_init_166 0 0 rfl rfl ?_
  refine v_sipush (v := 1024) X dX10_init_167 (by decide) ?_
  refine v_newI X hd hle 0 rfl rfl rfl (fun _ z => by cases z) (by decide) q317 dX10_init_170 (fun q21 h hd => ?_)
  refine v_put (v := .ref q21) X hd fp_X10_72_i rfl rfl dX10_init_172 (fun h hd => ?_)
  refine v_aload_n X dX10_init_175 0 0 rfl rfl ?_
  refine v_bipush (v := 10) X dX10_init_176 (by decide) ?_
  refine v_newI X hd hle 0 rfl rfl rfl (fun _ z => by cases z) (by decide) q317 dX10_init_178 (fun q22 h hd => ?_)
  refine v_put (v := .ref q22) X hd fp_X10_75_i rfl rfl dX10_init_180 (fun h hd => ?_)
  refine v_aload_n X dX10_init_183 0 0 rfl rfl ?_
  refine v_bipush (v := 10) X dX10_init_184 (by decide) ?_
  refine v_newI X hd hle 0 rfl rfl rfl (fun _ z => by cases z) (by decide) q317 dX10_init_186 (fun q23 h hd => ?_)
  refine v_put (v := .ref q23) X hd fp_X10_78_i rfl rfl dX10_init_188 (fun h hd => ?_)
  refine v_aload_n X dX10_init_191 0 0 rfl rfl ?_
  refine v_bipush (v := 100) X dX10_init_192 (by decide) ?_
  refine v_newI X hd hle 0 rfl rfl rfl (fun _ z => by cases z) (by decide) q317 dX10_init_194 (fun q24 h hd => ?_)
  refine v_put (v := .ref q24) X hd fp_X10_81_i rfl rfl dX10_init_196 (fun h hd => ?_)
  refine v_aload_n X dX10_init_199 0 0 rfl rfl ?_
  refine v_iconst (v := 5) X dX10_init_200 (by decide) ?_
  refine v_newI X hd hle 0 rfl rfl rfl (fun _ z => by cases z) (by decide) q317 dX10_init_201 (fun q25 h hd => ?_)
  refine v_dup X dX10_init_203 rfl ?_
  refine v_iconst (v := 0) X dX10_init_204 (by decide) ?_
  refine v_bipush (v := (-2)) X dX10_init_205 (by decide) ?_
  refine v_iast X hd dX10_init_207 (fun h hd => ?_)
  refine v_dup X dX10_init_208 rfl ?_
  refine v_iconst (v := 1) X dX10_init_209 (by decide) ?_
  refine v_bipush (v := (-2)) X dX10_init_210 (by decide) ?_
  refine v_iast X hd dX10_init_212 (fun h hd => ?_)
  refine v_dup X dX10_init_213 rfl ?_
  refine v_iconst (v := 2) X dX10_init_214 (by decide) ?_
  refine v_bipush (v := (-2)) X dX10_init_215 (by decide) ?_
  refine v_iast X hd dX10_init_217 (fun h hd => ?_)
  refine v_dup X dX10_init_218 rfl ?_
  refine v_iconst (v := 3) X dX10_init_219 (by decide) ?_
  refine v_bipush (v := (-2)) X dX10_init_220 (by decide) ?_
  refine v_iast X hd dX10_init_222 (fun h hd => ?_)
  refine v_dup X dX10_init_223 rfl ?_
  refine v_iconst (v := 4) X dX10_init_224 (by decide) ?_
  refine v_bipush (v := (-2)) X dX10_init_225 (by decide) ?_
  refine v_iast X hd dX10_init_227 (fun h hd => ?_)
  refine v_put (v := .ref q25) X hd fp_X10_84_i rfl rfl dX10_init_228 (fun h hd => ?_)
  refine v_aload_n X dX10_init_231 0 0 rfl rfl ?_
  refine v_sipush (v := 24300) X dX10_init_232 (by decide) ?_
  refine v_newI X hd hle 0 rfl rfl rfl (fun _ z => by cases z) (by decide) q317 dX10_init_235 (fun q26 h hd => ?_)
  refine v_put (v := .ref q26) X hd fp_X10_87_i rfl rfl dX10_init_237 (fun h hd => ?_)
  refine v_aload_n X dX10_init_240 0 0 rfl rfl ?_
  refine v_sipush (v := 24300) X dX10_init_241 (by decide) ?_
  refine v_newI X hd hle 0 rfl rfl rfl (fun _ z => by cases z) (by decide) q317 dX10_init_244 (fun q27 h hd => ?_)
  refine v_put (v := .ref q27) X hd fp_X10_90_i rfl rfl dX10_init_246 (fun h hd => ?_)
  refine v_aload_n X dX10_init_249 0 0 rfl rfl ?_
  refine v_sipush (v := 24300) X dX10_init_250 (by decide) ?_
  refine v_newI X hd hle 0 rfl rfl rfl (fun _ z => by cases z) (by decide) q317 dX10_init_253 (fun q28 h hd => ?_)
  refine v_put (v := .ref q28) X hd fp_X10_93_i rfl rfl dX10_init_255 (fun h hd => ?_)
  refine v_aload_n X dX10_init_258 0 0 rfl rfl ?_
  refine v_sipush (v := 24300) X dX10_init_259 (by decide) ?_
  refine v_newI X hd hle 0 rfl rfl rfl (fun _ z => by cases z) (by decide) q317 dX10_init_262 (fun q29 h hd => ?_)
  refine v_put (v := .ref q29) X hd fp_X10_96_i rfl rfl dX10_init_264 (fun h hd => ?_)
  refine v_aload_n X dX10_init_267 0 0 rfl rfl ?_
  refine v_sipush (v := 24300) X dX10_init_268 (by decide) ?_
  refine v_newI X hd hle 0 rfl rfl rfl (fun _ z => by cases z) (by decide) q317 dX10_init_271 (fun q30 h hd => ?_)
  refine v_put (v := .ref q30) X hd fp_X10_99_i rfl rfl dX10_init_273 (fun h hd => ?_)
  refine v_aload_n X dX10_init_276 0 0 rfl rfl ?_
  refine v_bipush (v := 100) X dX10_init_277 (by decide) ?_
  refine v_newI X hd hle 3 rfl rfl rfl (fun _ z => by cases z) (by decide) q487 dX10_init_279 (fun q31 h hd => ?_)
  refine v_put (v := .ref q31) X hd fp_X10_102_i rfl rfl dX10_init_281 (fun h hd => ?_)
  refine v_aload_n X dX10_init_284 0 0 rfl rfl ?_
  refine v_sipush (v := 240) X dX10_init_285 (by decide) ?_
  refine v_newI X hd hle 0 rfl rfl rfl (fun _ z => by cases z) (by decide) q317 dX10_init_288 (fun q32 h hd => ?_)
  refine v_put (v := .ref q32) X hd fp_X10_105_i rfl rfl dX10_init_290 (fun h hd => ?_)
  exact v_vret X hd ho dX10_init_293
