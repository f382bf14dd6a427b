set_option maxRecDepth 100000
def dkwX25_init_12 : List UInt8 := [181, 0, 111, 177]
abbrev dktX25_init_12 : List UInt8 := dkwX25_init_12 ++ []
def dkwX25_init_11 : List UInt8 := [17, 10, 144, 188, 4, 181, 0, 105, 42, 17, 10, 144, 188, 11, 181, 0, 108, 42, 17, 0, 169, 188, 4]
abbrev dktX25_init_11 : List UInt8 := dkwX25_init_11 ++ dktX25_init_12
def dkwX25_init_10 : List UInt8 := [188, 11, 181, 0, 96, 42, 16, 85, 188, 10, 181, 0, 99, 42, 17, 0, 169, 188, 10, 181, 0, 102, 42]
abbrev dktX25_init_10 : List UInt8 := dkwX25_init_10 ++ dktX25_init_11
def dkwX25_init_9 : List UInt8 := [181, 0, 87, 42, 17, 3, 252, 188, 4, 181, 0, 90, 42, 16, 85, 188, 10, 181, 0, 93, 42, 17, 19, 236]
abbrev dktX25_init_9 : List UInt8 := dkwX25_init_9 ++ dktX25_init_10
def dkwX25_init_8 : List UInt8 := [17, 2, 168, 188, 11, 181, 0, 81, 42, 17, 2, 168, 188, 4, 181, 0, 84, 42, 17, 3, 252, 188, 11]
abbrev dktX25_init_8 : List UInt8 := dkwX25_init_8 ++ dktX25_init_9
def dkwX25_init_7 : List UInt8 := [16, 85, 188, 4, 181, 0, 71, 42, 16, 85, 188, 11, 181, 0, 75, 42, 16, 85, 188, 4, 181, 0, 78, 42]
abbrev dktX25_init_7 : List UInt8 := dkwX25_init_7 ++ dktX25_init_8
def dkwX25_init_6 : List UInt8 := [16, 85, 188, 10, 181, 0, 62, 42, 16, 85, 188, 10, 181, 0, 65, 42, 16, 85, 188, 11, 181, 0, 68, 42]
abbrev dktX25_init_6 : List UInt8 := dkwX25_init_6 ++ dktX25_init_7
def dkwX25_init_5 : List UInt8 := [16, 85, 188, 10, 181, 0, 53, 42, 16, 85, 188, 10, 181, 0, 56, 42, 16, 85, 188, 10, 181, 0, 59, 42]
abbrev dktX25_init_5 : List UInt8 := dkwX25_init_5 ++ dktX25_init_6
def dkwX25_init_4 : List UInt8 := [16, 85, 188, 10, 181, 0, 44, 42, 16, 85, 188, 10, 181, 0, 47, 42, 16, 85, 188, 10, 181, 0, 50, 42]
abbrev dktX25_init_4 : List UInt8 := dkwX25_init_4 ++ dktX25_init_5
def dkwX25_init_3 : List UInt8 := [16, 85, 188, 10, 181, 0, 35, 42, 16, 85, 188, 10, 181, 0, 38, 42, 16, 85, 188, 10, 181, 0, 41, 42]
abbrev dktX25_init_3 : List UInt8 := dkwX25_init_3 ++ dktX25_init_4
def dkwX25_init_2 : List UInt8 := [16, 48, 188, 10, 181, 0, 25, 42, 16, 16, 188, 10, 181, 0, 28, 42, 16, 12, 188, 11, 181, 0, 31, 42]
abbrev dktX25_init_2 : List UInt8 := dkwX25_init_2 ++ dktX25_init_3
def dkwX25_init_1 : List UInt8 := [17, 1, 64, 188, 10, 181, 0, 16, 42, 7, 188, 10, 181, 0, 19, 42, 16, 48, 188, 10, 181, 0, 22, 42]
abbrev dktX25_init_1 : List UInt8 := dkwX25_init_1 ++ dktX25_init_2
def dkwX25_init_0 : List UInt8 := [42, 183, 0, 1, 42, 16, 8, 188, 10, 181, 0, 7, 42, 17, 1, 64, 188, 10, 181, 0, 13, 42]
abbrev dktX25_init_0 : List UInt8 := dkwX25_init_0 ++ dktX25_init_1
theorem dksX25_init_0 : cX25_init.data.toList.drop 0 = dktX25_init_0 := by decide +kernel
theorem dksX25_init_1 : cX25_init.data.toList.drop 22 = dktX25_init_1 := dk_seg dksX25_init_0 22 rfl rfl
theorem dksX25_init_2 : cX25_init.data.toList.drop 46 = dktX25_init_2 := dk_seg dksX25_init_1 24 rfl rfl
theorem dksX25_init_3 : cX25_init.data.toList.drop 70 = dktX25_init_3 := dk_seg dksX25_init_2 24 rfl rfl
theorem dksX25_init_4 : cX25_init.data.toList.drop 94 = dktX25_init_4 := dk_seg dksX25_init_3 24 rfl rfl
theorem dksX25_init_5 : cX25_init.data.toList.drop 118 = dktX25_init_5 := dk_seg dksX25_init_4 24 rfl rfl
theorem dksX25_init_6 : cX25_init.data.toList.drop 142 = dktX25_init_6 := dk_seg dksX25_init_5 24 rfl rfl
theorem dksX25_init_7 : cX25_init.data.toList.drop 166 = dktX25_init_7 := dk_seg dksX25_init_6 24 rfl rfl
theorem dksX25_init_8 : cX25_init.data.toList.drop 190 = dktX25_init_8 := dk_seg dksX25_init_7 24 rfl rfl
theorem dksX25_init_9 : cX25_init.data.toList.drop 213 = dktX25_init_9 := dk_seg dksX25_init_8 23 rfl rfl
theorem dksX25_init_10 : cX25_init.data.toList.drop 237 = dktX25_init_10 := dk_seg dksX25_init_9 24 rfl rfl
theorem dksX25_init_11 : cX25_init.data.toList.drop 260 = dktX25_init_11 := dk_seg dksX25_init_10 23 rfl rfl
theorem dksX25_init_12 : cX25_init.data.toList.drop 283 = dktX25_init_12 := dk_seg dksX25_init_11 23 rfl rfl
theorem dX25_init_0 : decode cX25_init 0 = .ok (.aload_n 0, 1) := dk_42 (dk_at dksX25_init_0 0 rfl rfl)
theorem dX25_init_1 : decode cX25_init 1 = .ok (.invokespecial 1, 3) := dk_183 0 1 (dk_at dksX25_init_0 1 rfl rfl)
theorem dX25_init_4 : decode cX25_init 4 = .ok (.aload_n 0, 1) := dk_42 (dk_at dksX25_init_0 4 rfl rfl)
theorem dX25_init_5 : decode cX25_init 5 = .ok (.bipush 8, 2) := dk_16 8 (dk_at dksX25_init_0 5 rfl rfl)
theorem dX25_init_7 : decode cX25_init 7 = .ok (.newarray .int, 2) := dk_188_10 (dk_at dksX25_init_0 7 rfl rfl)
theorem dX25_init_9 : decode cX25_init 9 = .ok (.putfield 7, 3) := dk_181 0 7 (dk_at dksX25_init_0 9 rfl rfl)
theorem dX25_init_12 : decode cX25_init 12 = .ok (.aload_n 0, 1) := dk_42 (dk_at dksX25_init_0 12 rfl rfl)
theorem dX25_init_13 : decode cX25_init 13 = .ok (.sipush 320, 3) := dk_17 1 64 (dk_at dksX25_init_0 13 rfl rfl)
theorem dX25_init_16 : decode cX25_init 16 = .ok (.newarray .int, 2) := dk_188_10 (dk_at dksX25_init_0 16 rfl rfl)
theorem dX25_init_18 : decode cX25_init 18 = .ok (.putfield 13, 3) := dk_181 0 13 (dk_at dksX25_init_0 18 rfl rfl)
theorem dX25_init_21 : decode cX25_init 21 = .ok (.aload_n 0, 1) := dk_42 (dk_at dksX25_init_0 21 rfl rfl)
theorem dX25_init_22 : decode cX25_init 22 = .ok (.sipush 320, 3) := dk_17 1 64 (dk_at dksX25_init_1 0 rfl rfl)
theorem dX25_init_25 : decode cX25_init 25 = .ok (.newarray .int, 2) := dk_188_10 (dk_at dksX25_init_1 3 rfl rfl)
theorem dX25_init_27 : decode cX25_init 27 = .ok (.putfield 16, 3) := dk_181 0 16 (dk_at dksX25_init_1 5 rfl rfl)
theorem dX25_init_30 : decode cX25_init 30 = .ok (.aload_n 0, 1) := dk_42 (dk_at dksX25_init_1 8 rfl rfl)
theorem dX25_init_31 : decode cX25_init 31 = .ok (.iconst 4, 1) := dk_7 (dk_at dksX25_init_1 9 rfl rfl)
theorem dX25_init_32 : decode cX25_init 32 = .ok (.newarray .int, 2) := dk_188_10 (dk_at dksX25_init_1 10 rfl rfl)
theorem dX25_init_34 : decode cX25_init 34 = .ok (.putfield 19, 3) := dk_181 0 19 (dk_at dksX25_init_1 12 rfl rfl)
theorem dX25_init_37 : decode cX25_init 37 = .ok (.aload_n 0, 1) := dk_42 (dk_at dksX25_init_1 15 rfl rfl)
theorem dX25_init_38 : decode cX25_init 38 = .ok (.bipush 48, 2) := dk_16 48 (dk_at dksX25_init_1 16 rfl rfl)
theorem dX25_init_40 : decode cX25_init 40 = .ok (.newarray .int, 2) := dk_188_10 (dk_at dksX25_init_1 18 rfl rfl)
theorem dX25_init_42 : decode cX25_init 42 = .ok (.putfield 22, 3) := dk_181 0 22 (dk_at dksX25_init_1 20 rfl rfl)
theorem dX25_init_45 : decode cX25_init 45 = .ok (.aload_n 0, 1) := dk_42 (dk_at dksX25_init_1 23 rfl rfl)
theorem dX25_init_46 : decode cX25_init 46 = .ok (.bipush 48, 2) := dk_16 48 (dk_at dksX25_init_2 0 rfl rfl)
theorem dX25_init_48 : decode cX25_init 48 = .ok (.newarray .int, 2) := dk_188_10 (dk_at dksX25_init_2 2 rfl rfl)
theorem dX25_init_50 : decode cX25_init 50 = .ok (.putfield 25, 3) := dk_181 0 25 (dk_at dksX25_init_2 4 rfl rfl)
theorem dX25_init_53 : decode cX25_init 53 = .ok (.aload_n 0, 1) := dk_42 (dk_at dksX25_init_2 7 rfl rfl)
theorem dX25_init_54 : decode cX25_init 54 = .ok (.bipush 16, 2) := dk_16 16 (dk_at dksX25_init_2 8 rfl rfl)
theorem dX25_init_56 : decode cX25_init 56 = .ok (.newarray .int, 2) := dk_188_10 (dk_at dksX25_init_2 10 rfl rfl)
theorem dX25_init_58 : decode cX25_init 58 = .ok (.putfield 28, 3) := dk_181 0 28 (dk_at dksX25_init_2 12 rfl rfl)
theorem dX25_init_61 : decode cX25_init 61 = .ok (.aload_n 0, 1) := dk_42 (dk_at dksX25_init_2 15 rfl rfl)
theorem dX25_init_62 : decode cX25_init 62 = .ok (.bipush 12, 2) := dk_16 12 (dk_at dksX25_init_2 16 rfl rfl)
theorem dX25_init_64 : decode cX25_init 64 = .ok (.newarray .long, 2) := dk_188_11 (dk_at dksX25_init_2 18 rfl rfl)
theorem dX25_init_66 : decode cX25_init 66 = .ok (.putfield 31, 3) := dk_181 0 31 (dk_at dksX25_init_2 20 rfl rfl)
theorem dX25_init_69 : decode cX25_init 69 = .ok (.aload_n 0, 1) := dk_42 (dk_at dksX25_init_2 23 rfl rfl)
theorem dX25_init_70 : decode cX25_init 70 = .ok (.bipush 85, 2) := dk_16 85 (dk_at dksX25_init_3 0 rfl rfl)
theorem dX25_init_72 : decode cX25_init 72 = .ok (.newarray .int, 2) := dk_188_10 (dk_at dksX25_init_3 2 rfl rfl)
theorem dX25_init_74 : decode cX25_init 74 = .ok (.putfield 35, 3) := dk_181 0 35 (dk_at dksX25_init_3 4 rfl rfl)
theorem dX25_init_77 : decode cX25_init 77 = .ok (.aload_n 0, 1) := dk_42 (dk_at dksX25_init_3 7 rfl rfl)
theorem dX25_init_78 : decode cX25_init 78 = .ok (.bipush 85, 2) := dk_16 85 (dk_at dksX25_init_3 8 rfl rfl)
theorem dX25_init_80 : decode cX25_init 80 = .ok (.newarray .int, 2) := dk_188_10 (dk_at dksX25_init_3 10 rfl rfl)
theorem dX25_init_82 : decode cX25_init 82 = .ok (.putfield 38, 3) := dk_181 0 38 (dk_at dksX25_init_3 12 rfl rfl)
theorem dX25_init_85 : decode cX25_init 85 = .ok (.aload_n 0, 1) := dk_42 (dk_at dksX25_init_3 15 rfl rfl)
theorem dX25_init_86 : decode cX25_init 86 = .ok (.bipush 85, 2) := dk_16 85 (dk_at dksX25_init_3 16 rfl rfl)
theorem dX25_init_88 : decode cX25_init 88 = .ok (.newarray .int, 2) := dk_188_10 (dk_at dksX25_init_3 18 rfl rfl)
theorem dX25_init_90 : decode cX25_init 90 = .ok (.putfield 41, 3) := dk_181 0 41 (dk_at dksX25_init_3 20 rfl rfl)
theorem dX25_init_93 : decode cX25_init 93 = .ok (.aload_n 0, 1) := dk_42 (dk_at dksX25_init_3 23 rfl rfl)
theorem dX25_init_94 : decode cX25_init 94 = .ok (.bipush 85, 2) := dk_16 85 (dk_at dksX25_init_4 0 rfl rfl)
theorem dX25_init_96 : decode cX25_init 96 = .ok (.newarray .int, 2) := dk_188_10 (dk_at dksX25_init_4 2 rfl rfl)
theorem dX25_init_98 : decode cX25_init 98 = .ok (.putfield 44, 3) := dk_181 0 44 (dk_at dksX25_init_4 4 rfl rfl)
theorem dX25_init_101 : decode cX25_init 101 = .ok (.aload_n 0, 1) := dk_42 (dk_at dksX25_init_4 7 rfl rfl)
theorem dX25_init_102 : decode cX25_init 102 = .ok (.bipush 85, 2) := dk_16 85 (dk_at dksX25_init_4 8 rfl rfl)
theorem dX25_init_104 : decode cX25_init 104 = .ok (.newarray .int, 2) := dk_188_10 (dk_at dksX25_init_4 10 rfl rfl)
theorem dX25_init_106 : decode cX25_init 106 = .ok (.putfield 47, 3) := dk_181 0 47 (dk_at dksX25_init_4 12 rfl rfl)
theorem dX25_init_109 : decode cX25_init 109 = .ok (.aload_n 0, 1) := dk_42 (dk_at dksX25_init_4 15 rfl rfl)
theorem dX25_init_110 : decode cX25_init 110 = .ok (.bipush 85, 2) := dk_16 85 (dk_at dksX25_init_4 16 rfl rfl)
theorem dX25_init_112 : decode cX25_init 112 = .ok (.newarray .int, 2) := dk_188_10 (dk_at dksX25_init_4 18 rfl rfl)
theorem dX25_init_114 : decode cX25_init 114 = .ok (.putfield 50, 3) := dk_181 0 50 (dk_at dksX25_init_4 20 rfl rfl)
theorem dX25_init_117 : decode cX25_init 117 = .ok (.aload_n 0, 1) := dk_42 (dk_at dksX25_init_4 23 rfl rfl)
theorem dX25_init_118 : decode cX25_init 118 = .ok (.bipush 85, 2) := dk_16 85 (dk_at dksX25_init_5 0 rfl rfl)
theorem dX25_init_120 : decode cX25_init 120 = .ok (.newarray .int, 2) := dk_188_10 (dk_at dksX25_init_5 2 rfl rfl)
theorem dX25_init_122 : decode cX25_init 122 = .ok (.putfield 53, 3) := dk_181 0 53 (dk_at dksX25_init_5 4 rfl rfl)
theorem dX25_init_125 : decode cX25_init 125 = .ok (.aload_n 0, 1) := dk_42 (dk_at dksX25_init_5 7 rfl rfl)
theorem dX25_init_126 : decode cX25_init 126 = .ok (.bipush 85, 2) := dk_16 85 (dk_at dksX25_init_5 8 rfl rfl)
theorem dX25_init_128 : decode cX25_init 128 = .ok (.newarray .int, 2) := dk_188_10 (dk_at dksX25_init_5 10 rfl rfl)
theorem dX25_init_130 : decode cX25_init 130 = .ok (.putfield 56, 3) := dk_181 0 56 (dk_at dksX25_init_5 12 rfl rfl)
theorem dX25_init_133 : decode cX25_init 133 = .ok (.aload_n 0, 1) := dk_42 (dk_at dksX25_init_5 15 rfl rfl)
theorem dX25_init_134 : decode cX25_init 134 = .ok (.bipush 85, 2) := dk_16 85 (dk_at dksX25_init_5 16 rfl rfl)
theorem dX25_init_136 : decode cX25_init 136 = .ok (.newarray .int, 2) := dk_188_10 (dk_at dksX25_init_5 18 rfl rfl)
theorem dX25_init_138 : decode cX25_init 138 = .ok (.putfield 59, 3) := dk_181 0 59 (dk_at dksX25_init_5 20 rfl rfl)
theorem dX25_init_141 : decode cX25_init 141 = .ok (.aload_n 0, 1) := dk_42 (dk_at dksX25_init_5 23 rfl rfl)
theorem dX25_init_142 : decode cX25_init 142 = .ok (.bipush 85, 2) := dk_16 85 (dk_at dksX25_init_6 0 rfl rfl)
theorem dX25_init_144 : decode cX25_init 144 = .ok (.newarray .int, 2) := dk_188_10 (dk_at dksX25_init_6 2 rfl rfl)
theorem dX25_init_146 : decode cX25_init 146 = .ok (.putfield 62, 3) := dk_181 0 62 (dk_at dksX25_init_6 4 rfl rfl)
theorem dX25_init_149 : decode cX25_init 149 = .ok (.aload_n 0, 1) := dk_42 (dk_at dksX25_init_6 7 rfl rfl)
theorem dX25_init_150 : decode cX25_init 150 = .ok (.bipush 85, 2) := dk_16 85 (dk_at dksX25_init_6 8 rfl rfl)
theorem dX25_init_152 : decode cX25_init 152 = .ok (.newarray .int, 2) := dk_188_10 (dk_at dksX25_init_6 10 rfl rfl)
theorem dX25_init_154 : decode cX25_init 154 = .ok (.putfield 65, 3) := dk_181 0 65 (dk_at dksX25_init_6 12 rfl rfl)
theorem dX25_init_157 : decode cX25_init 157 = .ok (.aload_n 0, 1) := dk_42 (dk_at dksX25_init_6 15 rfl rfl)
theorem dX25_init_158 : decode cX25_init 158 = .ok (.bipush 85, 2) := dk_16 85 (dk_at dksX25_init_6 16 rfl rfl)
theorem dX25_init_160 : decode cX25_init 160 = .ok (.newarray .long, 2) := dk_188_11 (dk_at dksX25_init_6 18 rfl rfl)
theorem dX25_init_162 : decode cX25_init 162 = .ok (.putfield 68, 3) := dk_181 0 68 (dk_at dksX25_init_6 20 rfl rfl)
theorem dX25_init_165 : decode cX25_init 165 = .ok (.aload_n 0, 1) := dk_42 (dk_at dksX25_init_6 23 rfl rfl)
theorem dX25_init_166 : decode cX25_init 166 = .ok (.bipush 85, 2) := dk_16 85 (dk_at dksX25_init_7 0 rfl rfl)
theorem dX25_init_168 : decode cX25_init 168 = .ok (.newarray .boolean, 2) := dk_188_4 (dk_at dksX25_init_7 2 rfl rfl)
theorem dX25_init_170 : decode cX25_init 170 = .ok (.putfield 71, 3) := dk_181 0 71 (dk_at dksX25_init_7 4 rfl rfl)
theorem dX25_init_173 : decode cX25_init 173 = .ok (.aload_n 0, 1) := dk_42 (dk_at dksX25_init_7 7 rfl rfl)
theorem dX25_init_174 : decode cX25_init 174 = .ok (.bipush 85, 2) := dk_16 85 (dk_at dksX25_init_7 8 rfl rfl)
theorem dX25_init_176 : decode cX25_init 176 = .ok (.newarray .long, 2) := dk_188_11 (dk_at dksX25_init_7 10 rfl rfl)
theorem dX25_init_178 : decode cX25_init 178 = .ok (.putfield 75, 3) := dk_181 0 75 (dk_at dksX25_init_7 12 rfl rfl)
theorem dX25_init_181 : decode cX25_init 181 = .ok (.aload_n 0, 1) := dk_42 (dk_at dksX25_init_7 15 rfl rfl)
theorem dX25_init_182 : decode cX25_init 182 = .ok (.bipush 85, 2) := dk_16 85 (dk_at dksX25_init_7 16 rfl rfl)
theorem dX25_init_184 : decode cX25_init 184 = .ok (.newarray .boolean, 2) := dk_188_4 (dk_at dksX25_init_7 18 rfl rfl)
theorem dX25_init_186 : decode cX25_init 186 = .ok (.putfield 78, 3) := dk_181 0 78 (dk_at dksX25_init_7 20 rfl rfl)
theorem dX25_init_189 : decode cX25_init 189 = .ok (.aload_n 0, 1) := dk_42 (dk_at dksX25_init_7 23 rfl rfl)
theorem dX25_init_190 : decode cX25_init 190 = .ok (.sipush 680, 3) := dk_17 2 168 (dk_at dksX25_init_8 0 rfl rfl)
theorem dX25_init_193 : decode cX25_init 193 = .ok (.newarray .long, 2) := dk_188_11 (dk_at dksX25_init_8 3 rfl rfl)
theorem dX25_init_195 : decode cX25_init 195 = .ok (.putfield 81, 3) := dk_181 0 81 (dk_at dksX25_init_8 5 rfl rfl)
theorem dX25_init_198 : decode cX25_init 198 = .ok (.aload_n 0, 1) := dk_42 (dk_at dksX25_init_8 8 rfl rfl)
theorem dX25_init_199 : decode cX25_init 199 = .ok (.sipush 680, 3) := dk_17 2 168 (dk_at dksX25_init_8 9 rfl rfl)
theorem dX25_init_202 : decode cX25_init 202 = .ok (.newarray .boolean, 2) := dk_188_4 (dk_at dksX25_init_8 12 rfl rfl)
theorem dX25_init_204 : decode cX25_init 204 = .ok (.putfield 84, 3) := dk_181 0 84 (dk_at dksX25_init_8 14 rfl rfl)
theorem dX25_init_207 : decode cX25_init 207 = .ok (.aload_n 0, 1) := dk_42 (dk_at dksX25_init_8 17 rfl rfl)
theorem dX25_init_208 : decode cX25_init 208 = .ok (.sipush 1020, 3) := dk_17 3 252 (dk_at dksX25_init_8 18 rfl rfl)
theorem dX25_init_211 : decode cX25_init 211 = .ok (.newarray .long, 2) := dk_188_11 (dk_at dksX25_init_8 21 rfl rfl)
theorem dX25_init_213 : decode cX25_init 213 = .ok (.putfield 87, 3) := dk_181 0 87 (dk_at dksX25_init_9 0 rfl rfl)
theorem dX25_init_216 : decode cX25_init 216 = .ok (.aload_n 0, 1) := dk_42 (dk_at dksX25_init_9 3 rfl rfl)
theorem dX25_init_217 : decode cX25_init 217 = .ok (.sipush 1020, 3) := dk_17 3 252 (dk_at dksX25_init_9 4 rfl rfl)
theorem dX25_init_220 : decode cX25_init 220 = .ok (.newarray .boolean, 2) := dk_188_4 (dk_at dksX25_init_9 7 rfl rfl)
theorem dX25_init_222 : decode cX25_init 222 = .ok (.putfield 90, 3) := dk_181 0 90 (dk_at dksX25_init_9 9 rfl rfl)
theorem dX25_init_225 : decode cX25_init 225 = .ok (.aload_n 0, 1) := dk_42 (dk_at dksX25_init_9 12 rfl rfl)
theorem dX25_init_226 : decode cX25_init 226 = .ok (.bipush 85, 2) := dk_16 85 (dk_at dksX25_init_9 13 rfl rfl)
theorem dX25_init_228 : decode cX25_init 228 = .ok (.newarray .int, 2) := dk_188_10 (dk_at dksX25_init_9 15 rfl rfl)
theorem dX25_init_230 : decode cX25_init 230 = .ok (.putfield 93, 3) := dk_181 0 93 (dk_at dksX25_init_9 17 rfl rfl)
theorem dX25_init_233 : decode cX25_init 233 = .ok (.aload_n 0, 1) := dk_42 (dk_at dksX25_init_9 20 rfl rfl)
theorem dX25_init_234 : decode cX25_init 234 = .ok (.sipush 5100, 3) := dk_17 19 236 (dk_at dksX25_init_9 21 rfl rfl)
theorem dX25_init_237 : decode cX25_init 237 = .ok (.newarray .long, 2) := dk_188_11 (dk_at dksX25_init_10 0 rfl rfl)
theorem dX25_init_239 : decode cX25_init 239 = .ok (.putfield 96, 3) := dk_181 0 96 (dk_at dksX25_init_10 2 rfl rfl)
theorem dX25_init_242 : decode cX25_init 242 = .ok (.aload_n 0, 1) := dk_42 (dk_at dksX25_init_10 5 rfl rfl)
theorem dX25_init_243 : decode cX25_init 243 = .ok (.bipush 85, 2) := dk_16 85 (dk_at dksX25_init_10 6 rfl rfl)
theorem dX25_init_245 : decode cX25_init 245 = .ok (.newarray .int, 2) := dk_188_10 (dk_at dksX25_init_10 8 rfl rfl)
theorem dX25_init_247 : decode cX25_init 247 = .ok (.putfield 99, 3) := dk_181 0 99 (dk_at dksX25_init_10 10 rfl rfl)
theorem dX25_init_250 : decode cX25_init 250 = .ok (.aload_n 0, 1) := dk_42 (dk_at dksX25_init_10 13 rfl rfl)
theorem dX25_init_251 : decode cX25_init 251 = .ok (.sipush 169, 3) := dk_17 0 169 (dk_at dksX25_init_10 14 rfl rfl)
theorem dX25_init_254 : decode cX25_init 254 = .ok (.newarray .int, 2) := dk_188_10 (dk_at dksX25_init_10 17 rfl rfl)
theorem dX25_init_256 : decode cX25_init 256 = .ok (.putfield 102, 3) := dk_181 0 102 (dk_at dksX25_init_10 19 rfl rfl)
theorem dX25_init_259 : decode cX25_init 259 = .ok (.aload_n 0, 1) := dk_42 (dk_at dksX25_init_10 22 rfl rfl)
theorem dX25_init_260 : decode cX25_init 260 = .ok (.sipush 2704, 3) := dk_17 10 144 (dk_at dksX25_init_11 0 rfl rfl)
theorem dX25_init_263 : decode cX25_init 263 = .ok (.newarray .boolean, 2) := dk_188_4 (dk_at dksX25_init_11 3 rfl rfl)
theorem dX25_init_265 : decode cX25_init 265 = .ok (.putfield 105, 3) := dk_181 0 105 (dk_at dksX25_init_11 5 rfl rfl)
theorem dX25_init_268 : decode cX25_init 268 = .ok (.aload_n 0, 1) := dk_42 (dk_at dksX25_init_11 8 rfl rfl)
theorem dX25_init_269 : decode cX25_init 269 = .ok (.sipush 2704, 3) := dk_17 10 144 (dk_at dksX25_init_11 9 rfl rfl)
theorem dX25_init_272 : decode cX25_init 272 = .ok (.newarray .long, 2) := dk_188_11 (dk_at dksX25_init_11 12 rfl rfl)
theorem dX25_init_274 : decode cX25_init 274 = .ok (.putfield 108, 3) := dk_181 0 108 (dk_at dksX25_init_11 14 rfl rfl)
theorem dX25_init_277 : decode cX25_init 277 = .ok (.aload_n 0, 1) := dk_42 (dk_at dksX25_init_11 17 rfl rfl)
theorem dX25_init_278 : decode cX25_init 278 = .ok (.sipush 169, 3) := dk_17 0 169 (dk_at dksX25_init_11 18 rfl rfl)
theorem dX25_init_281 : decode cX25_init 281 = .ok (.newarray .boolean, 2) := dk_188_4 (dk_at dksX25_init_11 21 rfl rfl)
theorem dX25_init_283 : decode cX25_init 283 = .ok (.putfield 111, 3) := dk_181 0 111 (dk_at dksX25_init_12 0 rfl rfl)
theorem dX25_init_286 : decode cX25_init 286 = .ok (.return_, 1) := dk_177 (dk_at dksX25_init_12 3 rfl rfl)
def dkwX25_block_1 : List UInt8 := [180, 0, 114, 4, 96, 181, 0, 114, 42, 180, 0, 114, 4, 100, 172]
abbrev dktX25_block_1 : List UInt8 := dkwX25_block_1 ++ []
def dkwX25_block_0 : List UInt8 := [42, 180, 0, 114, 16, 8, 160, 0, 6, 16, 253, 172, 42, 180, 0, 7, 42, 180, 0, 114, 3, 79, 42, 89]
abbrev dktX25_block_0 : List UInt8 := dkwX25_block_0 ++ dktX25_block_1
theorem dksX25_block_0 : cX25_block.data.toList.drop 0 = dktX25_block_0 := by decide +kernel
theorem dksX25_block_1 : cX25_block.data.toList.drop 24 = dktX25_block_1 := dk_seg dksX25_block_0 24 rfl rfl
theorem dX25_block_0 : decode cX25_block 0 = .ok (.aload_n 0, 1) := dk_42 (dk_at dksX25_block_0 0 rfl rfl)
theorem dX25_block_1 : decode cX25_block 1 = .ok (.getfield 114, 3) := dk_180 0 114 (dk_at dksX25_block_0 1 rfl rfl)
theorem dX25_block_4 : decode cX25_block 4 = .ok (.bipush 8, 2) := dk_16 8 (dk_at dksX25_block_0 4 rfl rfl)
theorem dX25_block_6 : decode cX25_block 6 = .ok (.if_icmp .ne 6, 3) := dk_160 0 6 (dk_at dksX25_block_0 6 rfl rfl)
theorem dX25_block_9 : decode cX25_block 9 = .ok (.bipush (-3), 2) := dk_16 253 (dk_at dksX25_block_0 9 rfl rfl)
theorem dX25_block_11 : decode cX25_block 11 = .ok (.ireturn, 1) := dk_172 (dk_at dksX25_block_0 11 rfl rfl)
theorem dX25_block_12 : decode cX25_block 12 = .ok (.aload_n 0, 1) := dk_42 (dk_at dksX25_block_0 12 rfl rfl)
theorem dX25_block_13 : decode cX25_block 13 = .ok (.getfield 7, 3) := dk_180 0 7 (dk_at dksX25_block_0 13 rfl rfl)
theorem dX25_block_16 : decode cX25_block 16 = .ok (.aload_n 0, 1) := dk_42 (dk_at dksX25_block_0 16 rfl rfl)
theorem dX25_block_17 : decode cX25_block 17 = .ok (.getfield 114, 3) := dk_180 0 114 (dk_at dksX25_block_0 17 rfl rfl)
theorem dX25_block_20 : decode cX25_block 20 = .ok (.iconst 0, 1) := dk_3 (dk_at dksX25_block_0 20 rfl rfl)
theorem dX25_block_21 : decode cX25_block 21 = .ok (.iastore, 1) := dk_79 (dk_at dksX25_block_0 21 rfl rfl)
theorem dX25_block_22 : decode cX25_block 22 = .ok (.aload_n 0, 1) := dk_42 (dk_at dksX25_block_0 22 rfl rfl)
theorem dX25_block_23 : decode cX25_block 23 = .ok (.dup, 1) := dk_89 (dk_at dksX25_block_0 23 rfl rfl)
theorem dX25_block_24 : decode cX25_block 24 = .ok (.getfield 114, 3) := dk_180 0 114 (dk_at dksX25_block_1 0 rfl rfl)
theorem dX25_block_27 : decode cX25_block 27 = .ok (.iconst 1, 1) := dk_4 (dk_at dksX25_block_1 3 rfl rfl)
theorem dX25_block_28 : decode cX25_block 28 = .ok (.iadd, 1) := dk_96 (dk_at dksX25_block_1 4 rfl rfl)
theorem dX25_block_29 : decode cX25_block 29 = .ok (.putfield 114, 3) := dk_181 0 114 (dk_at dksX25_block_1 5 rfl rfl)
theorem dX25_block_32 : decode cX25_block 32 = .ok (.aload_n 0, 1) := dk_42 (dk_at dksX25_block_1 8 rfl rfl)
theorem dX25_block_33 : decode cX25_block 33 = .ok (.getfield 114, 3) := dk_180 0 114 (dk_at dksX25_block_1 9 rfl rfl)
theorem dX25_block_36 : decode cX25_block 36 = .ok (.iconst 1, 1) := dk_4 (dk_at dksX25_block_1 12 rfl rfl)
theorem dX25_block_37 : decode cX25_block 37 = .ok (.isub, 1) := dk_100 (dk_at dksX25_block_1 13 rfl rfl)
theorem dX25_block_38 : decode cX25_block 38 = .ok (.ireturn, 1) := dk_172 (dk_at dksX25_block_1 14 rfl rfl)
def dkwX25_code_8 : List UInt8 := [79, 42, 180, 0, 7, 27, 92, 46, 4, 96, 79, 42, 180, 0, 7, 27, 46, 172]
abbrev dktX25_code_8 : List UInt8 := dkwX25_code_8 ++ []
def dkwX25_code_7 : List UInt8 := [180, 0, 7, 27, 46, 96, 28, 79, 42, 180, 0, 16, 16, 40, 27, 104, 42, 180, 0, 7, 27, 46, 96, 29]
abbrev dktX25_code_7 : List UInt8 := dkwX25_code_7 ++ dktX25_code_8
def dkwX25_code_6 : List UInt8 := [180, 0, 7, 27, 46, 16, 40, 160, 0, 6, 16, 253, 172, 42, 180, 0, 13, 16, 40, 27, 104, 42]
abbrev dktX25_code_6 : List UInt8 := dkwX25_code_6 ++ dktX25_code_7
def dkwX25_code_5 : List UInt8 := [167, 0, 4, 3, 54, 4, 21, 4, 154, 0, 5, 2, 172, 42, 180, 0, 130, 153, 0, 6, 16, 254, 172, 42]
abbrev dktX25_code_5 : List UInt8 := dkwX25_code_5 ++ dktX25_code_6
def dkwX25_code_4 : List UInt8 := [16, 15, 159, 0, 9, 28, 16, 17, 160, 0, 15, 29, 133, 9, 20, 0, 128, 184, 0, 118, 153, 0, 7, 4]
abbrev dktX25_code_4 : List UInt8 := dkwX25_code_4 ++ dktX25_code_5
def dkwX25_code_3 : List UInt8 := [16, 13, 160, 0, 15, 29, 133, 9, 20, 0, 126, 184, 0, 118, 153, 0, 37, 28, 16, 14, 159, 0, 15, 28]
abbrev dktX25_code_3 : List UInt8 := dkwX25_code_3 ++ dktX25_code_4
def dkwX25_code_2 : List UInt8 := [5, 160, 0, 15, 29, 133, 9, 20, 0, 124, 184, 0, 118, 153, 0, 61, 28, 16, 12, 159, 0, 9, 28]
abbrev dktX25_code_2 : List UInt8 := dkwX25_code_2 ++ dktX25_code_3
def dkwX25_code_1 : List UInt8 := [184, 0, 118, 153, 0, 7, 4, 167, 0, 4, 3, 54, 4, 21, 4, 153, 0, 83, 28, 4, 159, 0, 8, 28]
abbrev dktX25_code_1 : List UInt8 := dkwX25_code_1 ++ dktX25_code_2
def dkwX25_code_0 : List UInt8 := [27, 133, 9, 42, 180, 0, 114, 4, 100, 133, 184, 0, 118, 153, 0, 19, 28, 133, 9, 20, 0, 122]
abbrev dktX25_code_0 : List UInt8 := dkwX25_code_0 ++ dktX25_code_1
theorem dksX25_code_0 : cX25_code.data.toList.drop 0 = dktX25_code_0 := by decide +kernel
theorem dksX25_code_1 : cX25_code.data.toList.drop 22 = dktX25_code_1 := dk_seg dksX25_code_0 22 rfl rfl
theorem dksX25_code_2 : cX25_code.data.toList.drop 46 = dktX25_code_2 := dk_seg dksX25_code_1 24 rfl rfl
theorem dksX25_code_3 : cX25_code.data.toList.drop 69 = dktX25_code_3 := dk_seg dksX25_code_2 23 rfl rfl
theorem dksX25_code_4 : cX25_code.data.toList.drop 93 = dktX25_code_4 := dk_seg dksX25_code_3 24 rfl rfl
theorem dksX25_code_5 : cX25_code.data.toList.drop 117 = dktX25_code_5 := dk_seg dksX25_code_4 24 rfl rfl
theorem dksX25_code_6 : cX25_code.data.toList.drop 141 = dktX25_code_6 := dk_seg dksX25_code_5 24 rfl rfl
theorem dksX25_code_7 : cX25_code.data.toList.drop 163 = dktX25_code_7 := dk_seg dksX25_code_6 22 rfl rfl
theorem dksX25_code_8 : cX25_code.data.toList.drop 187 = dktX25_code_8 := dk_seg dksX25_code_7 24 rfl rfl
theorem dX25_code_0 : decode cX25_code 0 = .ok (.iload_n 1, 1) := dk_27 (dk_at dksX25_code_0 0 rfl rfl)
theorem dX25_code_1 : decode cX25_code 1 = .ok (.i2l, 1) := dk_133 (dk_at dksX25_code_0 1 rfl rfl)
theorem dX25_code_2 : decode cX25_code 2 = .ok (.lconst 0, 1) := dk_9 (dk_at dksX25_code_0 2 rfl rfl)
theorem dX25_code_3 : decode cX25_code 3 = .ok (.aload_n 0, 1) := dk_42 (dk_at dksX25_code_0 3 rfl rfl)
theorem dX25_code_4 : decode cX25_code 4 = .ok (.getfield 114, 3) := dk_180 0 114 (dk_at dksX25_code_0 4 rfl rfl)
theorem dX25_code_7 : decode cX25_code 7 = .ok (.iconst 1, 1) := dk_4 (dk_at dksX25_code_0 7 rfl rfl)
theorem dX25_code_8 : decode cX25_code 8 = .ok (.isub, 1) := dk_100 (dk_at dksX25_code_0 8 rfl rfl)
theorem dX25_code_9 : decode cX25_code 9 = .ok (.i2l, 1) := dk_133 (dk_at dksX25_code_0 9 rfl rfl)
theorem dX25_code_10 : decode cX25_code 10 = .ok (.invokestatic 118, 3) := dk_184 0 118 (dk_at dksX25_code_0 10 rfl rfl)
theorem dX25_code_13 : decode cX25_code 13 = .ok (.ifCond .eq 19, 3) := dk_153 0 19 (dk_at dksX25_code_0 13 rfl rfl)
theorem dX25_code_16 : decode cX25_code 16 = .ok (.iload_n 2, 1) := dk_28 (dk_at dksX25_code_0 16 rfl rfl)
theorem dX25_code_17 : decode cX25_code 17 = .ok (.i2l, 1) := dk_133 (dk_at dksX25_code_0 17 rfl rfl)
theorem dX25_code_18 : decode cX25_code 18 = .ok (.lconst 0, 1) := dk_9 (dk_at dksX25_code_0 18 rfl rfl)
theorem dX25_code_19 : decode cX25_code 19 = .ok (.ldc2_w 122, 3) := dk_20 0 122 (dk_at dksX25_code_0 19 rfl rfl)
theorem dX25_code_22 : decode cX25_code 22 = .ok (.invokestatic 118, 3) := dk_184 0 118 (dk_at dksX25_code_1 0 rfl rfl)
theorem dX25_code_25 : decode cX25_code 25 = .ok (.ifCond .eq 7, 3) := dk_153 0 7 (dk_at dksX25_code_1 3 rfl rfl)
theorem dX25_code_28 : decode cX25_code 28 = .ok (.iconst 1, 1) := dk_4 (dk_at dksX25_code_1 6 rfl rfl)
theorem dX25_code_29 : decode cX25_code 29 = .ok (.goto 4, 3) := dk_167 0 4 (dk_at dksX25_code_1 7 rfl rfl)
theorem dX25_code_32 : decode cX25_code 32 = .ok (.iconst 0, 1) := dk_3 (dk_at dksX25_code_1 10 rfl rfl)
theorem dX25_code_33 : decode cX25_code 33 = .ok (.istore 4, 2) := dk_54 4 (dk_at dksX25_code_1 11 rfl rfl)
theorem dX25_code_35 : decode cX25_code 35 = .ok (.iload 4, 2) := dk_21 4 (dk_at dksX25_code_1 13 rfl rfl)
theorem dX25_code_37 : decode cX25_code 37 = .ok (.ifCond .eq 83, 3) := dk_153 0 83 (dk_at dksX25_code_1 15 rfl rfl)
theorem dX25_code_40 : decode cX25_code 40 = .ok (.iload_n 2, 1) := dk_28 (dk_at dksX25_code_1 18 rfl rfl)
theorem dX25_code_41 : decode cX25_code 41 = .ok (.iconst 1, 1) := dk_4 (dk_at dksX25_code_1 19 rfl rfl)
theorem dX25_code_42 : decode cX25_code 42 = .ok (.if_icmp .eq 8, 3) := dk_159 0 8 (dk_at dksX25_code_1 20 rfl rfl)
theorem dX25_code_45 : decode cX25_code 45 = .ok (.iload_n 2, 1) := dk_28 (dk_at dksX25_code_1 23 rfl rfl)
theorem dX25_code_46 : decode cX25_code 46 = .ok (.iconst 2, 1) := dk_5 (dk_at dksX25_code_2 0 rfl rfl)
theorem dX25_code_47 : decode cX25_code 47 = .ok (.if_icmp .ne 15, 3) := dk_160 0 15 (dk_at dksX25_code_2 1 rfl rfl)
theorem dX25_code_50 : decode cX25_code 50 = .ok (.iload_n 3, 1) := dk_29 (dk_at dksX25_code_2 4 rfl rfl)
theorem dX25_code_51 : decode cX25_code 51 = .ok (.i2l, 1) := dk_133 (dk_at dksX25_code_2 5 rfl rfl)
theorem dX25_code_52 : decode cX25_code 52 = .ok (.lconst 0, 1) := dk_9 (dk_at dksX25_code_2 6 rfl rfl)
theorem dX25_code_53 : decode cX25_code 53 = .ok (.ldc2_w 124, 3) := dk_20 0 124 (dk_at dksX25_code_2 7 rfl rfl)
theorem dX25_code_56 : decode cX25_code 56 = .ok (.invokestatic 118, 3) := dk_184 0 118 (dk_at dksX25_code_2 10 rfl rfl)
theorem dX25_code_59 : decode cX25_code 59 = .ok (.ifCond .eq 61, 3) := dk_153 0 61 (dk_at dksX25_code_2 13 rfl rfl)
theorem dX25_code_62 : decode cX25_code 62 = .ok (.iload_n 2, 1) := dk_28 (dk_at dksX25_code_2 16 rfl rfl)
theorem dX25_code_63 : decode cX25_code 63 = .ok (.bipush 12, 2) := dk_16 12 (dk_at dksX25_code_2 17 rfl rfl)
theorem dX25_code_65 : decode cX25_code 65 = .ok (.if_icmp .eq 9, 3) := dk_159 0 9 (dk_at dksX25_code_2 19 rfl rfl)
theorem dX25_code_68 : decode cX25_code 68 = .ok (.iload_n 2, 1) := dk_28 (dk_at dksX25_code_2 22 rfl rfl)
theorem dX25_code_69 : decode cX25_code 69 = .ok (.bipush 13, 2) := dk_16 13 (dk_at dksX25_code_3 0 rfl rfl)
theorem dX25_code_71 : decode cX25_code 71 = .ok (.if_icmp .ne 15, 3) := dk_160 0 15 (dk_at dksX25_code_3 2 rfl rfl)
theorem dX25_code_74 : decode cX25_code 74 = .ok (.iload_n 3, 1) := dk_29 (dk_at dksX25_code_3 5 rfl rfl)
theorem dX25_code_75 : decode cX25_code 75 = .ok (.i2l, 1) := dk_133 (dk_at dksX25_code_3 6 rfl rfl)
theorem dX25_code_76 : decode cX25_code 76 = .ok (.lconst 0, 1) := dk_9 (dk_at dksX25_code_3 7 rfl rfl)
theorem dX25_code_77 : decode cX25_code 77 = .ok (.ldc2_w 126, 3) := dk_20 0 126 (dk_at dksX25_code_3 8 rfl rfl)
theorem dX25_code_80 : decode cX25_code 80 = .ok (.invokestatic 118, 3) := dk_184 0 118 (dk_at dksX25_code_3 11 rfl rfl)
theorem dX25_code_83 : decode cX25_code 83 = .ok (.ifCond .eq 37, 3) := dk_153 0 37 (dk_at dksX25_code_3 14 rfl rfl)
theorem dX25_code_86 : decode cX25_code 86 = .ok (.iload_n 2, 1) := dk_28 (dk_at dksX25_code_3 17 rfl rfl)
theorem dX25_code_87 : decode cX25_code 87 = .ok (.bipush 14, 2) := dk_16 14 (dk_at dksX25_code_3 18 rfl rfl)
theorem dX25_code_89 : decode cX25_code 89 = .ok (.if_icmp .eq 15, 3) := dk_159 0 15 (dk_at dksX25_code_3 20 rfl rfl)
theorem dX25_code_92 : decode cX25_code 92 = .ok (.iload_n 2, 1) := dk_28 (dk_at dksX25_code_3 23 rfl rfl)
theorem dX25_code_93 : decode cX25_code 93 = .ok (.bipush 15, 2) := dk_16 15 (dk_at dksX25_code_4 0 rfl rfl)
theorem dX25_code_95 : decode cX25_code 95 = .ok (.if_icmp .eq 9, 3) := dk_159 0 9 (dk_at dksX25_code_4 2 rfl rfl)
theorem dX25_code_98 : decode cX25_code 98 = .ok (.iload_n 2, 1) := dk_28 (dk_at dksX25_code_4 5 rfl rfl)
theorem dX25_code_99 : decode cX25_code 99 = .ok (.bipush 17, 2) := dk_16 17 (dk_at dksX25_code_4 6 rfl rfl)
theorem dX25_code_101 : decode cX25_code 101 = .ok (.if_icmp .ne 15, 3) := dk_160 0 15 (dk_at dksX25_code_4 8 rfl rfl)
theorem dX25_code_104 : decode cX25_code 104 = .ok (.iload_n 3, 1) := dk_29 (dk_at dksX25_code_4 11 rfl rfl)
theorem dX25_code_105 : decode cX25_code 105 = .ok (.i2l, 1) := dk_133 (dk_at dksX25_code_4 12 rfl rfl)
theorem dX25_code_106 : decode cX25_code 106 = .ok (.lconst 0, 1) := dk_9 (dk_at dksX25_code_4 13 rfl rfl)
theorem dX25_code_107 : decode cX25_code 107 = .ok (.ldc2_w 128, 3) := dk_20 0 128 (dk_at dksX25_code_4 14 rfl rfl)
theorem dX25_code_110 : decode cX25_code 110 = .ok (.invokestatic 118, 3) := dk_184 0 118 (dk_at dksX25_code_4 17 rfl rfl)
theorem dX25_code_113 : decode cX25_code 113 = .ok (.ifCond .eq 7, 3) := dk_153 0 7 (dk_at dksX25_code_4 20 rfl rfl)
theorem dX25_code_116 : decode cX25_code 116 = .ok (.iconst 1, 1) := dk_4 (dk_at dksX25_code_4 23 rfl rfl)
theorem dX25_code_117 : decode cX25_code 117 = .ok (.goto 4, 3) := dk_167 0 4 (dk_at dksX25_code_5 0 rfl rfl)
theorem dX25_code_120 : decode cX25_code 120 = .ok (.iconst 0, 1) := dk_3 (dk_at dksX25_code_5 3 rfl rfl)
theorem dX25_code_121 : decode cX25_code 121 = .ok (.istore 4, 2) := dk_54 4 (dk_at dksX25_code_5 4 rfl rfl)
theorem dX25_code_123 : decode cX25_code 123 = .ok (.iload 4, 2) := dk_21 4 (dk_at dksX25_code_5 6 rfl rfl)
theorem dX25_code_125 : decode cX25_code 125 = .ok (.ifCond .ne 5, 3) := dk_154 0 5 (dk_at dksX25_code_5 8 rfl rfl)
theorem dX25_code_128 : decode cX25_code 128 = .ok (.iconst (-1), 1) := dk_2 (dk_at dksX25_code_5 11 rfl rfl)
theorem dX25_code_129 : decode cX25_code 129 = .ok (.ireturn, 1) := dk_172 (dk_at dksX25_code_5 12 rfl rfl)
theorem dX25_code_130 : decode cX25_code 130 = .ok (.aload_n 0, 1) := dk_42 (dk_at dksX25_code_5 13 rfl rfl)
theorem dX25_code_131 : decode cX25_code 131 = .ok (.getfield 130, 3) := dk_180 0 130 (dk_at dksX25_code_5 14 rfl rfl)
theorem dX25_code_134 : decode cX25_code 134 = .ok (.ifCond .eq 6, 3) := dk_153 0 6 (dk_at dksX25_code_5 17 rfl rfl)
theorem dX25_code_137 : decode cX25_code 137 = .ok (.bipush (-2), 2) := dk_16 254 (dk_at dksX25_code_5 20 rfl rfl)
theorem dX25_code_139 : decode cX25_code 139 = .ok (.ireturn, 1) := dk_172 (dk_at dksX25_code_5 22 rfl rfl)
theorem dX25_code_140 : decode cX25_code 140 = .ok (.aload_n 0, 1) := dk_42 (dk_at dksX25_code_5 23 rfl rfl)
theorem dX25_code_141 : decode cX25_code 141 = .ok (.getfield 7, 3) := dk_180 0 7 (dk_at dksX25_code_6 0 rfl rfl)
theorem dX25_code_144 : decode cX25_code 144 = .ok (.iload_n 1, 1) := dk_27 (dk_at dksX25_code_6 3 rfl rfl)
theorem dX25_code_145 : decode cX25_code 145 = .ok (.iaload, 1) := dk_46 (dk_at dksX25_code_6 4 rfl rfl)
theorem dX25_code_146 : decode cX25_code 146 = .ok (.bipush 40, 2) := dk_16 40 (dk_at dksX25_code_6 5 rfl rfl)
theorem dX25_code_148 : decode cX25_code 148 = .ok (.if_icmp .ne 6, 3) := dk_160 0 6 (dk_at dksX25_code_6 7 rfl rfl)
theorem dX25_code_151 : decode cX25_code 151 = .ok (.bipush (-3), 2) := dk_16 253 (dk_at dksX25_code_6 10 rfl rfl)
theorem dX25_code_153 : decode cX25_code 153 = .ok (.ireturn, 1) := dk_172 (dk_at dksX25_code_6 12 rfl rfl)
theorem dX25_code_154 : decode cX25_code 154 = .ok (.aload_n 0, 1) := dk_42 (dk_at dksX25_code_6 13 rfl rfl)
theorem dX25_code_155 : decode cX25_code 155 = .ok (.getfield 13, 3) := dk_180 0 13 (dk_at dksX25_code_6 14 rfl rfl)
theorem dX25_code_158 : decode cX25_code 158 = .ok (.bipush 40, 2) := dk_16 40 (dk_at dksX25_code_6 17 rfl rfl)
theorem dX25_code_160 : decode cX25_code 160 = .ok (.iload_n 1, 1) := dk_27 (dk_at dksX25_code_6 19 rfl rfl)
theorem dX25_code_161 : decode cX25_code 161 = .ok (.imul, 1) := dk_104 (dk_at dksX25_code_6 20 rfl rfl)
theorem dX25_code_162 : decode cX25_code 162 = .ok (.aload_n 0, 1) := dk_42 (dk_at dksX25_code_6 21 rfl rfl)
theorem dX25_code_163 : decode cX25_code 163 = .ok (.getfield 7, 3) := dk_180 0 7 (dk_at dksX25_code_7 0 rfl rfl)
theorem dX25_code_166 : decode cX25_code 166 = .ok (.iload_n 1, 1) := dk_27 (dk_at dksX25_code_7 3 rfl rfl)
theorem dX25_code_167 : decode cX25_code 167 = .ok (.iaload, 1) := dk_46 (dk_at dksX25_code_7 4 rfl rfl)
theorem dX25_code_168 : decode cX25_code 168 = .ok (.iadd, 1) := dk_96 (dk_at dksX25_code_7 5 rfl rfl)
theorem dX25_code_169 : decode cX25_code 169 = .ok (.iload_n 2, 1) := dk_28 (dk_at dksX25_code_7 6 rfl rfl)
theorem dX25_code_170 : decode cX25_code 170 = .ok (.iastore, 1) := dk_79 (dk_at dksX25_code_7 7 rfl rfl)
theorem dX25_code_171 : decode cX25_code 171 = .ok (.aload_n 0, 1) := dk_42 (dk_at dksX25_code_7 8 rfl rfl)
theorem dX25_code_172 : decode cX25_code 172 = .ok (.getfield 16, 3) := dk_180 0 16 (dk_at dksX25_code_7 9 rfl rfl)
theorem dX25_code_175 : decode cX25_code 175 = .ok (.bipush 40, 2) := dk_16 40 (dk_at dksX25_code_7 12 rfl rfl)
theorem dX25_code_177 : decode cX25_code 177 = .ok (.iload_n 1, 1) := dk_27 (dk_at dksX25_code_7 14 rfl rfl)
theorem dX25_code_178 : decode cX25_code 178 = .ok (.imul, 1) := dk_104 (dk_at dksX25_code_7 15 rfl rfl)
theorem dX25_code_179 : decode cX25_code 179 = .ok (.aload_n 0, 1) := dk_42 (dk_at dksX25_code_7 16 rfl rfl)
theorem dX25_code_180 : decode cX25_code 180 = .ok (.getfield 7, 3) := dk_180 0 7 (dk_at dksX25_code_7 17 rfl rfl)
theorem dX25_code_183 : decode cX25_code 183 = .ok (.iload_n 1, 1) := dk_27 (dk_at dksX25_code_7 20 rfl rfl)
theorem dX25_code_184 : decode cX25_code 184 = .ok (.iaload, 1) := dk_46 (dk_at dksX25_code_7 21 rfl rfl)
theorem dX25_code_185 : decode cX25_code 185 = .ok (.iadd, 1) := dk_96 (dk_at dksX25_code_7 22 rfl rfl)
theorem dX25_code_186 : decode cX25_code 186 = .ok (.iload_n 3, 1) := dk_29 (dk_at dksX25_code_7 23 rfl rfl)
theorem dX25_code_187 : decode cX25_code 187 = .ok (.iastore, 1) := dk_79 (dk_at dksX25_code_8 0 rfl rfl)
theorem dX25_code_188 : decode cX25_code 188 = .ok (.aload_n 0, 1) := dk_42 (dk_at dksX25_code_8 1 rfl rfl)
theorem dX25_code_189 : decode cX25_code 189 = .ok (.getfield 7, 3) := dk_180 0 7 (dk_at dksX25_code_8 2 rfl rfl)
theorem dX25_code_192 : decode cX25_code 192 = .ok (.iload_n 1, 1) := dk_27 (dk_at dksX25_code_8 5 rfl rfl)
theorem dX25_code_193 : decode cX25_code 193 = .ok (.dup2, 1) := dk_92 (dk_at dksX25_code_8 6 rfl rfl)
theorem dX25_code_194 : decode cX25_code 194 = .ok (.iaload, 1) := dk_46 (dk_at dksX25_code_8 7 rfl rfl)
theorem dX25_code_195 : decode cX25_code 195 = .ok (.iconst 1, 1) := dk_4 (dk_at dksX25_code_8 8 rfl rfl)
theorem dX25_code_196 : decode cX25_code 196 = .ok (.iadd, 1) := dk_96 (dk_at dksX25_code_8 9 rfl rfl)
theorem dX25_code_197 : decode cX25_code 197 = .ok (.iastore, 1) := dk_79 (dk_at dksX25_code_8 10 rfl rfl)
theorem dX25_code_198 : decode cX25_code 198 = .ok (.aload_n 0, 1) := dk_42 (dk_at dksX25_code_8 11 rfl rfl)
theorem dX25_code_199 : decode cX25_code 199 = .ok (.getfield 7, 3) := dk_180 0 7 (dk_at dksX25_code_8 12 rfl rfl)
theorem dX25_code_202 : decode cX25_code 202 = .ok (.iload_n 1, 1) := dk_27 (dk_at dksX25_code_8 15 rfl rfl)
theorem dX25_code_203 : decode cX25_code 203 = .ok (.iaload, 1) := dk_46 (dk_at dksX25_code_8 16 rfl rfl)
theorem dX25_code_204 : decode cX25_code 204 = .ok (.ireturn, 1) := dk_172 (dk_at dksX25_code_8 17 rfl rfl)
def dkwX25_in_0 : List UInt8 := [30, 32, 148, 155, 0, 14, 30, 22, 4, 148, 157, 0, 7, 4, 167, 0, 4, 3, 172]
abbrev dktX25_in_0 : List UInt8 := dkwX25_in_0 ++ []
theorem dksX25_in_0 : cX25_in.data.toList.drop 0 = dktX25_in_0 := by decide +kernel
theorem dX25_in_0 : decode cX25_in 0 = .ok (.lload_n 0, 1) := dk_30 (dk_at dksX25_in_0 0 rfl rfl)
theorem dX25_in_1 : decode cX25_in 1 = .ok (.lload_n 2, 1) := dk_32 (dk_at dksX25_in_0 1 rfl rfl)
theorem dX25_in_2 : decode cX25_in 2 = .ok (.lcmp, 1) := dk_148 (dk_at dksX25_in_0 2 rfl rfl)
theorem dX25_in_3 : decode cX25_in 3 = .ok (.ifCond .lt 14, 3) := dk_155 0 14 (dk_at dksX25_in_0 3 rfl rfl)
theorem dX25_in_6 : decode cX25_in 6 = .ok (.lload_n 0, 1) := dk_30 (dk_at dksX25_in_0 6 rfl rfl)
theorem dX25_in_7 : decode cX25_in 7 = .ok (.lload 4, 2) := dk_22 4 (dk_at dksX25_in_0 7 rfl rfl)
theorem dX25_in_9 : decode cX25_in 9 = .ok (.lcmp, 1) := dk_148 (dk_at dksX25_in_0 9 rfl rfl)
theorem dX25_in_10 : decode cX25_in 10 = .ok (.ifCond .gt 7, 3) := dk_157 0 7 (dk_at dksX25_in_0 10 rfl rfl)
theorem dX25_in_13 : decode cX25_in 13 = .ok (.iconst 1, 1) := dk_4 (dk_at dksX25_in_0 13 rfl rfl)
theorem dX25_in_14 : decode cX25_in 14 = .ok (.goto 4, 3) := dk_167 0 4 (dk_at dksX25_in_0 14 rfl rfl)
theorem dX25_in_17 : decode cX25_in 17 = .ok (.iconst 0, 1) := dk_3 (dk_at dksX25_in_0 17 rfl rfl)
theorem dX25_in_18 : decode cX25_in 18 = .ok (.ireturn, 1) := dk_172 (dk_at dksX25_in_0 18 rfl rfl)
def dkwX25_merger_1 : List UInt8 := [180, 0, 134, 4, 96, 181, 0, 134, 42, 180, 0, 134, 4, 100, 172]
abbrev dktX25_merger_1 : List UInt8 := dkwX25_merger_1 ++ []
def dkwX25_merger_0 : List UInt8 := [42, 180, 0, 134, 7, 160, 0, 6, 16, 253, 172, 42, 180, 0, 19, 42, 180, 0, 134, 3, 79, 42, 89]
abbrev dktX25_merger_0 : List UInt8 := dkwX25_merger_0 ++ dktX25_merger_1
theorem dksX25_merger_0 : cX25_merger.data.toList.drop 0 = dktX25_merger_0 := by decide +kernel
theorem dksX25_merger_1 : cX25_merger.data.toList.drop 23 = dktX25_merger_1 := dk_seg dksX25_merger_0 23 rfl rfl
theorem dX25_merger_0 : decode cX25_merger 0 = .ok (.aload_n 0, 1) := dk_42 (dk_at dksX25_merger_0 0 rfl rfl)
theorem dX25_merger_1 : decode cX25_merger 1 = .ok (.getfield 134, 3) := dk_180 0 134 (dk_at dksX25_merger_0 1 rfl rfl)
theorem dX25_merger_4 : decode cX25_merger 4 = .ok (.iconst 4, 1) := dk_7 (dk_at dksX25_merger_0 4 rfl rfl)
theorem dX25_merger_5 : decode cX25_merger 5 = .ok (.if_icmp .ne 6, 3) := dk_160 0 6 (dk_at dksX25_merger_0 5 rfl rfl)
theorem dX25_merger_8 : decode cX25_merger 8 = .ok (.bipush (-3), 2) := dk_16 253 (dk_at dksX25_merger_0 8 rfl rfl)
theorem dX25_merger_10 : decode cX25_merger 10 = .ok (.ireturn, 1) := dk_172 (dk_at dksX25_merger_0 10 rfl rfl)
theorem dX25_merger_11 : decode cX25_merger 11 = .ok (.aload_n 0, 1) := dk_42 (dk_at dksX25_merger_0 11 rfl rfl)
theorem dX25_merger_12 : decode cX25_merger 12 = .ok (.getfield 19, 3) := dk_180 0 19 (dk_at dksX25_merger_0 12 rfl rfl)
theorem dX25_merger_15 : decode cX25_merger 15 = .ok (.aload_n 0, 1) := dk_42 (dk_at dksX25_merger_0 15 rfl rfl)
theorem dX25_merger_16 : decode cX25_merger 16 = .ok (.getfield 134, 3) := dk_180 0 134 (dk_at dksX25_merger_0 16 rfl rfl)
theorem dX25_merger_19 : decode cX25_merger 19 = .ok (.iconst 0, 1) := dk_3 (dk_at dksX25_merger_0 19 rfl rfl)
theorem dX25_merger_20 : decode cX25_merger 20 = .ok (.iastore, 1) := dk_79 (dk_at dksX25_merger_0 20 rfl rfl)
theorem dX25_merger_21 : decode cX25_merger 21 = .ok (.aload_n 0, 1) := dk_42 (dk_at dksX25_merger_0 21 rfl rfl)
theorem dX25_merger_22 : decode cX25_merger 22 = .ok (.dup, 1) := dk_89 (dk_at dksX25_merger_0 22 rfl rfl)
theorem dX25_merger_23 : decode cX25_merger 23 = .ok (.getfield 134, 3) := dk_180 0 134 (dk_at dksX25_merger_1 0 rfl rfl)
theorem dX25_merger_26 : decode cX25_merger 26 = .ok (.iconst 1, 1) := dk_4 (dk_at dksX25_merger_1 3 rfl rfl)
theorem dX25_merger_27 : decode cX25_merger 27 = .ok (.iadd, 1) := dk_96 (dk_at dksX25_merger_1 4 rfl rfl)
theorem dX25_merger_28 : decode cX25_merger 28 = .ok (.putfield 134, 3) := dk_181 0 134 (dk_at dksX25_merger_1 5 rfl rfl)
theorem dX25_merger_31 : decode cX25_merger 31 = .ok (.aload_n 0, 1) := dk_42 (dk_at dksX25_merger_1 8 rfl rfl)
theorem dX25_merger_32 : decode cX25_merger 32 = .ok (.getfield 134, 3) := dk_180 0 134 (dk_at dksX25_merger_1 9 rfl rfl)
theorem dX25_merger_35 : decode cX25_merger 35 = .ok (.iconst 1, 1) := dk_4 (dk_at dksX25_merger_1 12 rfl rfl)
theorem dX25_merger_36 : decode cX25_merger 36 = .ok (.isub, 1) := dk_100 (dk_at dksX25_merger_1 13 rfl rfl)
theorem dX25_merger_37 : decode cX25_merger 37 = .ok (.ireturn, 1) := dk_172 (dk_at dksX25_merger_1 14 rfl rfl)
def dkwX25_act_4 : List UInt8 := [46, 4, 96, 79, 42, 180, 0, 19, 27, 46, 172]
abbrev dktX25_act_4 : List UInt8 := dkwX25_act_4 ++ []
def dkwX25_act_3 : List UInt8 := [79, 42, 180, 0, 25, 16, 12, 27, 104, 42, 180, 0, 19, 27, 46, 96, 29, 79, 42, 180, 0, 19, 27, 92]
abbrev dktX25_act_3 : List UInt8 := dkwX25_act_3 ++ dktX25_act_4
def dkwX25_act_2 : List UInt8 := [16, 12, 160, 0, 6, 16, 253, 172, 42, 180, 0, 22, 16, 12, 27, 104, 42, 180, 0, 19, 27, 46, 96, 28]
abbrev dktX25_act_2 : List UInt8 := dkwX25_act_2 ++ dktX25_act_3
def dkwX25_act_1 : List UInt8 := [184, 0, 118, 154, 0, 5, 2, 172, 42, 180, 0, 130, 153, 0, 6, 16, 254, 172, 42, 180, 0, 19, 27, 46]
abbrev dktX25_act_1 : List UInt8 := dkwX25_act_1 ++ dktX25_act_2
def dkwX25_act_0 : List UInt8 := [27, 133, 9, 42, 180, 0, 134, 4, 100, 133, 184, 0, 118, 153, 0, 15, 28, 133, 9, 20, 0, 137]
abbrev dktX25_act_0 : List UInt8 := dkwX25_act_0 ++ dktX25_act_1
theorem dksX25_act_0 : cX25_act.data.toList.drop 0 = dktX25_act_0 := by decide +kernel
theorem dksX25_act_1 : cX25_act.data.toList.drop 22 = dktX25_act_1 := dk_seg dksX25_act_0 22 rfl rfl
theorem dksX25_act_2 : cX25_act.data.toList.drop 46 = dktX25_act_2 := dk_seg dksX25_act_1 24 rfl rfl
theorem dksX25_act_3 : cX25_act.data.toList.drop 70 = dktX25_act_3 := dk_seg dksX25_act_2 24 rfl rfl
theorem dksX25_act_4 : cX25_act.data.toList.drop 94 = dktX25_act_4 := dk_seg dksX25_act_3 24 rfl rfl
theorem dX25_act_0 : decode cX25_act 0 = .ok (.iload_n 1, 1) := dk_27 (dk_at dksX25_act_0 0 rfl rfl)
theorem dX25_act_1 : decode cX25_act 1 = .ok (.i2l, 1) := dk_133 (dk_at dksX25_act_0 1 rfl rfl)
theorem dX25_act_2 : decode cX25_act 2 = .ok (.lconst 0, 1) := dk_9 (dk_at dksX25_act_0 2 rfl rfl)
theorem dX25_act_3 : decode cX25_act 3 = .ok (.aload_n 0, 1) := dk_42 (dk_at dksX25_act_0 3 rfl rfl)
theorem dX25_act_4 : decode cX25_act 4 = .ok (.getfield 134, 3) := dk_180 0 134 (dk_at dksX25_act_0 4 rfl rfl)
theorem dX25_act_7 : decode cX25_act 7 = .ok (.iconst 1, 1) := dk_4 (dk_at dksX25_act_0 7 rfl rfl)
theorem dX25_act_8 : decode cX25_act 8 = .ok (.isub, 1) := dk_100 (dk_at dksX25_act_0 8 rfl rfl)
theorem dX25_act_9 : decode cX25_act 9 = .ok (.i2l, 1) := dk_133 (dk_at dksX25_act_0 9 rfl rfl)
theorem dX25_act_10 : decode cX25_act 10 = .ok (.invokestatic 118, 3) := dk_184 0 118 (dk_at dksX25_act_0 10 rfl rfl)
theorem dX25_act_13 : decode cX25_act 13 = .ok (.ifCond .eq 15, 3) := dk_153 0 15 (dk_at dksX25_act_0 13 rfl rfl)
theorem dX25_act_16 : decode cX25_act 16 = .ok (.iload_n 2, 1) := dk_28 (dk_at dksX25_act_0 16 rfl rfl)
theorem dX25_act_17 : decode cX25_act 17 = .ok (.i2l, 1) := dk_133 (dk_at dksX25_act_0 17 rfl rfl)
theorem dX25_act_18 : decode cX25_act 18 = .ok (.lconst 0, 1) := dk_9 (dk_at dksX25_act_0 18 rfl rfl)
theorem dX25_act_19 : decode cX25_act 19 = .ok (.ldc2_w 137, 3) := dk_20 0 137 (dk_at dksX25_act_0 19 rfl rfl)
theorem dX25_act_22 : decode cX25_act 22 = .ok (.invokestatic 118, 3) := dk_184 0 118 (dk_at dksX25_act_1 0 rfl rfl)
theorem dX25_act_25 : decode cX25_act 25 = .ok (.ifCond .ne 5, 3) := dk_154 0 5 (dk_at dksX25_act_1 3 rfl rfl)
theorem dX25_act_28 : decode cX25_act 28 = .ok (.iconst (-1), 1) := dk_2 (dk_at dksX25_act_1 6 rfl rfl)
theorem dX25_act_29 : decode cX25_act 29 = .ok (.ireturn, 1) := dk_172 (dk_at dksX25_act_1 7 rfl rfl)
theorem dX25_act_30 : decode cX25_act 30 = .ok (.aload_n 0, 1) := dk_42 (dk_at dksX25_act_1 8 rfl rfl)
theorem dX25_act_31 : decode cX25_act 31 = .ok (.getfield 130, 3) := dk_180 0 130 (dk_at dksX25_act_1 9 rfl rfl)
theorem dX25_act_34 : decode cX25_act 34 = .ok (.ifCond .eq 6, 3) := dk_153 0 6 (dk_at dksX25_act_1 12 rfl rfl)
theorem dX25_act_37 : decode cX25_act 37 = .ok (.bipush (-2), 2) := dk_16 254 (dk_at dksX25_act_1 15 rfl rfl)
theorem dX25_act_39 : decode cX25_act 39 = .ok (.ireturn, 1) := dk_172 (dk_at dksX25_act_1 17 rfl rfl)
theorem dX25_act_40 : decode cX25_act 40 = .ok (.aload_n 0, 1) := dk_42 (dk_at dksX25_act_1 18 rfl rfl)
theorem dX25_act_41 : decode cX25_act 41 = .ok (.getfield 19, 3) := dk_180 0 19 (dk_at dksX25_act_1 19 rfl rfl)
theorem dX25_act_44 : decode cX25_act 44 = .ok (.iload_n 1, 1) := dk_27 (dk_at dksX25_act_1 22 rfl rfl)
theorem dX25_act_45 : decode cX25_act 45 = .ok (.iaload, 1) := dk_46 (dk_at dksX25_act_1 23 rfl rfl)
theorem dX25_act_46 : decode cX25_act 46 = .ok (.bipush 12, 2) := dk_16 12 (dk_at dksX25_act_2 0 rfl rfl)
theorem dX25_act_48 : decode cX25_act 48 = .ok (.if_icmp .ne 6, 3) := dk_160 0 6 (dk_at dksX25_act_2 2 rfl rfl)
theorem dX25_act_51 : decode cX25_act 51 = .ok (.bipush (-3), 2) := dk_16 253 (dk_at dksX25_act_2 5 rfl rfl)
theorem dX25_act_53 : decode cX25_act 53 = .ok (.ireturn, 1) := dk_172 (dk_at dksX25_act_2 7 rfl rfl)
theorem dX25_act_54 : decode cX25_act 54 = .ok (.aload_n 0, 1) := dk_42 (dk_at dksX25_act_2 8 rfl rfl)
theorem dX25_act_55 : decode cX25_act 55 = .ok (.getfield 22, 3) := dk_180 0 22 (dk_at dksX25_act_2 9 rfl rfl)
theorem dX25_act_58 : decode cX25_act 58 = .ok (.bipush 12, 2) := dk_16 12 (dk_at dksX25_act_2 12 rfl rfl)
theorem dX25_act_60 : decode cX25_act 60 = .ok (.iload_n 1, 1) := dk_27 (dk_at dksX25_act_2 14 rfl rfl)
theorem dX25_act_61 : decode cX25_act 61 = .ok (.imul, 1) := dk_104 (dk_at dksX25_act_2 15 rfl rfl)
theorem dX25_act_62 : decode cX25_act 62 = .ok (.aload_n 0, 1) := dk_42 (dk_at dksX25_act_2 16 rfl rfl)
theorem dX25_act_63 : decode cX25_act 63 = .ok (.getfield 19, 3) := dk_180 0 19 (dk_at dksX25_act_2 17 rfl rfl)
theorem dX25_act_66 : decode cX25_act 66 = .ok (.iload_n 1, 1) := dk_27 (dk_at dksX25_act_2 20 rfl rfl)
theorem dX25_act_67 : decode cX25_act 67 = .ok (.iaload, 1) := dk_46 (dk_at dksX25_act_2 21 rfl rfl)
theorem dX25_act_68 : decode cX25_act 68 = .ok (.iadd, 1) := dk_96 (dk_at dksX25_act_2 22 rfl rfl)
theorem dX25_act_69 : decode cX25_act 69 = .ok (.iload_n 2, 1) := dk_28 (dk_at dksX25_act_2 23 rfl rfl)
theorem dX25_act_70 : decode cX25_act 70 = .ok (.iastore, 1) := dk_79 (dk_at dksX25_act_3 0 rfl rfl)
theorem dX25_act_71 : decode cX25_act 71 = .ok (.aload_n 0, 1) := dk_42 (dk_at dksX25_act_3 1 rfl rfl)
theorem dX25_act_72 : decode cX25_act 72 = .ok (.getfield 25, 3) := dk_180 0 25 (dk_at dksX25_act_3 2 rfl rfl)
theorem dX25_act_75 : decode cX25_act 75 = .ok (.bipush 12, 2) := dk_16 12 (dk_at dksX25_act_3 5 rfl rfl)
theorem dX25_act_77 : decode cX25_act 77 = .ok (.iload_n 1, 1) := dk_27 (dk_at dksX25_act_3 7 rfl rfl)
theorem dX25_act_78 : decode cX25_act 78 = .ok (.imul, 1) := dk_104 (dk_at dksX25_act_3 8 rfl rfl)
theorem dX25_act_79 : decode cX25_act 79 = .ok (.aload_n 0, 1) := dk_42 (dk_at dksX25_act_3 9 rfl rfl)
theorem dX25_act_80 : decode cX25_act 80 = .ok (.getfield 19, 3) := dk_180 0 19 (dk_at dksX25_act_3 10 rfl rfl)
theorem dX25_act_83 : decode cX25_act 83 = .ok (.iload_n 1, 1) := dk_27 (dk_at dksX25_act_3 13 rfl rfl)
theorem dX25_act_84 : decode cX25_act 84 = .ok (.iaload, 1) := dk_46 (dk_at dksX25_act_3 14 rfl rfl)
theorem dX25_act_85 : decode cX25_act 85 = .ok (.iadd, 1) := dk_96 (dk_at dksX25_act_3 15 rfl rfl)
theorem dX25_act_86 : decode cX25_act 86 = .ok (.iload_n 3, 1) := dk_29 (dk_at dksX25_act_3 16 rfl rfl)
theorem dX25_act_87 : decode cX25_act 87 = .ok (.iastore, 1) := dk_79 (dk_at dksX25_act_3 17 rfl rfl)
theorem dX25_act_88 : decode cX25_act 88 = .ok (.aload_n 0, 1) := dk_42 (dk_at dksX25_act_3 18 rfl rfl)
theorem dX25_act_89 : decode cX25_act 89 = .ok (.getfield 19, 3) := dk_180 0 19 (dk_at dksX25_act_3 19 rfl rfl)
theorem dX25_act_92 : decode cX25_act 92 = .ok (.iload_n 1, 1) := dk_27 (dk_at dksX25_act_3 22 rfl rfl)
theorem dX25_act_93 : decode cX25_act 93 = .ok (.dup2, 1) := dk_92 (dk_at dksX25_act_3 23 rfl rfl)
theorem dX25_act_94 : decode cX25_act 94 = .ok (.iaload, 1) := dk_46 (dk_at dksX25_act_4 0 rfl rfl)
theorem dX25_act_95 : decode cX25_act 95 = .ok (.iconst 1, 1) := dk_4 (dk_at dksX25_act_4 1 rfl rfl)
theorem dX25_act_96 : decode cX25_act 96 = .ok (.iadd, 1) := dk_96 (dk_at dksX25_act_4 2 rfl rfl)
theorem dX25_act_97 : decode cX25_act 97 = .ok (.iastore, 1) := dk_79 (dk_at dksX25_act_4 3 rfl rfl)
theorem dX25_act_98 : decode cX25_act 98 = .ok (.aload_n 0, 1) := dk_42 (dk_at dksX25_act_4 4 rfl rfl)
theorem dX25_act_99 : decode cX25_act 99 = .ok (.getfield 19, 3) := dk_180 0 19 (dk_at dksX25_act_4 5 rfl rfl)
theorem dX25_act_102 : decode cX25_act 102 = .ok (.iload_n 1, 1) := dk_27 (dk_at dksX25_act_4 8 rfl rfl)
theorem dX25_act_103 : decode cX25_act 103 = .ok (.iaload, 1) := dk_46 (dk_at dksX25_act_4 9 rfl rfl)
theorem dX25_act_104 : decode cX25_act 104 = .ok (.ireturn, 1) := dk_172 (dk_at dksX25_act_4 10 rfl rfl)
def dkwX25_isRight_1 : List UInt8 := [182, 0, 139, 153, 0, 7, 4, 167, 0, 4, 3, 172]
abbrev dktX25_isRight_1 : List UInt8 := dkwX25_isRight_1 ++ []
def dkwX25_isRight_0 : List UInt8 := [27, 133, 9, 42, 180, 0, 134, 4, 100, 133, 184, 0, 118, 154, 0, 7, 2, 167, 0, 16, 42, 27]
abbrev dktX25_isRight_0 : List UInt8 := dkwX25_isRight_0 ++ dktX25_isRight_1
theorem dksX25_isRight_0 : cX25_isRight.data.toList.drop 0 = dktX25_isRight_0 := by decide +kernel
theorem dksX25_isRight_1 : cX25_isRight.data.toList.drop 22 = dktX25_isRight_1 := dk_seg dksX25_isRight_0 22 rfl rfl
theorem dX25_isRight_0 : decode cX25_isRight 0 = .ok (.iload_n 1, 1) := dk_27 (dk_at dksX25_isRight_0 0 rfl rfl)
theorem dX25_isRight_1 : decode cX25_isRight 1 = .ok (.i2l, 1) := dk_133 (dk_at dksX25_isRight_0 1 rfl rfl)
theorem dX25_isRight_2 : decode cX25_isRight 2 = .ok (.lconst 0, 1) := dk_9 (dk_at dksX25_isRight_0 2 rfl rfl)
theorem dX25_isRight_3 : decode cX25_isRight 3 = .ok (.aload_n 0, 1) := dk_42 (dk_at dksX25_isRight_0 3 rfl rfl)
theorem dX25_isRight_4 : decode cX25_isRight 4 = .ok (.getfield 134, 3) := dk_180 0 134 (dk_at dksX25_isRight_0 4 rfl rfl)
theorem dX25_isRight_7 : decode cX25_isRight 7 = .ok (.iconst 1, 1) := dk_4 (dk_at dksX25_isRight_0 7 rfl rfl)
theorem dX25_isRight_8 : decode cX25_isRight 8 = .ok (.isub, 1) := dk_100 (dk_at dksX25_isRight_0 8 rfl rfl)
theorem dX25_isRight_9 : decode cX25_isRight 9 = .ok (.i2l, 1) := dk_133 (dk_at dksX25_isRight_0 9 rfl rfl)
theorem dX25_isRight_10 : decode cX25_isRight 10 = .ok (.invokestatic 118, 3) := dk_184 0 118 (dk_at dksX25_isRight_0 10 rfl rfl)
theorem dX25_isRight_13 : decode cX25_isRight 13 = .ok (.ifCond .ne 7, 3) := dk_154 0 7 (dk_at dksX25_isRight_0 13 rfl rfl)
theorem dX25_isRight_16 : decode cX25_isRight 16 = .ok (.iconst (-1), 1) := dk_2 (dk_at dksX25_isRight_0 16 rfl rfl)
theorem dX25_isRight_17 : decode cX25_isRight 17 = .ok (.goto 16, 3) := dk_167 0 16 (dk_at dksX25_isRight_0 17 rfl rfl)
theorem dX25_isRight_20 : decode cX25_isRight 20 = .ok (.aload_n 0, 1) := dk_42 (dk_at dksX25_isRight_0 20 rfl rfl)
theorem dX25_isRight_21 : decode cX25_isRight 21 = .ok (.iload_n 1, 1) := dk_27 (dk_at dksX25_isRight_0 21 rfl rfl)
theorem dX25_isRight_22 : decode cX25_isRight 22 = .ok (.invokevirtual 139, 3) := dk_182 0 139 (dk_at dksX25_isRight_1 0 rfl rfl)
theorem dX25_isRight_25 : decode cX25_isRight 25 = .ok (.ifCond .eq 7, 3) := dk_153 0 7 (dk_at dksX25_isRight_1 3 rfl rfl)
theorem dX25_isRight_28 : decode cX25_isRight 28 = .ok (.iconst 1, 1) := dk_4 (dk_at dksX25_isRight_1 6 rfl rfl)
theorem dX25_isRight_29 : decode cX25_isRight 29 = .ok (.goto 4, 3) := dk_167 0 4 (dk_at dksX25_isRight_1 7 rfl rfl)
theorem dX25_isRight_32 : decode cX25_isRight 32 = .ok (.iconst 0, 1) := dk_3 (dk_at dksX25_isRight_1 10 rfl rfl)
theorem dX25_isRight_33 : decode cX25_isRight 33 = .ok (.ireturn, 1) := dk_172 (dk_at dksX25_isRight_1 11 rfl rfl)
def dkwX25_right_2 : List UInt8 := [167, 255, 212, 28, 4, 160, 0, 7, 4, 167, 0, 4, 3, 172]
abbrev dktX25_right_2 : List UInt8 := dkwX25_right_2 ++ []
def dkwX25_right_1 : List UInt8 := [46, 7, 162, 0, 9, 132, 2, 1, 167, 0, 13, 28, 5, 162, 0, 5, 3, 172, 132, 2, 255, 132, 3, 1]
abbrev dktX25_right_1 : List UInt8 := dkwX25_right_1 ++ dktX25_right_2
def dkwX25_right_0 : List UInt8 := [3, 61, 3, 62, 29, 42, 180, 0, 19, 27, 46, 162, 0, 40, 42, 180, 0, 22, 16, 12, 27, 104, 29, 96]
abbrev dktX25_right_0 : List UInt8 := dkwX25_right_0 ++ dktX25_right_1
theorem dksX25_right_0 : cX25_right.data.toList.drop 0 = dktX25_right_0 := by decide +kernel
theorem dksX25_right_1 : cX25_right.data.toList.drop 24 = dktX25_right_1 := dk_seg dksX25_right_0 24 rfl rfl
theorem dksX25_right_2 : cX25_right.data.toList.drop 48 = dktX25_right_2 := dk_seg dksX25_right_1 24 rfl rfl
theorem dX25_right_0 : decode cX25_right 0 = .ok (.iconst 0, 1) := dk_3 (dk_at dksX25_right_0 0 rfl rfl)
theorem dX25_right_1 : decode cX25_right 1 = .ok (.istore_n 2, 1) := dk_61 (dk_at dksX25_right_0 1 rfl rfl)
theorem dX25_right_2 : decode cX25_right 2 = .ok (.iconst 0, 1) := dk_3 (dk_at dksX25_right_0 2 rfl rfl)
theorem dX25_right_3 : decode cX25_right 3 = .ok (.istore_n 3, 1) := dk_62 (dk_at dksX25_right_0 3 rfl rfl)
theorem dX25_right_4 : decode cX25_right 4 = .ok (.iload_n 3, 1) := dk_29 (dk_at dksX25_right_0 4 rfl rfl)
theorem dX25_right_5 : decode cX25_right 5 = .ok (.aload_n 0, 1) := dk_42 (dk_at dksX25_right_0 5 rfl rfl)
theorem dX25_right_6 : decode cX25_right 6 = .ok (.getfield 19, 3) := dk_180 0 19 (dk_at dksX25_right_0 6 rfl rfl)
theorem dX25_right_9 : decode cX25_right 9 = .ok (.iload_n 1, 1) := dk_27 (dk_at dksX25_right_0 9 rfl rfl)
theorem dX25_right_10 : decode cX25_right 10 = .ok (.iaload, 1) := dk_46 (dk_at dksX25_right_0 10 rfl rfl)
theorem dX25_right_11 : decode cX25_right 11 = .ok (.if_icmp .ge 40, 3) := dk_162 0 40 (dk_at dksX25_right_0 11 rfl rfl)
theorem dX25_right_14 : decode cX25_right 14 = .ok (.aload_n 0, 1) := dk_42 (dk_at dksX25_right_0 14 rfl rfl)
theorem dX25_right_15 : decode cX25_right 15 = .ok (.getfield 22, 3) := dk_180 0 22 (dk_at dksX25_right_0 15 rfl rfl)
theorem dX25_right_18 : decode cX25_right 18 = .ok (.bipush 12, 2) := dk_16 12 (dk_at dksX25_right_0 18 rfl rfl)
theorem dX25_right_20 : decode cX25_right 20 = .ok (.iload_n 1, 1) := dk_27 (dk_at dksX25_right_0 20 rfl rfl)
theorem dX25_right_21 : decode cX25_right 21 = .ok (.imul, 1) := dk_104 (dk_at dksX25_right_0 21 rfl rfl)
theorem dX25_right_22 : decode cX25_right 22 = .ok (.iload_n 3, 1) := dk_29 (dk_at dksX25_right_0 22 rfl rfl)
theorem dX25_right_23 : decode cX25_right 23 = .ok (.iadd, 1) := dk_96 (dk_at dksX25_right_0 23 rfl rfl)
theorem dX25_right_24 : decode cX25_right 24 = .ok (.iaload, 1) := dk_46 (dk_at dksX25_right_1 0 rfl rfl)
theorem dX25_right_25 : decode cX25_right 25 = .ok (.iconst 4, 1) := dk_7 (dk_at dksX25_right_1 1 rfl rfl)
theorem dX25_right_26 : decode cX25_right 26 = .ok (.if_icmp .ge 9, 3) := dk_162 0 9 (dk_at dksX25_right_1 2 rfl rfl)
theorem dX25_right_29 : decode cX25_right 29 = .ok (.iinc 2 1, 3) := dk_132 2 1 (dk_at dksX25_right_1 5 rfl rfl)
theorem dX25_right_32 : decode cX25_right 32 = .ok (.goto 13, 3) := dk_167 0 13 (dk_at dksX25_right_1 8 rfl rfl)
theorem dX25_right_35 : decode cX25_right 35 = .ok (.iload_n 2, 1) := dk_28 (dk_at dksX25_right_1 11 rfl rfl)
theorem dX25_right_36 : decode cX25_right 36 = .ok (.iconst 2, 1) := dk_5 (dk_at dksX25_right_1 12 rfl rfl)
theorem dX25_right_37 : decode cX25_right 37 = .ok (.if_icmp .ge 5, 3) := dk_162 0 5 (dk_at dksX25_right_1 13 rfl rfl)
theorem dX25_right_40 : decode cX25_right 40 = .ok (.iconst 0, 1) := dk_3 (dk_at dksX25_right_1 16 rfl rfl)
theorem dX25_right_41 : decode cX25_right 41 = .ok (.ireturn, 1) := dk_172 (dk_at dksX25_right_1 17 rfl rfl)
theorem dX25_right_42 : decode cX25_right 42 = .ok (.iinc 2 (-1), 3) := dk_132 2 255 (dk_at dksX25_right_1 18 rfl rfl)
theorem dX25_right_45 : decode cX25_right 45 = .ok (.iinc 3 1, 3) := dk_132 3 1 (dk_at dksX25_right_1 21 rfl rfl)
theorem dX25_right_48 : decode cX25_right 48 = .ok (.goto (-44), 3) := dk_167 255 212 (dk_at dksX25_right_2 0 rfl rfl)
theorem dX25_right_51 : decode cX25_right 51 = .ok (.iload_n 2, 1) := dk_28 (dk_at dksX25_right_2 3 rfl rfl)
theorem dX25_right_52 : decode cX25_right 52 = .ok (.iconst 1, 1) := dk_4 (dk_at dksX25_right_2 4 rfl rfl)
theorem dX25_right_53 : decode cX25_right 53 = .ok (.if_icmp .ne 7, 3) := dk_160 0 7 (dk_at dksX25_right_2 5 rfl rfl)
theorem dX25_right_56 : decode cX25_right 56 = .ok (.iconst 1, 1) := dk_4 (dk_at dksX25_right_2 8 rfl rfl)
theorem dX25_right_57 : decode cX25_right 57 = .ok (.goto 4, 3) := dk_167 0 4 (dk_at dksX25_right_2 9 rfl rfl)
theorem dX25_right_60 : decode cX25_right 60 = .ok (.iconst 0, 1) := dk_3 (dk_at dksX25_right_2 12 rfl rfl)
theorem dX25_right_61 : decode cX25_right 61 = .ok (.ireturn, 1) := dk_172 (dk_at dksX25_right_2 13 rfl rfl)
def dkwX25_tells_1 : List UInt8 := [182, 0, 139, 153, 0, 16, 42, 27, 32, 22, 4, 22, 6, 182, 0, 149, 167, 0, 6, 20, 0, 153, 173]
abbrev dktX25_tells_1 : List UInt8 := dkwX25_tells_1 ++ []
def dkwX25_tells_0 : List UInt8 := [27, 133, 9, 42, 180, 0, 134, 4, 100, 133, 184, 0, 118, 154, 0, 9, 20, 0, 147, 167, 0, 27, 42, 27]
abbrev dktX25_tells_0 : List UInt8 := dkwX25_tells_0 ++ dktX25_tells_1
theorem dksX25_tells_0 : cX25_tells.data.toList.drop 0 = dktX25_tells_0 := by decide +kernel
theorem dksX25_tells_1 : cX25_tells.data.toList.drop 24 = dktX25_tells_1 := dk_seg dksX25_tells_0 24 rfl rfl
theorem dX25_tells_0 : decode cX25_tells 0 = .ok (.iload_n 1, 1) := dk_27 (dk_at dksX25_tells_0 0 rfl rfl)
theorem dX25_tells_1 : decode cX25_tells 1 = .ok (.i2l, 1) := dk_133 (dk_at dksX25_tells_0 1 rfl rfl)
theorem dX25_tells_2 : decode cX25_tells 2 = .ok (.lconst 0, 1) := dk_9 (dk_at dksX25_tells_0 2 rfl rfl)
theorem dX25_tells_3 : decode cX25_tells 3 = .ok (.aload_n 0, 1) := dk_42 (dk_at dksX25_tells_0 3 rfl rfl)
theorem dX25_tells_4 : decode cX25_tells 4 = .ok (.getfield 134, 3) := dk_180 0 134 (dk_at dksX25_tells_0 4 rfl rfl)
theorem dX25_tells_7 : decode cX25_tells 7 = .ok (.iconst 1, 1) := dk_4 (dk_at dksX25_tells_0 7 rfl rfl)
theorem dX25_tells_8 : decode cX25_tells 8 = .ok (.isub, 1) := dk_100 (dk_at dksX25_tells_0 8 rfl rfl)
theorem dX25_tells_9 : decode cX25_tells 9 = .ok (.i2l, 1) := dk_133 (dk_at dksX25_tells_0 9 rfl rfl)
theorem dX25_tells_10 : decode cX25_tells 10 = .ok (.invokestatic 118, 3) := dk_184 0 118 (dk_at dksX25_tells_0 10 rfl rfl)
theorem dX25_tells_13 : decode cX25_tells 13 = .ok (.ifCond .ne 9, 3) := dk_154 0 9 (dk_at dksX25_tells_0 13 rfl rfl)
theorem dX25_tells_16 : decode cX25_tells 16 = .ok (.ldc2_w 147, 3) := dk_20 0 147 (dk_at dksX25_tells_0 16 rfl rfl)
theorem dX25_tells_19 : decode cX25_tells 19 = .ok (.goto 27, 3) := dk_167 0 27 (dk_at dksX25_tells_0 19 rfl rfl)
theorem dX25_tells_22 : decode cX25_tells 22 = .ok (.aload_n 0, 1) := dk_42 (dk_at dksX25_tells_0 22 rfl rfl)
theorem dX25_tells_23 : decode cX25_tells 23 = .ok (.iload_n 1, 1) := dk_27 (dk_at dksX25_tells_0 23 rfl rfl)
theorem dX25_tells_24 : decode cX25_tells 24 = .ok (.invokevirtual 139, 3) := dk_182 0 139 (dk_at dksX25_tells_1 0 rfl rfl)
theorem dX25_tells_27 : decode cX25_tells 27 = .ok (.ifCond .eq 16, 3) := dk_153 0 16 (dk_at dksX25_tells_1 3 rfl rfl)
theorem dX25_tells_30 : decode cX25_tells 30 = .ok (.aload_n 0, 1) := dk_42 (dk_at dksX25_tells_1 6 rfl rfl)
theorem dX25_tells_31 : decode cX25_tells 31 = .ok (.iload_n 1, 1) := dk_27 (dk_at dksX25_tells_1 7 rfl rfl)
theorem dX25_tells_32 : decode cX25_tells 32 = .ok (.lload_n 2, 1) := dk_32 (dk_at dksX25_tells_1 8 rfl rfl)
theorem dX25_tells_33 : decode cX25_tells 33 = .ok (.lload 4, 2) := dk_22 4 (dk_at dksX25_tells_1 9 rfl rfl)
theorem dX25_tells_35 : decode cX25_tells 35 = .ok (.lload 6, 2) := dk_22 6 (dk_at dksX25_tells_1 11 rfl rfl)
theorem dX25_tells_37 : decode cX25_tells 37 = .ok (.invokevirtual 149, 3) := dk_182 0 149 (dk_at dksX25_tells_1 13 rfl rfl)
theorem dX25_tells_40 : decode cX25_tells 40 = .ok (.goto 6, 3) := dk_167 0 6 (dk_at dksX25_tells_1 16 rfl rfl)
theorem dX25_tells_43 : decode cX25_tells 43 = .ok (.ldc2_w 153, 3) := dk_20 0 153 (dk_at dksX25_tells_1 19 rfl rfl)
theorem dX25_tells_46 : decode cX25_tells 46 = .ok (.lreturn, 1) := dk_173 (dk_at dksX25_tells_1 22 rfl rfl)
def dkwX25_told_5 : List UInt8 := [180, 0, 31, 21, 8, 47, 184, 0, 143, 80, 132, 9, 1, 167, 255, 132, 42, 180, 0, 31, 3, 47, 173]
abbrev dktX25_told_5 : List UInt8 := dkwX25_told_5 ++ []
def dkwX25_told_4 : List UInt8 := [132, 8, 255, 42, 180, 0, 31, 21, 8, 4, 100, 21, 10, 42, 180, 0, 31, 21, 8, 4, 100, 47, 42]
abbrev dktX25_told_4 : List UInt8 := dkwX25_told_4 ++ dktX25_told_5
def dkwX25_told_3 : List UInt8 := [167, 0, 16, 42, 180, 0, 25, 16, 12, 27, 104, 21, 9, 96, 46, 133, 80, 132, 8, 1, 167, 0, 36]
abbrev dktX25_told_3 : List UInt8 := dkwX25_told_3 ++ dktX25_told_4
def dkwX25_told_2 : List UInt8 := [32, 167, 0, 38, 21, 10, 4, 160, 0, 8, 22, 4, 167, 0, 27, 21, 10, 5, 160, 0, 8, 22, 6]
abbrev dktX25_told_2 : List UInt8 := dkwX25_told_2 ++ dktX25_told_3
def dkwX25_told_1 : List UInt8 := [104, 21, 9, 96, 46, 54, 10, 21, 10, 7, 162, 0, 60, 42, 180, 0, 31, 21, 8, 21, 10, 154, 0, 7]
abbrev dktX25_told_1 : List UInt8 := dkwX25_told_1 ++ dktX25_told_2
def dkwX25_told_0 : List UInt8 := [3, 54, 8, 3, 54, 9, 21, 9, 42, 180, 0, 19, 27, 46, 162, 0, 119, 42, 180, 0, 22, 16, 12, 27]
abbrev dktX25_told_0 : List UInt8 := dkwX25_told_0 ++ dktX25_told_1
theorem dksX25_told_0 : cX25_told.data.toList.drop 0 = dktX25_told_0 := by decide +kernel
theorem dksX25_told_1 : cX25_told.data.toList.drop 24 = dktX25_told_1 := dk_seg dksX25_told_0 24 rfl rfl
theorem dksX25_told_2 : cX25_told.data.toList.drop 48 = dktX25_told_2 := dk_seg dksX25_told_1 24 rfl rfl
theorem dksX25_told_3 : cX25_told.data.toList.drop 71 = dktX25_told_3 := dk_seg dksX25_told_2 23 rfl rfl
theorem dksX25_told_4 : cX25_told.data.toList.drop 94 = dktX25_told_4 := dk_seg dksX25_told_3 23 rfl rfl
theorem dksX25_told_5 : cX25_told.data.toList.drop 117 = dktX25_told_5 := dk_seg dksX25_told_4 23 rfl rfl
theorem dX25_told_0 : decode cX25_told 0 = .ok (.iconst 0, 1) := dk_3 (dk_at dksX25_told_0 0 rfl rfl)
theorem dX25_told_1 : decode cX25_told 1 = .ok (.istore 8, 2) := dk_54 8 (dk_at dksX25_told_0 1 rfl rfl)
theorem dX25_told_3 : decode cX25_told 3 = .ok (.iconst 0, 1) := dk_3 (dk_at dksX25_told_0 3 rfl rfl)
theorem dX25_told_4 : decode cX25_told 4 = .ok (.istore 9, 2) := dk_54 9 (dk_at dksX25_told_0 4 rfl rfl)
theorem dX25_told_6 : decode cX25_told 6 = .ok (.iload 9, 2) := dk_21 9 (dk_at dksX25_told_0 6 rfl rfl)
theorem dX25_told_8 : decode cX25_told 8 = .ok (.aload_n 0, 1) := dk_42 (dk_at dksX25_told_0 8 rfl rfl)
theorem dX25_told_9 : decode cX25_told 9 = .ok (.getfield 19, 3) := dk_180 0 19 (dk_at dksX25_told_0 9 rfl rfl)
theorem dX25_told_12 : decode cX25_told 12 = .ok (.iload_n 1, 1) := dk_27 (dk_at dksX25_told_0 12 rfl rfl)
theorem dX25_told_13 : decode cX25_told 13 = .ok (.iaload, 1) := dk_46 (dk_at dksX25_told_0 13 rfl rfl)
theorem dX25_told_14 : decode cX25_told 14 = .ok (.if_icmp .ge 119, 3) := dk_162 0 119 (dk_at dksX25_told_0 14 rfl rfl)
theorem dX25_told_17 : decode cX25_told 17 = .ok (.aload_n 0, 1) := dk_42 (dk_at dksX25_told_0 17 rfl rfl)
theorem dX25_told_18 : decode cX25_told 18 = .ok (.getfield 22, 3) := dk_180 0 22 (dk_at dksX25_told_0 18 rfl rfl)
theorem dX25_told_21 : decode cX25_told 21 = .ok (.bipush 12, 2) := dk_16 12 (dk_at dksX25_told_0 21 rfl rfl)
theorem dX25_told_23 : decode cX25_told 23 = .ok (.iload_n 1, 1) := dk_27 (dk_at dksX25_told_0 23 rfl rfl)
theorem dX25_told_24 : decode cX25_told 24 = .ok (.imul, 1) := dk_104 (dk_at dksX25_told_1 0 rfl rfl)
theorem dX25_told_25 : decode cX25_told 25 = .ok (.iload 9, 2) := dk_21 9 (dk_at dksX25_told_1 1 rfl rfl)
theorem dX25_told_27 : decode cX25_told 27 = .ok (.iadd, 1) := dk_96 (dk_at dksX25_told_1 3 rfl rfl)
theorem dX25_told_28 : decode cX25_told 28 = .ok (.iaload, 1) := dk_46 (dk_at dksX25_told_1 4 rfl rfl)
theorem dX25_told_29 : decode cX25_told 29 = .ok (.istore 10, 2) := dk_54 10 (dk_at dksX25_told_1 5 rfl rfl)
theorem dX25_told_31 : decode cX25_told 31 = .ok (.iload 10, 2) := dk_21 10 (dk_at dksX25_told_1 7 rfl rfl)
theorem dX25_told_33 : decode cX25_told 33 = .ok (.iconst 4, 1) := dk_7 (dk_at dksX25_told_1 9 rfl rfl)
theorem dX25_told_34 : decode cX25_told 34 = .ok (.if_icmp .ge 60, 3) := dk_162 0 60 (dk_at dksX25_told_1 10 rfl rfl)
theorem dX25_told_37 : decode cX25_told 37 = .ok (.aload_n 0, 1) := dk_42 (dk_at dksX25_told_1 13 rfl rfl)
theorem dX25_told_38 : decode cX25_told 38 = .ok (.getfield 31, 3) := dk_180 0 31 (dk_at dksX25_told_1 14 rfl rfl)
theorem dX25_told_41 : decode cX25_told 41 = .ok (.iload 8, 2) := dk_21 8 (dk_at dksX25_told_1 17 rfl rfl)
theorem dX25_told_43 : decode cX25_told 43 = .ok (.iload 10, 2) := dk_21 10 (dk_at dksX25_told_1 19 rfl rfl)
theorem dX25_told_45 : decode cX25_told 45 = .ok (.ifCond .ne 7, 3) := dk_154 0 7 (dk_at dksX25_told_1 21 rfl rfl)
theorem dX25_told_48 : decode cX25_told 48 = .ok (.lload_n 2, 1) := dk_32 (dk_at dksX25_told_2 0 rfl rfl)
theorem dX25_told_49 : decode cX25_told 49 = .ok (.goto 38, 3) := dk_167 0 38 (dk_at dksX25_told_2 1 rfl rfl)
theorem dX25_told_52 : decode cX25_told 52 = .ok (.iload 10, 2) := dk_21 10 (dk_at dksX25_told_2 4 rfl rfl)
theorem dX25_told_54 : decode cX25_told 54 = .ok (.iconst 1, 1) := dk_4 (dk_at dksX25_told_2 6 rfl rfl)
theorem dX25_told_55 : decode cX25_told 55 = .ok (.if_icmp .ne 8, 3) := dk_160 0 8 (dk_at dksX25_told_2 7 rfl rfl)
theorem dX25_told_58 : decode cX25_told 58 = .ok (.lload 4, 2) := dk_22 4 (dk_at dksX25_told_2 10 rfl rfl)
theorem dX25_told_60 : decode cX25_told 60 = .ok (.goto 27, 3) := dk_167 0 27 (dk_at dksX25_told_2 12 rfl rfl)
theorem dX25_told_63 : decode cX25_told 63 = .ok (.iload 10, 2) := dk_21 10 (dk_at dksX25_told_2 15 rfl rfl)
theorem dX25_told_65 : decode cX25_told 65 = .ok (.iconst 2, 1) := dk_5 (dk_at dksX25_told_2 17 rfl rfl)
theorem dX25_told_66 : decode cX25_told 66 = .ok (.if_icmp .ne 8, 3) := dk_160 0 8 (dk_at dksX25_told_2 18 rfl rfl)
theorem dX25_told_69 : decode cX25_told 69 = .ok (.lload 6, 2) := dk_22 6 (dk_at dksX25_told_2 21 rfl rfl)
theorem dX25_told_71 : decode cX25_told 71 = .ok (.goto 16, 3) := dk_167 0 16 (dk_at dksX25_told_3 0 rfl rfl)
theorem dX25_told_74 : decode cX25_told 74 = .ok (.aload_n 0, 1) := dk_42 (dk_at dksX25_told_3 3 rfl rfl)
theorem dX25_told_75 : decode cX25_told 75 = .ok (.getfield 25, 3) := dk_180 0 25 (dk_at dksX25_told_3 4 rfl rfl)
theorem dX25_told_78 : decode cX25_told 78 = .ok (.bipush 12, 2) := dk_16 12 (dk_at dksX25_told_3 7 rfl rfl)
theorem dX25_told_80 : decode cX25_told 80 = .ok (.iload_n 1, 1) := dk_27 (dk_at dksX25_told_3 9 rfl rfl)
theorem dX25_told_81 : decode cX25_told 81 = .ok (.imul, 1) := dk_104 (dk_at dksX25_told_3 10 rfl rfl)
theorem dX25_told_82 : decode cX25_told 82 = .ok (.iload 9, 2) := dk_21 9 (dk_at dksX25_told_3 11 rfl rfl)
theorem dX25_told_84 : decode cX25_told 84 = .ok (.iadd, 1) := dk_96 (dk_at dksX25_told_3 13 rfl rfl)
theorem dX25_told_85 : decode cX25_told 85 = .ok (.iaload, 1) := dk_46 (dk_at dksX25_told_3 14 rfl rfl)
theorem dX25_told_86 : decode cX25_told 86 = .ok (.i2l, 1) := dk_133 (dk_at dksX25_told_3 15 rfl rfl)
theorem dX25_told_87 : decode cX25_told 87 = .ok (.lastore, 1) := dk_80 (dk_at dksX25_told_3 16 rfl rfl)
theorem dX25_told_88 : decode cX25_told 88 = .ok (.iinc 8 1, 3) := dk_132 8 1 (dk_at dksX25_told_3 17 rfl rfl)
theorem dX25_told_91 : decode cX25_told 91 = .ok (.goto 36, 3) := dk_167 0 36 (dk_at dksX25_told_3 20 rfl rfl)
theorem dX25_told_94 : decode cX25_told 94 = .ok (.iinc 8 (-1), 3) := dk_132 8 255 (dk_at dksX25_told_4 0 rfl rfl)
theorem dX25_told_97 : decode cX25_told 97 = .ok (.aload_n 0, 1) := dk_42 (dk_at dksX25_told_4 3 rfl rfl)
theorem dX25_told_98 : decode cX25_told 98 = .ok (.getfield 31, 3) := dk_180 0 31 (dk_at dksX25_told_4 4 rfl rfl)
theorem dX25_told_101 : decode cX25_told 101 = .ok (.iload 8, 2) := dk_21 8 (dk_at dksX25_told_4 7 rfl rfl)
theorem dX25_told_103 : decode cX25_told 103 = .ok (.iconst 1, 1) := dk_4 (dk_at dksX25_told_4 9 rfl rfl)
theorem dX25_told_104 : decode cX25_told 104 = .ok (.isub, 1) := dk_100 (dk_at dksX25_told_4 10 rfl rfl)
theorem dX25_told_105 : decode cX25_told 105 = .ok (.iload 10, 2) := dk_21 10 (dk_at dksX25_told_4 11 rfl rfl)
theorem dX25_told_107 : decode cX25_told 107 = .ok (.aload_n 0, 1) := dk_42 (dk_at dksX25_told_4 13 rfl rfl)
theorem dX25_told_108 : decode cX25_told 108 = .ok (.getfield 31, 3) := dk_180 0 31 (dk_at dksX25_told_4 14 rfl rfl)
theorem dX25_told_111 : decode cX25_told 111 = .ok (.iload 8, 2) := dk_21 8 (dk_at dksX25_told_4 17 rfl rfl)
theorem dX25_told_113 : decode cX25_told 113 = .ok (.iconst 1, 1) := dk_4 (dk_at dksX25_told_4 19 rfl rfl)
theorem dX25_told_114 : decode cX25_told 114 = .ok (.isub, 1) := dk_100 (dk_at dksX25_told_4 20 rfl rfl)
theorem dX25_told_115 : decode cX25_told 115 = .ok (.laload, 1) := dk_47 (dk_at dksX25_told_4 21 rfl rfl)
theorem dX25_told_116 : decode cX25_told 116 = .ok (.aload_n 0, 1) := dk_42 (dk_at dksX25_told_4 22 rfl rfl)
theorem dX25_told_117 : decode cX25_told 117 = .ok (.getfield 31, 3) := dk_180 0 31 (dk_at dksX25_told_5 0 rfl rfl)
theorem dX25_told_120 : decode cX25_told 120 = .ok (.iload 8, 2) := dk_21 8 (dk_at dksX25_told_5 3 rfl rfl)
theorem dX25_told_122 : decode cX25_told 122 = .ok (.laload, 1) := dk_47 (dk_at dksX25_told_5 5 rfl rfl)
theorem dX25_told_123 : decode cX25_told 123 = .ok (.invokestatic 143, 3) := dk_184 0 143 (dk_at dksX25_told_5 6 rfl rfl)
theorem dX25_told_126 : decode cX25_told 126 = .ok (.lastore, 1) := dk_80 (dk_at dksX25_told_5 9 rfl rfl)
theorem dX25_told_127 : decode cX25_told 127 = .ok (.iinc 9 1, 3) := dk_132 9 1 (dk_at dksX25_told_5 10 rfl rfl)
theorem dX25_told_130 : decode cX25_told 130 = .ok (.goto (-124), 3) := dk_167 255 132 (dk_at dksX25_told_5 13 rfl rfl)
theorem dX25_told_133 : decode cX25_told 133 = .ok (.aload_n 0, 1) := dk_42 (dk_at dksX25_told_5 16 rfl rfl)
theorem dX25_told_134 : decode cX25_told 134 = .ok (.getfield 31, 3) := dk_180 0 31 (dk_at dksX25_told_5 17 rfl rfl)
theorem dX25_told_137 : decode cX25_told 137 = .ok (.iconst 0, 1) := dk_3 (dk_at dksX25_told_5 20 rfl rfl)
theorem dX25_told_138 : decode cX25_told 138 = .ok (.laload, 1) := dk_47 (dk_at dksX25_told_5 21 rfl rfl)
theorem dX25_told_139 : decode cX25_told 139 = .ok (.lreturn, 1) := dk_173 (dk_at dksX25_told_5 22 rfl rfl)
def dkwX25_ofTwo_3 : List UInt8 := [158, 0, 7, 31, 167, 0, 4, 33, 173, 31, 33, 127, 173, 31, 33, 129, 173, 31, 33, 131, 173]
abbrev dktX25_ofTwo_3 : List UInt8 := dkwX25_ofTwo_3 ++ []
def dkwX25_ofTwo_2 : List UInt8 := [31, 33, 97, 173, 31, 33, 101, 173, 31, 33, 148, 156, 0, 7, 31, 167, 0, 4, 33, 173, 31, 33, 148]
abbrev dktX25_ofTwo_2 : List UInt8 := dkwX25_ofTwo_2 ++ dktX25_ofTwo_3
def dkwX25_ofTwo_1 : List UInt8 := [170, 0, 0, 0, 0, 0, 79, 0, 0, 0, 4, 0, 0, 0, 9, 0, 0, 0, 39, 0, 0, 0, 43, 0, 0, 0, 47, 0, 0, 0, 59, 0, 0, 0, 71, 0, 0, 0, 75]
abbrev dktX25_ofTwo_1 : List UInt8 := dkwX25_ofTwo_1 ++ dktX25_ofTwo_2
def dkwX25_ofTwo_0 : List UInt8 := [26]
abbrev dktX25_ofTwo_0 : List UInt8 := dkwX25_ofTwo_0 ++ dktX25_ofTwo_1
theorem dksX25_ofTwo_0 : cX25_ofTwo.data.toList.drop 0 = dktX25_ofTwo_0 := by decide +kernel
theorem dksX25_ofTwo_1 : cX25_ofTwo.data.toList.drop 1 = dktX25_ofTwo_1 := dk_seg dksX25_ofTwo_0 1 rfl rfl
theorem dksX25_ofTwo_2 : cX25_ofTwo.data.toList.drop 40 = dktX25_ofTwo_2 := dk_seg dksX25_ofTwo_1 39 rfl rfl
theorem dksX25_ofTwo_3 : cX25_ofTwo.data.toList.drop 63 = dktX25_ofTwo_3 := dk_seg dksX25_ofTwo_2 23 rfl rfl
theorem dX25_ofTwo_0 : decode cX25_ofTwo 0 = .ok (.iload_n 0, 1) := dk_26 (dk_at dksX25_ofTwo_0 0 rfl rfl)
theorem dX25_ofTwo_1 : decode cX25_ofTwo 1 = .ok (.tableswitch 79 4 9 #[39, 43, 47, 59, 71, 75], 39) := by decide +kernel
theorem dX25_ofTwo_40 : decode cX25_ofTwo 40 = .ok (.lload_n 1, 1) := dk_31 (dk_at dksX25_ofTwo_2 0 rfl rfl)
theorem dX25_ofTwo_41 : decode cX25_ofTwo 41 = .ok (.lload_n 3, 1) := dk_33 (dk_at dksX25_ofTwo_2 1 rfl rfl)
theorem dX25_ofTwo_42 : decode cX25_ofTwo 42 = .ok (.ladd, 1) := dk_97 (dk_at dksX25_ofTwo_2 2 rfl rfl)
theorem dX25_ofTwo_43 : decode cX25_ofTwo 43 = .ok (.lreturn, 1) := dk_173 (dk_at dksX25_ofTwo_2 3 rfl rfl)
theorem dX25_ofTwo_44 : decode cX25_ofTwo 44 = .ok (.lload_n 1, 1) := dk_31 (dk_at dksX25_ofTwo_2 4 rfl rfl)
theorem dX25_ofTwo_45 : decode cX25_ofTwo 45 = .ok (.lload_n 3, 1) := dk_33 (dk_at dksX25_ofTwo_2 5 rfl rfl)
theorem dX25_ofTwo_46 : decode cX25_ofTwo 46 = .ok (.lsub, 1) := dk_101 (dk_at dksX25_ofTwo_2 6 rfl rfl)
theorem dX25_ofTwo_47 : decode cX25_ofTwo 47 = .ok (.lreturn, 1) := dk_173 (dk_at dksX25_ofTwo_2 7 rfl rfl)
theorem dX25_ofTwo_48 : decode cX25_ofTwo 48 = .ok (.lload_n 1, 1) := dk_31 (dk_at dksX25_ofTwo_2 8 rfl rfl)
theorem dX25_ofTwo_49 : decode cX25_ofTwo 49 = .ok (.lload_n 3, 1) := dk_33 (dk_at dksX25_ofTwo_2 9 rfl rfl)
theorem dX25_ofTwo_50 : decode cX25_ofTwo 50 = .ok (.lcmp, 1) := dk_148 (dk_at dksX25_ofTwo_2 10 rfl rfl)
theorem dX25_ofTwo_51 : decode cX25_ofTwo 51 = .ok (.ifCond .ge 7, 3) := dk_156 0 7 (dk_at dksX25_ofTwo_2 11 rfl rfl)
theorem dX25_ofTwo_54 : decode cX25_ofTwo 54 = .ok (.lload_n 1, 1) := dk_31 (dk_at dksX25_ofTwo_2 14 rfl rfl)
theorem dX25_ofTwo_55 : decode cX25_ofTwo 55 = .ok (.goto 4, 3) := dk_167 0 4 (dk_at dksX25_ofTwo_2 15 rfl rfl)
theorem dX25_ofTwo_58 : decode cX25_ofTwo 58 = .ok (.lload_n 3, 1) := dk_33 (dk_at dksX25_ofTwo_2 18 rfl rfl)
theorem dX25_ofTwo_59 : decode cX25_ofTwo 59 = .ok (.lreturn, 1) := dk_173 (dk_at dksX25_ofTwo_2 19 rfl rfl)
theorem dX25_ofTwo_60 : decode cX25_ofTwo 60 = .ok (.lload_n 1, 1) := dk_31 (dk_at dksX25_ofTwo_2 20 rfl rfl)
theorem dX25_ofTwo_61 : decode cX25_ofTwo 61 = .ok (.lload_n 3, 1) := dk_33 (dk_at dksX25_ofTwo_2 21 rfl rfl)
theorem dX25_ofTwo_62 : decode cX25_ofTwo 62 = .ok (.lcmp, 1) := dk_148 (dk_at dksX25_ofTwo_2 22 rfl rfl)
theorem dX25_ofTwo_63 : decode cX25_ofTwo 63 = .ok (.ifCond .le 7, 3) := dk_158 0 7 (dk_at dksX25_ofTwo_3 0 rfl rfl)
theorem dX25_ofTwo_66 : decode cX25_ofTwo 66 = .ok (.lload_n 1, 1) := dk_31 (dk_at dksX25_ofTwo_3 3 rfl rfl)
theorem dX25_ofTwo_67 : decode cX25_ofTwo 67 = .ok (.goto 4, 3) := dk_167 0 4 (dk_at dksX25_ofTwo_3 4 rfl rfl)
theorem dX25_ofTwo_70 : decode cX25_ofTwo 70 = .ok (.lload_n 3, 1) := dk_33 (dk_at dksX25_ofTwo_3 7 rfl rfl)
theorem dX25_ofTwo_71 : decode cX25_ofTwo 71 = .ok (.lreturn, 1) := dk_173 (dk_at dksX25_ofTwo_3 8 rfl rfl)
theorem dX25_ofTwo_72 : decode cX25_ofTwo 72 = .ok (.lload_n 1, 1) := dk_31 (dk_at dksX25_ofTwo_3 9 rfl rfl)
theorem dX25_ofTwo_73 : decode cX25_ofTwo 73 = .ok (.lload_n 3, 1) := dk_33 (dk_at dksX25_ofTwo_3 10 rfl rfl)
theorem dX25_ofTwo_74 : decode cX25_ofTwo 74 = .ok (.land, 1) := dk_127 (dk_at dksX25_ofTwo_3 11 rfl rfl)
theorem dX25_ofTwo_75 : decode cX25_ofTwo 75 = .ok (.lreturn, 1) := dk_173 (dk_at dksX25_ofTwo_3 12 rfl rfl)
theorem dX25_ofTwo_76 : decode cX25_ofTwo 76 = .ok (.lload_n 1, 1) := dk_31 (dk_at dksX25_ofTwo_3 13 rfl rfl)
theorem dX25_ofTwo_77 : decode cX25_ofTwo 77 = .ok (.lload_n 3, 1) := dk_33 (dk_at dksX25_ofTwo_3 14 rfl rfl)
theorem dX25_ofTwo_78 : decode cX25_ofTwo 78 = .ok (.lor, 1) := dk_129 (dk_at dksX25_ofTwo_3 15 rfl rfl)
theorem dX25_ofTwo_79 : decode cX25_ofTwo 79 = .ok (.lreturn, 1) := dk_173 (dk_at dksX25_ofTwo_3 16 rfl rfl)
theorem dX25_ofTwo_80 : decode cX25_ofTwo 80 = .ok (.lload_n 1, 1) := dk_31 (dk_at dksX25_ofTwo_3 17 rfl rfl)
theorem dX25_ofTwo_81 : decode cX25_ofTwo 81 = .ok (.lload_n 3, 1) := dk_33 (dk_at dksX25_ofTwo_3 18 rfl rfl)
theorem dX25_ofTwo_82 : decode cX25_ofTwo 82 = .ok (.lxor, 1) := dk_131 (dk_at dksX25_ofTwo_3 19 rfl rfl)
theorem dX25_ofTwo_83 : decode cX25_ofTwo 83 = .ok (.lreturn, 1) := dk_173 (dk_at dksX25_ofTwo_3 20 rfl rfl)
def dkwX25_kind_2 : List UInt8 := [180, 0, 28, 27, 46, 62, 42, 180, 0, 28, 27, 28, 79, 29, 172]
abbrev dktX25_kind_2 : List UInt8 := dkwX25_kind_2 ++ []
def dkwX25_kind_1 : List UInt8 := [2, 172, 42, 180, 0, 130, 154, 0, 13, 28, 6, 100, 42, 180, 0, 134, 161, 0, 6, 16, 254, 172, 42]
abbrev dktX25_kind_1 : List UInt8 := dkwX25_kind_1 ++ dktX25_kind_2
def dkwX25_kind_0 : List UInt8 := [27, 133, 9, 20, 0, 124, 184, 0, 118, 153, 0, 15, 28, 133, 9, 20, 0, 155, 184, 0, 118, 154, 0, 5]
abbrev dktX25_kind_0 : List UInt8 := dkwX25_kind_0 ++ dktX25_kind_1
theorem dksX25_kind_0 : cX25_kind.data.toList.drop 0 = dktX25_kind_0 := by decide +kernel
theorem dksX25_kind_1 : cX25_kind.data.toList.drop 24 = dktX25_kind_1 := dk_seg dksX25_kind_0 24 rfl rfl
theorem dksX25_kind_2 : cX25_kind.data.toList.drop 47 = dktX25_kind_2 := dk_seg dksX25_kind_1 23 rfl rfl
theorem dX25_kind_0 : decode cX25_kind 0 = .ok (.iload_n 1, 1) := dk_27 (dk_at dksX25_kind_0 0 rfl rfl)
theorem dX25_kind_1 : decode cX25_kind 1 = .ok (.i2l, 1) := dk_133 (dk_at dksX25_kind_0 1 rfl rfl)
theorem dX25_kind_2 : decode cX25_kind 2 = .ok (.lconst 0, 1) := dk_9 (dk_at dksX25_kind_0 2 rfl rfl)
theorem dX25_kind_3 : decode cX25_kind 3 = .ok (.ldc2_w 124, 3) := dk_20 0 124 (dk_at dksX25_kind_0 3 rfl rfl)
theorem dX25_kind_6 : decode cX25_kind 6 = .ok (.invokestatic 118, 3) := dk_184 0 118 (dk_at dksX25_kind_0 6 rfl rfl)
theorem dX25_kind_9 : decode cX25_kind 9 = .ok (.ifCond .eq 15, 3) := dk_153 0 15 (dk_at dksX25_kind_0 9 rfl rfl)
theorem dX25_kind_12 : decode cX25_kind 12 = .ok (.iload_n 2, 1) := dk_28 (dk_at dksX25_kind_0 12 rfl rfl)
theorem dX25_kind_13 : decode cX25_kind 13 = .ok (.i2l, 1) := dk_133 (dk_at dksX25_kind_0 13 rfl rfl)
theorem dX25_kind_14 : decode cX25_kind 14 = .ok (.lconst 0, 1) := dk_9 (dk_at dksX25_kind_0 14 rfl rfl)
theorem dX25_kind_15 : decode cX25_kind 15 = .ok (.ldc2_w 155, 3) := dk_20 0 155 (dk_at dksX25_kind_0 15 rfl rfl)
theorem dX25_kind_18 : decode cX25_kind 18 = .ok (.invokestatic 118, 3) := dk_184 0 118 (dk_at dksX25_kind_0 18 rfl rfl)
theorem dX25_kind_21 : decode cX25_kind 21 = .ok (.ifCond .ne 5, 3) := dk_154 0 5 (dk_at dksX25_kind_0 21 rfl rfl)
theorem dX25_kind_24 : decode cX25_kind 24 = .ok (.iconst (-1), 1) := dk_2 (dk_at dksX25_kind_1 0 rfl rfl)
theorem dX25_kind_25 : decode cX25_kind 25 = .ok (.ireturn, 1) := dk_172 (dk_at dksX25_kind_1 1 rfl rfl)
theorem dX25_kind_26 : decode cX25_kind 26 = .ok (.aload_n 0, 1) := dk_42 (dk_at dksX25_kind_1 2 rfl rfl)
theorem dX25_kind_27 : decode cX25_kind 27 = .ok (.getfield 130, 3) := dk_180 0 130 (dk_at dksX25_kind_1 3 rfl rfl)
theorem dX25_kind_30 : decode cX25_kind 30 = .ok (.ifCond .ne 13, 3) := dk_154 0 13 (dk_at dksX25_kind_1 6 rfl rfl)
theorem dX25_kind_33 : decode cX25_kind 33 = .ok (.iload_n 2, 1) := dk_28 (dk_at dksX25_kind_1 9 rfl rfl)
theorem dX25_kind_34 : decode cX25_kind 34 = .ok (.iconst 3, 1) := dk_6 (dk_at dksX25_kind_1 10 rfl rfl)
theorem dX25_kind_35 : decode cX25_kind 35 = .ok (.isub, 1) := dk_100 (dk_at dksX25_kind_1 11 rfl rfl)
theorem dX25_kind_36 : decode cX25_kind 36 = .ok (.aload_n 0, 1) := dk_42 (dk_at dksX25_kind_1 12 rfl rfl)
theorem dX25_kind_37 : decode cX25_kind 37 = .ok (.getfield 134, 3) := dk_180 0 134 (dk_at dksX25_kind_1 13 rfl rfl)
theorem dX25_kind_40 : decode cX25_kind 40 = .ok (.if_icmp .lt 6, 3) := dk_161 0 6 (dk_at dksX25_kind_1 16 rfl rfl)
theorem dX25_kind_43 : decode cX25_kind 43 = .ok (.bipush (-2), 2) := dk_16 254 (dk_at dksX25_kind_1 19 rfl rfl)
theorem dX25_kind_45 : decode cX25_kind 45 = .ok (.ireturn, 1) := dk_172 (dk_at dksX25_kind_1 21 rfl rfl)
theorem dX25_kind_46 : decode cX25_kind 46 = .ok (.aload_n 0, 1) := dk_42 (dk_at dksX25_kind_1 22 rfl rfl)
theorem dX25_kind_47 : decode cX25_kind 47 = .ok (.getfield 28, 3) := dk_180 0 28 (dk_at dksX25_kind_2 0 rfl rfl)
theorem dX25_kind_50 : decode cX25_kind 50 = .ok (.iload_n 1, 1) := dk_27 (dk_at dksX25_kind_2 3 rfl rfl)
theorem dX25_kind_51 : decode cX25_kind 51 = .ok (.iaload, 1) := dk_46 (dk_at dksX25_kind_2 4 rfl rfl)
theorem dX25_kind_52 : decode cX25_kind 52 = .ok (.istore_n 3, 1) := dk_62 (dk_at dksX25_kind_2 5 rfl rfl)
theorem dX25_kind_53 : decode cX25_kind 53 = .ok (.aload_n 0, 1) := dk_42 (dk_at dksX25_kind_2 6 rfl rfl)
theorem dX25_kind_54 : decode cX25_kind 54 = .ok (.getfield 28, 3) := dk_180 0 28 (dk_at dksX25_kind_2 7 rfl rfl)
theorem dX25_kind_57 : decode cX25_kind 57 = .ok (.iload_n 1, 1) := dk_27 (dk_at dksX25_kind_2 10 rfl rfl)
theorem dX25_kind_58 : decode cX25_kind 58 = .ok (.iload_n 2, 1) := dk_28 (dk_at dksX25_kind_2 11 rfl rfl)
theorem dX25_kind_59 : decode cX25_kind 59 = .ok (.iastore, 1) := dk_79 (dk_at dksX25_kind_2 12 rfl rfl)
theorem dX25_kind_60 : decode cX25_kind 60 = .ok (.iload_n 3, 1) := dk_29 (dk_at dksX25_kind_2 13 rfl rfl)
theorem dX25_kind_61 : decode cX25_kind 61 = .ok (.ireturn, 1) := dk_172 (dk_at dksX25_kind_2 14 rfl rfl)
def dkwX25_start_5 : List UInt8 := [4, 172]
abbrev dktX25_start_5 : List UInt8 := dkwX25_start_5 ++ []
def dkwX25_start_4 : List UInt8 := [181, 0, 176, 42, 16, 252, 182, 0, 179, 54, 4, 42, 3, 16, 252, 31, 3, 21, 4, 16, 252, 182, 0, 183]
abbrev dktX25_start_4 : List UInt8 := dkwX25_start_4 ++ dktX25_start_5
def dkwX25_start_3 : List UInt8 := [172, 42, 4, 181, 0, 130, 42, 3, 181, 0, 160, 42, 3, 181, 0, 157, 42, 3, 181, 0, 173, 42, 3]
abbrev dktX25_start_3 : List UInt8 := dkwX25_start_3 ++ dktX25_start_4
def dkwX25_start_2 : List UInt8 := [182, 0, 139, 153, 0, 7, 4, 167, 0, 4, 3, 62, 132, 4, 1, 167, 255, 209, 29, 154, 0, 6, 16, 254]
abbrev dktX25_start_2 : List UInt8 := dkwX25_start_2 ++ dktX25_start_3
def dkwX25_start_1 : List UInt8 := [153, 0, 34, 42, 180, 0, 28, 21, 4, 46, 6, 161, 0, 19, 42, 42, 180, 0, 28, 21, 4, 46, 6, 100]
abbrev dktX25_start_1 : List UInt8 := dkwX25_start_1 ++ dktX25_start_2
def dkwX25_start_0 : List UInt8 := [42, 180, 0, 114, 158, 0, 7, 4, 167, 0, 4, 3, 62, 3, 54, 4, 21, 4, 16, 16, 162, 0, 46, 29]
abbrev dktX25_start_0 : List UInt8 := dkwX25_start_0 ++ dktX25_start_1
theorem dksX25_start_0 : cX25_start.data.toList.drop 0 = dktX25_start_0 := by decide +kernel
theorem dksX25_start_1 : cX25_start.data.toList.drop 24 = dktX25_start_1 := dk_seg dksX25_start_0 24 rfl rfl
theorem dksX25_start_2 : cX25_start.data.toList.drop 48 = dktX25_start_2 := dk_seg dksX25_start_1 24 rfl rfl
theorem dksX25_start_3 : cX25_start.data.toList.drop 72 = dktX25_start_3 := dk_seg dksX25_start_2 24 rfl rfl
theorem dksX25_start_4 : cX25_start.data.toList.drop 95 = dktX25_start_4 := dk_seg dksX25_start_3 23 rfl rfl
theorem dksX25_start_5 : cX25_start.data.toList.drop 119 = dktX25_start_5 := dk_seg dksX25_start_4 24 rfl rfl
theorem dX25_start_0 : decode cX25_start 0 = .ok (.aload_n 0, 1) := dk_42 (dk_at dksX25_start_0 0 rfl rfl)
theorem dX25_start_1 : decode cX25_start 1 = .ok (.getfield 114, 3) := dk_180 0 114 (dk_at dksX25_start_0 1 rfl rfl)
theorem dX25_start_4 : decode cX25_start 4 = .ok (.ifCond .le 7, 3) := dk_158 0 7 (dk_at dksX25_start_0 4 rfl rfl)
theorem dX25_start_7 : decode cX25_start 7 = .ok (.iconst 1, 1) := dk_4 (dk_at dksX25_start_0 7 rfl rfl)
theorem dX25_start_8 : decode cX25_start 8 = .ok (.goto 4, 3) := dk_167 0 4 (dk_at dksX25_start_0 8 rfl rfl)
theorem dX25_start_11 : decode cX25_start 11 = .ok (.iconst 0, 1) := dk_3 (dk_at dksX25_start_0 11 rfl rfl)
theorem dX25_start_12 : decode cX25_start 12 = .ok (.istore_n 3, 1) := dk_62 (dk_at dksX25_start_0 12 rfl rfl)
theorem dX25_start_13 : decode cX25_start 13 = .ok (.iconst 0, 1) := dk_3 (dk_at dksX25_start_0 13 rfl rfl)
theorem dX25_start_14 : decode cX25_start 14 = .ok (.istore 4, 2) := dk_54 4 (dk_at dksX25_start_0 14 rfl rfl)
theorem dX25_start_16 : decode cX25_start 16 = .ok (.iload 4, 2) := dk_21 4 (dk_at dksX25_start_0 16 rfl rfl)
theorem dX25_start_18 : decode cX25_start 18 = .ok (.bipush 16, 2) := dk_16 16 (dk_at dksX25_start_0 18 rfl rfl)
theorem dX25_start_20 : decode cX25_start 20 = .ok (.if_icmp .ge 46, 3) := dk_162 0 46 (dk_at dksX25_start_0 20 rfl rfl)
theorem dX25_start_23 : decode cX25_start 23 = .ok (.iload_n 3, 1) := dk_29 (dk_at dksX25_start_0 23 rfl rfl)
theorem dX25_start_24 : decode cX25_start 24 = .ok (.ifCond .eq 34, 3) := dk_153 0 34 (dk_at dksX25_start_1 0 rfl rfl)
theorem dX25_start_27 : decode cX25_start 27 = .ok (.aload_n 0, 1) := dk_42 (dk_at dksX25_start_1 3 rfl rfl)
theorem dX25_start_28 : decode cX25_start 28 = .ok (.getfield 28, 3) := dk_180 0 28 (dk_at dksX25_start_1 4 rfl rfl)
theorem dX25_start_31 : decode cX25_start 31 = .ok (.iload 4, 2) := dk_21 4 (dk_at dksX25_start_1 7 rfl rfl)
theorem dX25_start_33 : decode cX25_start 33 = .ok (.iaload, 1) := dk_46 (dk_at dksX25_start_1 9 rfl rfl)
theorem dX25_start_34 : decode cX25_start 34 = .ok (.iconst 3, 1) := dk_6 (dk_at dksX25_start_1 10 rfl rfl)
theorem dX25_start_35 : decode cX25_start 35 = .ok (.if_icmp .lt 19, 3) := dk_161 0 19 (dk_at dksX25_start_1 11 rfl rfl)
theorem dX25_start_38 : decode cX25_start 38 = .ok (.aload_n 0, 1) := dk_42 (dk_at dksX25_start_1 14 rfl rfl)
theorem dX25_start_39 : decode cX25_start 39 = .ok (.aload_n 0, 1) := dk_42 (dk_at dksX25_start_1 15 rfl rfl)
theorem dX25_start_40 : decode cX25_start 40 = .ok (.getfield 28, 3) := dk_180 0 28 (dk_at dksX25_start_1 16 rfl rfl)
theorem dX25_start_43 : decode cX25_start 43 = .ok (.iload 4, 2) := dk_21 4 (dk_at dksX25_start_1 19 rfl rfl)
theorem dX25_start_45 : decode cX25_start 45 = .ok (.iaload, 1) := dk_46 (dk_at dksX25_start_1 21 rfl rfl)
theorem dX25_start_46 : decode cX25_start 46 = .ok (.iconst 3, 1) := dk_6 (dk_at dksX25_start_1 22 rfl rfl)
theorem dX25_start_47 : decode cX25_start 47 = .ok (.isub, 1) := dk_100 (dk_at dksX25_start_1 23 rfl rfl)
theorem dX25_start_48 : decode cX25_start 48 = .ok (.invokevirtual 139, 3) := dk_182 0 139 (dk_at dksX25_start_2 0 rfl rfl)
theorem dX25_start_51 : decode cX25_start 51 = .ok (.ifCond .eq 7, 3) := dk_153 0 7 (dk_at dksX25_start_2 3 rfl rfl)
theorem dX25_start_54 : decode cX25_start 54 = .ok (.iconst 1, 1) := dk_4 (dk_at dksX25_start_2 6 rfl rfl)
theorem dX25_start_55 : decode cX25_start 55 = .ok (.goto 4, 3) := dk_167 0 4 (dk_at dksX25_start_2 7 rfl rfl)
theorem dX25_start_58 : decode cX25_start 58 = .ok (.iconst 0, 1) := dk_3 (dk_at dksX25_start_2 10 rfl rfl)
theorem dX25_start_59 : decode cX25_start 59 = .ok (.istore_n 3, 1) := dk_62 (dk_at dksX25_start_2 11 rfl rfl)
theorem dX25_start_60 : decode cX25_start 60 = .ok (.iinc 4 1, 3) := dk_132 4 1 (dk_at dksX25_start_2 12 rfl rfl)
theorem dX25_start_63 : decode cX25_start 63 = .ok (.goto (-47), 3) := dk_167 255 209 (dk_at dksX25_start_2 15 rfl rfl)
theorem dX25_start_66 : decode cX25_start 66 = .ok (.iload_n 3, 1) := dk_29 (dk_at dksX25_start_2 18 rfl rfl)
theorem dX25_start_67 : decode cX25_start 67 = .ok (.ifCond .ne 6, 3) := dk_154 0 6 (dk_at dksX25_start_2 19 rfl rfl)
theorem dX25_start_70 : decode cX25_start 70 = .ok (.bipush (-2), 2) := dk_16 254 (dk_at dksX25_start_2 22 rfl rfl)
theorem dX25_start_72 : decode cX25_start 72 = .ok (.ireturn, 1) := dk_172 (dk_at dksX25_start_3 0 rfl rfl)
theorem dX25_start_73 : decode cX25_start 73 = .ok (.aload_n 0, 1) := dk_42 (dk_at dksX25_start_3 1 rfl rfl)
theorem dX25_start_74 : decode cX25_start 74 = .ok (.iconst 1, 1) := dk_4 (dk_at dksX25_start_3 2 rfl rfl)
theorem dX25_start_75 : decode cX25_start 75 = .ok (.putfield 130, 3) := dk_181 0 130 (dk_at dksX25_start_3 3 rfl rfl)
theorem dX25_start_78 : decode cX25_start 78 = .ok (.aload_n 0, 1) := dk_42 (dk_at dksX25_start_3 6 rfl rfl)
theorem dX25_start_79 : decode cX25_start 79 = .ok (.iconst 0, 1) := dk_3 (dk_at dksX25_start_3 7 rfl rfl)
theorem dX25_start_80 : decode cX25_start 80 = .ok (.putfield 160, 3) := dk_181 0 160 (dk_at dksX25_start_3 8 rfl rfl)
theorem dX25_start_83 : decode cX25_start 83 = .ok (.aload_n 0, 1) := dk_42 (dk_at dksX25_start_3 11 rfl rfl)
theorem dX25_start_84 : decode cX25_start 84 = .ok (.iconst 0, 1) := dk_3 (dk_at dksX25_start_3 12 rfl rfl)
theorem dX25_start_85 : decode cX25_start 85 = .ok (.putfield 157, 3) := dk_181 0 157 (dk_at dksX25_start_3 13 rfl rfl)
theorem dX25_start_88 : decode cX25_start 88 = .ok (.aload_n 0, 1) := dk_42 (dk_at dksX25_start_3 16 rfl rfl)
theorem dX25_start_89 : decode cX25_start 89 = .ok (.iconst 0, 1) := dk_3 (dk_at dksX25_start_3 17 rfl rfl)
theorem dX25_start_90 : decode cX25_start 90 = .ok (.putfield 173, 3) := dk_181 0 173 (dk_at dksX25_start_3 18 rfl rfl)
theorem dX25_start_93 : decode cX25_start 93 = .ok (.aload_n 0, 1) := dk_42 (dk_at dksX25_start_3 21 rfl rfl)
theorem dX25_start_94 : decode cX25_start 94 = .ok (.iconst 0, 1) := dk_3 (dk_at dksX25_start_3 22 rfl rfl)
theorem dX25_start_95 : decode cX25_start 95 = .ok (.putfield 176, 3) := dk_181 0 176 (dk_at dksX25_start_4 0 rfl rfl)
theorem dX25_start_98 : decode cX25_start 98 = .ok (.aload_n 0, 1) := dk_42 (dk_at dksX25_start_4 3 rfl rfl)
theorem dX25_start_99 : decode cX25_start 99 = .ok (.bipush (-4), 2) := dk_16 252 (dk_at dksX25_start_4 4 rfl rfl)
theorem dX25_start_101 : decode cX25_start 101 = .ok (.invokevirtual 179, 3) := dk_182 0 179 (dk_at dksX25_start_4 6 rfl rfl)
theorem dX25_start_104 : decode cX25_start 104 = .ok (.istore 4, 2) := dk_54 4 (dk_at dksX25_start_4 9 rfl rfl)
theorem dX25_start_106 : decode cX25_start 106 = .ok (.aload_n 0, 1) := dk_42 (dk_at dksX25_start_4 11 rfl rfl)
theorem dX25_start_107 : decode cX25_start 107 = .ok (.iconst 0, 1) := dk_3 (dk_at dksX25_start_4 12 rfl rfl)
theorem dX25_start_108 : decode cX25_start 108 = .ok (.bipush (-4), 2) := dk_16 252 (dk_at dksX25_start_4 13 rfl rfl)
theorem dX25_start_110 : decode cX25_start 110 = .ok (.lload_n 1, 1) := dk_31 (dk_at dksX25_start_4 15 rfl rfl)
theorem dX25_start_111 : decode cX25_start 111 = .ok (.iconst 0, 1) := dk_3 (dk_at dksX25_start_4 16 rfl rfl)
theorem dX25_start_112 : decode cX25_start 112 = .ok (.iload 4, 2) := dk_21 4 (dk_at dksX25_start_4 17 rfl rfl)
theorem dX25_start_114 : decode cX25_start 114 = .ok (.bipush (-4), 2) := dk_16 252 (dk_at dksX25_start_4 19 rfl rfl)
theorem dX25_start_116 : decode cX25_start 116 = .ok (.invokevirtual 183, 3) := dk_182 0 183 (dk_at dksX25_start_4 21 rfl rfl)
theorem dX25_start_119 : decode cX25_start 119 = .ok (.iconst 1, 1) := dk_4 (dk_at dksX25_start_5 0 rfl rfl)
theorem dX25_start_120 : decode cX25_start 120 = .ok (.ireturn, 1) := dk_172 (dk_at dksX25_start_5 1 rfl rfl)
def dkwX25_newSegment_2 : List UInt8 := [181, 0, 157, 42, 180, 0, 157, 4, 100, 172]
abbrev dktX25_newSegment_2 : List UInt8 := dkwX25_newSegment_2 ++ []
def dkwX25_newSegment_1 : List UInt8 := [42, 180, 0, 157, 104, 28, 96, 3, 84, 132, 2, 1, 167, 255, 232, 42, 89, 180, 0, 157, 4, 96]
abbrev dktX25_newSegment_1 : List UInt8 := dkwX25_newSegment_1 ++ dktX25_newSegment_2
def dkwX25_newSegment_0 : List UInt8 := [42, 180, 0, 102, 42, 180, 0, 157, 27, 79, 3, 61, 28, 16, 16, 162, 0, 24, 42, 180, 0, 105, 16, 16]
abbrev dktX25_newSegment_0 : List UInt8 := dkwX25_newSegment_0 ++ dktX25_newSegment_1
theorem dksX25_newSegment_0 : cX25_newSegment.data.toList.drop 0 = dktX25_newSegment_0 := by decide +kernel
theorem dksX25_newSegment_1 : cX25_newSegment.data.toList.drop 24 = dktX25_newSegment_1 := dk_seg dksX25_newSegment_0 24 rfl rfl
theorem dksX25_newSegment_2 : cX25_newSegment.data.toList.drop 46 = dktX25_newSegment_2 := dk_seg dksX25_newSegment_1 22 rfl rfl
theorem dX25_newSegment_0 : decode cX25_newSegment 0 = .ok (.aload_n 0, 1) := dk_42 (dk_at dksX25_newSegment_0 0 rfl rfl)
theorem dX25_newSegment_1 : decode cX25_newSegment 1 = .ok (.getfield 102, 3) := dk_180 0 102 (dk_at dksX25_newSegment_0 1 rfl rfl)
theorem dX25_newSegment_4 : decode cX25_newSegment 4 = .ok (.aload_n 0, 1) := dk_42 (dk_at dksX25_newSegment_0 4 rfl rfl)
theorem dX25_newSegment_5 : decode cX25_newSegment 5 = .ok (.getfield 157, 3) := dk_180 0 157 (dk_at dksX25_newSegment_0 5 rfl rfl)
theorem dX25_newSegment_8 : decode cX25_newSegment 8 = .ok (.iload_n 1, 1) := dk_27 (dk_at dksX25_newSegment_0 8 rfl rfl)
theorem dX25_newSegment_9 : decode cX25_newSegment 9 = .ok (.iastore, 1) := dk_79 (dk_at dksX25_newSegment_0 9 rfl rfl)
theorem dX25_newSegment_10 : decode cX25_newSegment 10 = .ok (.iconst 0, 1) := dk_3 (dk_at dksX25_newSegment_0 10 rfl rfl)
theorem dX25_newSegment_11 : decode cX25_newSegment 11 = .ok (.istore_n 2, 1) := dk_61 (dk_at dksX25_newSegment_0 11 rfl rfl)
theorem dX25_newSegment_12 : decode cX25_newSegment 12 = .ok (.iload_n 2, 1) := dk_28 (dk_at dksX25_newSegment_0 12 rfl rfl)
theorem dX25_newSegment_13 : decode cX25_newSegment 13 = .ok (.bipush 16, 2) := dk_16 16 (dk_at dksX25_newSegment_0 13 rfl rfl)
theorem dX25_newSegment_15 : decode cX25_newSegment 15 = .ok (.if_icmp .ge 24, 3) := dk_162 0 24 (dk_at dksX25_newSegment_0 15 rfl rfl)
theorem dX25_newSegment_18 : decode cX25_newSegment 18 = .ok (.aload_n 0, 1) := dk_42 (dk_at dksX25_newSegment_0 18 rfl rfl)
theorem dX25_newSegment_19 : decode cX25_newSegment 19 = .ok (.getfield 105, 3) := dk_180 0 105 (dk_at dksX25_newSegment_0 19 rfl rfl)
theorem dX25_newSegment_22 : decode cX25_newSegment 22 = .ok (.bipush 16, 2) := dk_16 16 (dk_at dksX25_newSegment_0 22 rfl rfl)
theorem dX25_newSegment_24 : decode cX25_newSegment 24 = .ok (.aload_n 0, 1) := dk_42 (dk_at dksX25_newSegment_1 0 rfl rfl)
theorem dX25_newSegment_25 : decode cX25_newSegment 25 = .ok (.getfield 157, 3) := dk_180 0 157 (dk_at dksX25_newSegment_1 1 rfl rfl)
theorem dX25_newSegment_28 : decode cX25_newSegment 28 = .ok (.imul, 1) := dk_104 (dk_at dksX25_newSegment_1 4 rfl rfl)
theorem dX25_newSegment_29 : decode cX25_newSegment 29 = .ok (.iload_n 2, 1) := dk_28 (dk_at dksX25_newSegment_1 5 rfl rfl)
theorem dX25_newSegment_30 : decode cX25_newSegment 30 = .ok (.iadd, 1) := dk_96 (dk_at dksX25_newSegment_1 6 rfl rfl)
theorem dX25_newSegment_31 : decode cX25_newSegment 31 = .ok (.iconst 0, 1) := dk_3 (dk_at dksX25_newSegment_1 7 rfl rfl)
theorem dX25_newSegment_32 : decode cX25_newSegment 32 = .ok (.bastore, 1) := dk_84 (dk_at dksX25_newSegment_1 8 rfl rfl)
theorem dX25_newSegment_33 : decode cX25_newSegment 33 = .ok (.iinc 2 1, 3) := dk_132 2 1 (dk_at dksX25_newSegment_1 9 rfl rfl)
theorem dX25_newSegment_36 : decode cX25_newSegment 36 = .ok (.goto (-24), 3) := dk_167 255 232 (dk_at dksX25_newSegment_1 12 rfl rfl)
theorem dX25_newSegment_39 : decode cX25_newSegment 39 = .ok (.aload_n 0, 1) := dk_42 (dk_at dksX25_newSegment_1 15 rfl rfl)
theorem dX25_newSegment_40 : decode cX25_newSegment 40 = .ok (.dup, 1) := dk_89 (dk_at dksX25_newSegment_1 16 rfl rfl)
theorem dX25_newSegment_41 : decode cX25_newSegment 41 = .ok (.getfield 157, 3) := dk_180 0 157 (dk_at dksX25_newSegment_1 17 rfl rfl)
theorem dX25_newSegment_44 : decode cX25_newSegment 44 = .ok (.iconst 1, 1) := dk_4 (dk_at dksX25_newSegment_1 20 rfl rfl)
theorem dX25_newSegment_45 : decode cX25_newSegment 45 = .ok (.iadd, 1) := dk_96 (dk_at dksX25_newSegment_1 21 rfl rfl)
theorem dX25_newSegment_46 : decode cX25_newSegment 46 = .ok (.putfield 157, 3) := dk_181 0 157 (dk_at dksX25_newSegment_2 0 rfl rfl)
theorem dX25_newSegment_49 : decode cX25_newSegment 49 = .ok (.aload_n 0, 1) := dk_42 (dk_at dksX25_newSegment_2 3 rfl rfl)
theorem dX25_newSegment_50 : decode cX25_newSegment 50 = .ok (.getfield 157, 3) := dk_180 0 157 (dk_at dksX25_newSegment_2 4 rfl rfl)
theorem dX25_newSegment_53 : decode cX25_newSegment 53 = .ok (.iconst 1, 1) := dk_4 (dk_at dksX25_newSegment_2 7 rfl rfl)
theorem dX25_newSegment_54 : decode cX25_newSegment 54 = .ok (.isub, 1) := dk_100 (dk_at dksX25_newSegment_2 8 rfl rfl)
theorem dX25_newSegment_55 : decode cX25_newSegment 55 = .ok (.ireturn, 1) := dk_172 (dk_at dksX25_newSegment_2 9 rfl rfl)
def dkwX25_newTask_11 : List UInt8 := [21, 8, 182, 0, 165, 177]
abbrev dktX25_newTask_11 : List UInt8 := dkwX25_newTask_11 ++ []
def dkwX25_newTask_10 : List UInt8 := [132, 9, 1, 167, 255, 195, 42, 180, 0, 93, 21, 8, 3, 79, 42, 180, 0, 99, 21, 8, 3, 79, 42]
abbrev dktX25_newTask_10 : List UInt8 := dkwX25_newTask_10 ++ dktX25_newTask_11
def dkwX25_newTask_9 : List UInt8 := [21, 8, 104, 21, 9, 96, 21, 9, 154, 0, 12, 21, 5, 153, 0, 7, 4, 167, 0, 4, 3, 84]
abbrev dktX25_newTask_9 : List UInt8 := dkwX25_newTask_9 ++ dktX25_newTask_10
def dkwX25_newTask_8 : List UInt8 := [21, 8, 104, 21, 9, 96, 21, 9, 154, 0, 7, 33, 167, 0, 4, 9, 80, 42, 180, 0, 84, 16, 8]
abbrev dktX25_newTask_8 : List UInt8 := dkwX25_newTask_8 ++ dktX25_newTask_9
def dkwX25_newTask_7 : List UInt8 := [180, 0, 78, 21, 8, 3, 84, 3, 54, 9, 21, 9, 16, 8, 162, 0, 60, 42, 180, 0, 81, 16, 8]
abbrev dktX25_newTask_7 : List UInt8 := dkwX25_newTask_7 ++ dktX25_newTask_8
def dkwX25_newTask_6 : List UInt8 := [21, 8, 20, 0, 163, 80, 42, 180, 0, 71, 21, 8, 3, 84, 42, 180, 0, 75, 21, 8, 9, 80, 42]
abbrev dktX25_newTask_6 : List UInt8 := dkwX25_newTask_6 ++ dktX25_newTask_7
def dkwX25_newTask_5 : List UInt8 := [79, 42, 180, 0, 62, 21, 8, 21, 6, 79, 42, 180, 0, 65, 21, 8, 21, 7, 79, 42, 180, 0, 68]
abbrev dktX25_newTask_5 : List UInt8 := dkwX25_newTask_5 ++ dktX25_newTask_6
def dkwX25_newTask_4 : List UInt8 := [28, 79, 42, 180, 0, 59, 21, 8, 28, 16, 252, 160, 0, 7, 3, 167, 0, 9, 42, 180, 0, 50, 28, 46]
abbrev dktX25_newTask_4 : List UInt8 := dkwX25_newTask_4 ++ dktX25_newTask_5
def dkwX25_newTask_3 : List UInt8 := [16, 252, 160, 0, 7, 3, 167, 0, 11, 42, 180, 0, 53, 28, 46, 4, 96, 79, 42, 180, 0, 56, 21, 8]
abbrev dktX25_newTask_3 : List UInt8 := dkwX25_newTask_3 ++ dktX25_newTask_4
def dkwX25_newTask_2 : List UInt8 := [42, 180, 0, 47, 21, 8, 3, 79, 42, 180, 0, 50, 21, 8, 3, 79, 42, 180, 0, 53, 21, 8, 28]
abbrev dktX25_newTask_2 : List UInt8 := dkwX25_newTask_2 ++ dktX25_newTask_3
def dkwX25_newTask_1 : List UInt8 := [42, 180, 0, 38, 21, 8, 3, 79, 42, 180, 0, 41, 21, 8, 3, 79, 42, 180, 0, 44, 21, 8, 3, 79]
abbrev dktX25_newTask_1 : List UInt8 := dkwX25_newTask_1 ++ dktX25_newTask_2
def dkwX25_newTask_0 : List UInt8 := [42, 180, 0, 160, 54, 8, 42, 89, 180, 0, 160, 4, 96, 181, 0, 160, 42, 180, 0, 35, 21, 8, 27, 79]
abbrev dktX25_newTask_0 : List UInt8 := dkwX25_newTask_0 ++ dktX25_newTask_1
theorem dksX25_newTask_0 : cX25_newTask.data.toList.drop 0 = dktX25_newTask_0 := by decide +kernel
theorem dksX25_newTask_1 : cX25_newTask.data.toList.drop 24 = dktX25_newTask_1 := dk_seg dksX25_newTask_0 24 rfl rfl
theorem dksX25_newTask_2 : cX25_newTask.data.toList.drop 48 = dktX25_newTask_2 := dk_seg dksX25_newTask_1 24 rfl rfl
theorem dksX25_newTask_3 : cX25_newTask.data.toList.drop 71 = dktX25_newTask_3 := dk_seg dksX25_newTask_2 23 rfl rfl
theorem dksX25_newTask_4 : cX25_newTask.data.toList.drop 95 = dktX25_newTask_4 := dk_seg dksX25_newTask_3 24 rfl rfl
theorem dksX25_newTask_5 : cX25_newTask.data.toList.drop 119 = dktX25_newTask_5 := dk_seg dksX25_newTask_4 24 rfl rfl
theorem dksX25_newTask_6 : cX25_newTask.data.toList.drop 142 = dktX25_newTask_6 := dk_seg dksX25_newTask_5 23 rfl rfl
theorem dksX25_newTask_7 : cX25_newTask.data.toList.drop 165 = dktX25_newTask_7 := dk_seg dksX25_newTask_6 23 rfl rfl
theorem dksX25_newTask_8 : cX25_newTask.data.toList.drop 188 = dktX25_newTask_8 := dk_seg dksX25_newTask_7 23 rfl rfl
theorem dksX25_newTask_9 : cX25_newTask.data.toList.drop 211 = dktX25_newTask_9 := dk_seg dksX25_newTask_8 23 rfl rfl
theorem dksX25_newTask_10 : cX25_newTask.data.toList.drop 233 = dktX25_newTask_10 := dk_seg dksX25_newTask_9 22 rfl rfl
theorem dksX25_newTask_11 : cX25_newTask.data.toList.drop 256 = dktX25_newTask_11 := dk_seg dksX25_newTask_10 23 rfl rfl
theorem dX25_newTask_0 : decode cX25_newTask 0 = .ok (.aload_n 0, 1) := dk_42 (dk_at dksX25_newTask_0 0 rfl rfl)
theorem dX25_newTask_1 : decode cX25_newTask 1 = .ok (.getfield 160, 3) := dk_180 0 160 (dk_at dksX25_newTask_0 1 rfl rfl)
theorem dX25_newTask_4 : decode cX25_newTask 4 = .ok (.istore 8, 2) := dk_54 8 (dk_at dksX25_newTask_0 4 rfl rfl)
theorem dX25_newTask_6 : decode cX25_newTask 6 = .ok (.aload_n 0, 1) := dk_42 (dk_at dksX25_newTask_0 6 rfl rfl)
theorem dX25_newTask_7 : decode cX25_newTask 7 = .ok (.dup, 1) := dk_89 (dk_at dksX25_newTask_0 7 rfl rfl)
theorem dX25_newTask_8 : decode cX25_newTask 8 = .ok (.getfield 160, 3) := dk_180 0 160 (dk_at dksX25_newTask_0 8 rfl rfl)
theorem dX25_newTask_11 : decode cX25_newTask 11 = .ok (.iconst 1, 1) := dk_4 (dk_at dksX25_newTask_0 11 rfl rfl)
theorem dX25_newTask_12 : decode cX25_newTask 12 = .ok (.iadd, 1) := dk_96 (dk_at dksX25_newTask_0 12 rfl rfl)
theorem dX25_newTask_13 : decode cX25_newTask 13 = .ok (.putfield 160, 3) := dk_181 0 160 (dk_at dksX25_newTask_0 13 rfl rfl)
theorem dX25_newTask_16 : decode cX25_newTask 16 = .ok (.aload_n 0, 1) := dk_42 (dk_at dksX25_newTask_0 16 rfl rfl)
theorem dX25_newTask_17 : decode cX25_newTask 17 = .ok (.getfield 35, 3) := dk_180 0 35 (dk_at dksX25_newTask_0 17 rfl rfl)
theorem dX25_newTask_20 : decode cX25_newTask 20 = .ok (.iload 8, 2) := dk_21 8 (dk_at dksX25_newTask_0 20 rfl rfl)
theorem dX25_newTask_22 : decode cX25_newTask 22 = .ok (.iload_n 1, 1) := dk_27 (dk_at dksX25_newTask_0 22 rfl rfl)
theorem dX25_newTask_23 : decode cX25_newTask 23 = .ok (.iastore, 1) := dk_79 (dk_at dksX25_newTask_0 23 rfl rfl)
theorem dX25_newTask_24 : decode cX25_newTask 24 = .ok (.aload_n 0, 1) := dk_42 (dk_at dksX25_newTask_1 0 rfl rfl)
theorem dX25_newTask_25 : decode cX25_newTask 25 = .ok (.getfield 38, 3) := dk_180 0 38 (dk_at dksX25_newTask_1 1 rfl rfl)
theorem dX25_newTask_28 : decode cX25_newTask 28 = .ok (.iload 8, 2) := dk_21 8 (dk_at dksX25_newTask_1 4 rfl rfl)
theorem dX25_newTask_30 : decode cX25_newTask 30 = .ok (.iconst 0, 1) := dk_3 (dk_at dksX25_newTask_1 6 rfl rfl)
theorem dX25_newTask_31 : decode cX25_newTask 31 = .ok (.iastore, 1) := dk_79 (dk_at dksX25_newTask_1 7 rfl rfl)
theorem dX25_newTask_32 : decode cX25_newTask 32 = .ok (.aload_n 0, 1) := dk_42 (dk_at dksX25_newTask_1 8 rfl rfl)
theorem dX25_newTask_33 : decode cX25_newTask 33 = .ok (.getfield 41, 3) := dk_180 0 41 (dk_at dksX25_newTask_1 9 rfl rfl)
theorem dX25_newTask_36 : decode cX25_newTask 36 = .ok (.iload 8, 2) := dk_21 8 (dk_at dksX25_newTask_1 12 rfl rfl)
theorem dX25_newTask_38 : decode cX25_newTask 38 = .ok (.iconst 0, 1) := dk_3 (dk_at dksX25_newTask_1 14 rfl rfl)
theorem dX25_newTask_39 : decode cX25_newTask 39 = .ok (.iastore, 1) := dk_79 (dk_at dksX25_newTask_1 15 rfl rfl)
theorem dX25_newTask_40 : decode cX25_newTask 40 = .ok (.aload_n 0, 1) := dk_42 (dk_at dksX25_newTask_1 16 rfl rfl)
theorem dX25_newTask_41 : decode cX25_newTask 41 = .ok (.getfield 44, 3) := dk_180 0 44 (dk_at dksX25_newTask_1 17 rfl rfl)
theorem dX25_newTask_44 : decode cX25_newTask 44 = .ok (.iload 8, 2) := dk_21 8 (dk_at dksX25_newTask_1 20 rfl rfl)
theorem dX25_newTask_46 : decode cX25_newTask 46 = .ok (.iconst 0, 1) := dk_3 (dk_at dksX25_newTask_1 22 rfl rfl)
theorem dX25_newTask_47 : decode cX25_newTask 47 = .ok (.iastore, 1) := dk_79 (dk_at dksX25_newTask_1 23 rfl rfl)
theorem dX25_newTask_48 : decode cX25_newTask 48 = .ok (.aload_n 0, 1) := dk_42 (dk_at dksX25_newTask_2 0 rfl rfl)
theorem dX25_newTask_49 : decode cX25_newTask 49 = .ok (.getfield 47, 3) := dk_180 0 47 (dk_at dksX25_newTask_2 1 rfl rfl)
theorem dX25_newTask_52 : decode cX25_newTask 52 = .ok (.iload 8, 2) := dk_21 8 (dk_at dksX25_newTask_2 4 rfl rfl)
theorem dX25_newTask_54 : decode cX25_newTask 54 = .ok (.iconst 0, 1) := dk_3 (dk_at dksX25_newTask_2 6 rfl rfl)
theorem dX25_newTask_55 : decode cX25_newTask 55 = .ok (.iastore, 1) := dk_79 (dk_at dksX25_newTask_2 7 rfl rfl)
theorem dX25_newTask_56 : decode cX25_newTask 56 = .ok (.aload_n 0, 1) := dk_42 (dk_at dksX25_newTask_2 8 rfl rfl)
theorem dX25_newTask_57 : decode cX25_newTask 57 = .ok (.getfield 50, 3) := dk_180 0 50 (dk_at dksX25_newTask_2 9 rfl rfl)
theorem dX25_newTask_60 : decode cX25_newTask 60 = .ok (.iload 8, 2) := dk_21 8 (dk_at dksX25_newTask_2 12 rfl rfl)
theorem dX25_newTask_62 : decode cX25_newTask 62 = .ok (.iconst 0, 1) := dk_3 (dk_at dksX25_newTask_2 14 rfl rfl)
theorem dX25_newTask_63 : decode cX25_newTask 63 = .ok (.iastore, 1) := dk_79 (dk_at dksX25_newTask_2 15 rfl rfl)
theorem dX25_newTask_64 : decode cX25_newTask 64 = .ok (.aload_n 0, 1) := dk_42 (dk_at dksX25_newTask_2 16 rfl rfl)
theorem dX25_newTask_65 : decode cX25_newTask 65 = .ok (.getfield 53, 3) := dk_180 0 53 (dk_at dksX25_newTask_2 17 rfl rfl)
theorem dX25_newTask_68 : decode cX25_newTask 68 = .ok (.iload 8, 2) := dk_21 8 (dk_at dksX25_newTask_2 20 rfl rfl)
theorem dX25_newTask_70 : decode cX25_newTask 70 = .ok (.iload_n 2, 1) := dk_28 (dk_at dksX25_newTask_2 22 rfl rfl)
theorem dX25_newTask_71 : decode cX25_newTask 71 = .ok (.bipush (-4), 2) := dk_16 252 (dk_at dksX25_newTask_3 0 rfl rfl)
theorem dX25_newTask_73 : decode cX25_newTask 73 = .ok (.if_icmp .ne 7, 3) := dk_160 0 7 (dk_at dksX25_newTask_3 2 rfl rfl)
theorem dX25_newTask_76 : decode cX25_newTask 76 = .ok (.iconst 0, 1) := dk_3 (dk_at dksX25_newTask_3 5 rfl rfl)
theorem dX25_newTask_77 : decode cX25_newTask 77 = .ok (.goto 11, 3) := dk_167 0 11 (dk_at dksX25_newTask_3 6 rfl rfl)
theorem dX25_newTask_80 : decode cX25_newTask 80 = .ok (.aload_n 0, 1) := dk_42 (dk_at dksX25_newTask_3 9 rfl rfl)
theorem dX25_newTask_81 : decode cX25_newTask 81 = .ok (.getfield 53, 3) := dk_180 0 53 (dk_at dksX25_newTask_3 10 rfl rfl)
theorem dX25_newTask_84 : decode cX25_newTask 84 = .ok (.iload_n 2, 1) := dk_28 (dk_at dksX25_newTask_3 13 rfl rfl)
theorem dX25_newTask_85 : decode cX25_newTask 85 = .ok (.iaload, 1) := dk_46 (dk_at dksX25_newTask_3 14 rfl rfl)
theorem dX25_newTask_86 : decode cX25_newTask 86 = .ok (.iconst 1, 1) := dk_4 (dk_at dksX25_newTask_3 15 rfl rfl)
theorem dX25_newTask_87 : decode cX25_newTask 87 = .ok (.iadd, 1) := dk_96 (dk_at dksX25_newTask_3 16 rfl rfl)
theorem dX25_newTask_88 : decode cX25_newTask 88 = .ok (.iastore, 1) := dk_79 (dk_at dksX25_newTask_3 17 rfl rfl)
theorem dX25_newTask_89 : decode cX25_newTask 89 = .ok (.aload_n 0, 1) := dk_42 (dk_at dksX25_newTask_3 18 rfl rfl)
theorem dX25_newTask_90 : decode cX25_newTask 90 = .ok (.getfield 56, 3) := dk_180 0 56 (dk_at dksX25_newTask_3 19 rfl rfl)
theorem dX25_newTask_93 : decode cX25_newTask 93 = .ok (.iload 8, 2) := dk_21 8 (dk_at dksX25_newTask_3 22 rfl rfl)
theorem dX25_newTask_95 : decode cX25_newTask 95 = .ok (.iload_n 2, 1) := dk_28 (dk_at dksX25_newTask_4 0 rfl rfl)
theorem dX25_newTask_96 : decode cX25_newTask 96 = .ok (.iastore, 1) := dk_79 (dk_at dksX25_newTask_4 1 rfl rfl)
theorem dX25_newTask_97 : decode cX25_newTask 97 = .ok (.aload_n 0, 1) := dk_42 (dk_at dksX25_newTask_4 2 rfl rfl)
theorem dX25_newTask_98 : decode cX25_newTask 98 = .ok (.getfield 59, 3) := dk_180 0 59 (dk_at dksX25_newTask_4 3 rfl rfl)
theorem dX25_newTask_101 : decode cX25_newTask 101 = .ok (.iload 8, 2) := dk_21 8 (dk_at dksX25_newTask_4 6 rfl rfl)
theorem dX25_newTask_103 : decode cX25_newTask 103 = .ok (.iload_n 2, 1) := dk_28 (dk_at dksX25_newTask_4 8 rfl rfl)
theorem dX25_newTask_104 : decode cX25_newTask 104 = .ok (.bipush (-4), 2) := dk_16 252 (dk_at dksX25_newTask_4 9 rfl rfl)
theorem dX25_newTask_106 : decode cX25_newTask 106 = .ok (.if_icmp .ne 7, 3) := dk_160 0 7 (dk_at dksX25_newTask_4 11 rfl rfl)
theorem dX25_newTask_109 : decode cX25_newTask 109 = .ok (.iconst 0, 1) := dk_3 (dk_at dksX25_newTask_4 14 rfl rfl)
theorem dX25_newTask_110 : decode cX25_newTask 110 = .ok (.goto 9, 3) := dk_167 0 9 (dk_at dksX25_newTask_4 15 rfl rfl)
theorem dX25_newTask_113 : decode cX25_newTask 113 = .ok (.aload_n 0, 1) := dk_42 (dk_at dksX25_newTask_4 18 rfl rfl)
theorem dX25_newTask_114 : decode cX25_newTask 114 = .ok (.getfield 50, 3) := dk_180 0 50 (dk_at dksX25_newTask_4 19 rfl rfl)
theorem dX25_newTask_117 : decode cX25_newTask 117 = .ok (.iload_n 2, 1) := dk_28 (dk_at dksX25_newTask_4 22 rfl rfl)
theorem dX25_newTask_118 : decode cX25_newTask 118 = .ok (.iaload, 1) := dk_46 (dk_at dksX25_newTask_4 23 rfl rfl)
theorem dX25_newTask_119 : decode cX25_newTask 119 = .ok (.iastore, 1) := dk_79 (dk_at dksX25_newTask_5 0 rfl rfl)
theorem dX25_newTask_120 : decode cX25_newTask 120 = .ok (.aload_n 0, 1) := dk_42 (dk_at dksX25_newTask_5 1 rfl rfl)
theorem dX25_newTask_121 : decode cX25_newTask 121 = .ok (.getfield 62, 3) := dk_180 0 62 (dk_at dksX25_newTask_5 2 rfl rfl)
theorem dX25_newTask_124 : decode cX25_newTask 124 = .ok (.iload 8, 2) := dk_21 8 (dk_at dksX25_newTask_5 5 rfl rfl)
theorem dX25_newTask_126 : decode cX25_newTask 126 = .ok (.iload 6, 2) := dk_21 6 (dk_at dksX25_newTask_5 7 rfl rfl)
theorem dX25_newTask_128 : decode cX25_newTask 128 = .ok (.iastore, 1) := dk_79 (dk_at dksX25_newTask_5 9 rfl rfl)
theorem dX25_newTask_129 : decode cX25_newTask 129 = .ok (.aload_n 0, 1) := dk_42 (dk_at dksX25_newTask_5 10 rfl rfl)
theorem dX25_newTask_130 : decode cX25_newTask 130 = .ok (.getfield 65, 3) := dk_180 0 65 (dk_at dksX25_newTask_5 11 rfl rfl)
theorem dX25_newTask_133 : decode cX25_newTask 133 = .ok (.iload 8, 2) := dk_21 8 (dk_at dksX25_newTask_5 14 rfl rfl)
theorem dX25_newTask_135 : decode cX25_newTask 135 = .ok (.iload 7, 2) := dk_21 7 (dk_at dksX25_newTask_5 16 rfl rfl)
theorem dX25_newTask_137 : decode cX25_newTask 137 = .ok (.iastore, 1) := dk_79 (dk_at dksX25_newTask_5 18 rfl rfl)
theorem dX25_newTask_138 : decode cX25_newTask 138 = .ok (.aload_n 0, 1) := dk_42 (dk_at dksX25_newTask_5 19 rfl rfl)
theorem dX25_newTask_139 : decode cX25_newTask 139 = .ok (.getfield 68, 3) := dk_180 0 68 (dk_at dksX25_newTask_5 20 rfl rfl)
theorem dX25_newTask_142 : decode cX25_newTask 142 = .ok (.iload 8, 2) := dk_21 8 (dk_at dksX25_newTask_6 0 rfl rfl)
theorem dX25_newTask_144 : decode cX25_newTask 144 = .ok (.ldc2_w 163, 3) := dk_20 0 163 (dk_at dksX25_newTask_6 2 rfl rfl)
theorem dX25_newTask_147 : decode cX25_newTask 147 = .ok (.lastore, 1) := dk_80 (dk_at dksX25_newTask_6 5 rfl rfl)
theorem dX25_newTask_148 : decode cX25_newTask 148 = .ok (.aload_n 0, 1) := dk_42 (dk_at dksX25_newTask_6 6 rfl rfl)
theorem dX25_newTask_149 : decode cX25_newTask 149 = .ok (.getfield 71, 3) := dk_180 0 71 (dk_at dksX25_newTask_6 7 rfl rfl)
theorem dX25_newTask_152 : decode cX25_newTask 152 = .ok (.iload 8, 2) := dk_21 8 (dk_at dksX25_newTask_6 10 rfl rfl)
theorem dX25_newTask_154 : decode cX25_newTask 154 = .ok (.iconst 0, 1) := dk_3 (dk_at dksX25_newTask_6 12 rfl rfl)
theorem dX25_newTask_155 : decode cX25_newTask 155 = .ok (.bastore, 1) := dk_84 (dk_at dksX25_newTask_6 13 rfl rfl)
theorem dX25_newTask_156 : decode cX25_newTask 156 = .ok (.aload_n 0, 1) := dk_42 (dk_at dksX25_newTask_6 14 rfl rfl)
theorem dX25_newTask_157 : decode cX25_newTask 157 = .ok (.getfield 75, 3) := dk_180 0 75 (dk_at dksX25_newTask_6 15 rfl rfl)
theorem dX25_newTask_160 : decode cX25_newTask 160 = .ok (.iload 8, 2) := dk_21 8 (dk_at dksX25_newTask_6 18 rfl rfl)
theorem dX25_newTask_162 : decode cX25_newTask 162 = .ok (.lconst 0, 1) := dk_9 (dk_at dksX25_newTask_6 20 rfl rfl)
theorem dX25_newTask_163 : decode cX25_newTask 163 = .ok (.lastore, 1) := dk_80 (dk_at dksX25_newTask_6 21 rfl rfl)
theorem dX25_newTask_164 : decode cX25_newTask 164 = .ok (.aload_n 0, 1) := dk_42 (dk_at dksX25_newTask_6 22 rfl rfl)
theorem dX25_newTask_165 : decode cX25_newTask 165 = .ok (.getfield 78, 3) := dk_180 0 78 (dk_at dksX25_newTask_7 0 rfl rfl)
theorem dX25_newTask_168 : decode cX25_newTask 168 = .ok (.iload 8, 2) := dk_21 8 (dk_at dksX25_newTask_7 3 rfl rfl)
theorem dX25_newTask_170 : decode cX25_newTask 170 = .ok (.iconst 0, 1) := dk_3 (dk_at dksX25_newTask_7 5 rfl rfl)
theorem dX25_newTask_171 : decode cX25_newTask 171 = .ok (.bastore, 1) := dk_84 (dk_at dksX25_newTask_7 6 rfl rfl)
theorem dX25_newTask_172 : decode cX25_newTask 172 = .ok (.iconst 0, 1) := dk_3 (dk_at dksX25_newTask_7 7 rfl rfl)
theorem dX25_newTask_173 : decode cX25_newTask 173 = .ok (.istore 9, 2) := dk_54 9 (dk_at dksX25_newTask_7 8 rfl rfl)
theorem dX25_newTask_175 : decode cX25_newTask 175 = .ok (.iload 9, 2) := dk_21 9 (dk_at dksX25_newTask_7 10 rfl rfl)
theorem dX25_newTask_177 : decode cX25_newTask 177 = .ok (.bipush 8, 2) := dk_16 8 (dk_at dksX25_newTask_7 12 rfl rfl)
theorem dX25_newTask_179 : decode cX25_newTask 179 = .ok (.if_icmp .ge 60, 3) := dk_162 0 60 (dk_at dksX25_newTask_7 14 rfl rfl)
theorem dX25_newTask_182 : decode cX25_newTask 182 = .ok (.aload_n 0, 1) := dk_42 (dk_at dksX25_newTask_7 17 rfl rfl)
theorem dX25_newTask_183 : decode cX25_newTask 183 = .ok (.getfield 81, 3) := dk_180 0 81 (dk_at dksX25_newTask_7 18 rfl rfl)
theorem dX25_newTask_186 : decode cX25_newTask 186 = .ok (.bipush 8, 2) := dk_16 8 (dk_at dksX25_newTask_7 21 rfl rfl)
theorem dX25_newTask_188 : decode cX25_newTask 188 = .ok (.iload 8, 2) := dk_21 8 (dk_at dksX25_newTask_8 0 rfl rfl)
theorem dX25_newTask_190 : decode cX25_newTask 190 = .ok (.imul, 1) := dk_104 (dk_at dksX25_newTask_8 2 rfl rfl)
theorem dX25_newTask_191 : decode cX25_newTask 191 = .ok (.iload 9, 2) := dk_21 9 (dk_at dksX25_newTask_8 3 rfl rfl)
theorem dX25_newTask_193 : decode cX25_newTask 193 = .ok (.iadd, 1) := dk_96 (dk_at dksX25_newTask_8 5 rfl rfl)
theorem dX25_newTask_194 : decode cX25_newTask 194 = .ok (.iload 9, 2) := dk_21 9 (dk_at dksX25_newTask_8 6 rfl rfl)
theorem dX25_newTask_196 : decode cX25_newTask 196 = .ok (.ifCond .ne 7, 3) := dk_154 0 7 (dk_at dksX25_newTask_8 8 rfl rfl)
theorem dX25_newTask_199 : decode cX25_newTask 199 = .ok (.lload_n 3, 1) := dk_33 (dk_at dksX25_newTask_8 11 rfl rfl)
theorem dX25_newTask_200 : decode cX25_newTask 200 = .ok (.goto 4, 3) := dk_167 0 4 (dk_at dksX25_newTask_8 12 rfl rfl)
theorem dX25_newTask_203 : decode cX25_newTask 203 = .ok (.lconst 0, 1) := dk_9 (dk_at dksX25_newTask_8 15 rfl rfl)
theorem dX25_newTask_204 : decode cX25_newTask 204 = .ok (.lastore, 1) := dk_80 (dk_at dksX25_newTask_8 16 rfl rfl)
theorem dX25_newTask_205 : decode cX25_newTask 205 = .ok (.aload_n 0, 1) := dk_42 (dk_at dksX25_newTask_8 17 rfl rfl)
theorem dX25_newTask_206 : decode cX25_newTask 206 = .ok (.getfield 84, 3) := dk_180 0 84 (dk_at dksX25_newTask_8 18 rfl rfl)
theorem dX25_newTask_209 : decode cX25_newTask 209 = .ok (.bipush 8, 2) := dk_16 8 (dk_at dksX25_newTask_8 21 rfl rfl)
theorem dX25_newTask_211 : decode cX25_newTask 211 = .ok (.iload 8, 2) := dk_21 8 (dk_at dksX25_newTask_9 0 rfl rfl)
theorem dX25_newTask_213 : decode cX25_newTask 213 = .ok (.imul, 1) := dk_104 (dk_at dksX25_newTask_9 2 rfl rfl)
theorem dX25_newTask_214 : decode cX25_newTask 214 = .ok (.iload 9, 2) := dk_21 9 (dk_at dksX25_newTask_9 3 rfl rfl)
theorem dX25_newTask_216 : decode cX25_newTask 216 = .ok (.iadd, 1) := dk_96 (dk_at dksX25_newTask_9 5 rfl rfl)
theorem dX25_newTask_217 : decode cX25_newTask 217 = .ok (.iload 9, 2) := dk_21 9 (dk_at dksX25_newTask_9 6 rfl rfl)
theorem dX25_newTask_219 : decode cX25_newTask 219 = .ok (.ifCond .ne 12, 3) := dk_154 0 12 (dk_at dksX25_newTask_9 8 rfl rfl)
theorem dX25_newTask_222 : decode cX25_newTask 222 = .ok (.iload 5, 2) := dk_21 5 (dk_at dksX25_newTask_9 11 rfl rfl)
theorem dX25_newTask_224 : decode cX25_newTask 224 = .ok (.ifCond .eq 7, 3) := dk_153 0 7 (dk_at dksX25_newTask_9 13 rfl rfl)
theorem dX25_newTask_227 : decode cX25_newTask 227 = .ok (.iconst 1, 1) := dk_4 (dk_at dksX25_newTask_9 16 rfl rfl)
theorem dX25_newTask_228 : decode cX25_newTask 228 = .ok (.goto 4, 3) := dk_167 0 4 (dk_at dksX25_newTask_9 17 rfl rfl)
theorem dX25_newTask_231 : decode cX25_newTask 231 = .ok (.iconst 0, 1) := dk_3 (dk_at dksX25_newTask_9 20 rfl rfl)
theorem dX25_newTask_232 : decode cX25_newTask 232 = .ok (.bastore, 1) := dk_84 (dk_at dksX25_newTask_9 21 rfl rfl)
theorem dX25_newTask_233 : decode cX25_newTask 233 = .ok (.iinc 9 1, 3) := dk_132 9 1 (dk_at dksX25_newTask_10 0 rfl rfl)
theorem dX25_newTask_236 : decode cX25_newTask 236 = .ok (.goto (-61), 3) := dk_167 255 195 (dk_at dksX25_newTask_10 3 rfl rfl)
theorem dX25_newTask_239 : decode cX25_newTask 239 = .ok (.aload_n 0, 1) := dk_42 (dk_at dksX25_newTask_10 6 rfl rfl)
theorem dX25_newTask_240 : decode cX25_newTask 240 = .ok (.getfield 93, 3) := dk_180 0 93 (dk_at dksX25_newTask_10 7 rfl rfl)
theorem dX25_newTask_243 : decode cX25_newTask 243 = .ok (.iload 8, 2) := dk_21 8 (dk_at dksX25_newTask_10 10 rfl rfl)
theorem dX25_newTask_245 : decode cX25_newTask 245 = .ok (.iconst 0, 1) := dk_3 (dk_at dksX25_newTask_10 12 rfl rfl)
theorem dX25_newTask_246 : decode cX25_newTask 246 = .ok (.iastore, 1) := dk_79 (dk_at dksX25_newTask_10 13 rfl rfl)
theorem dX25_newTask_247 : decode cX25_newTask 247 = .ok (.aload_n 0, 1) := dk_42 (dk_at dksX25_newTask_10 14 rfl rfl)
theorem dX25_newTask_248 : decode cX25_newTask 248 = .ok (.getfield 99, 3) := dk_180 0 99 (dk_at dksX25_newTask_10 15 rfl rfl)
theorem dX25_newTask_251 : decode cX25_newTask 251 = .ok (.iload 8, 2) := dk_21 8 (dk_at dksX25_newTask_10 18 rfl rfl)
theorem dX25_newTask_253 : decode cX25_newTask 253 = .ok (.iconst 0, 1) := dk_3 (dk_at dksX25_newTask_10 20 rfl rfl)
theorem dX25_newTask_254 : decode cX25_newTask 254 = .ok (.iastore, 1) := dk_79 (dk_at dksX25_newTask_10 21 rfl rfl)
theorem dX25_newTask_255 : decode cX25_newTask 255 = .ok (.aload_n 0, 1) := dk_42 (dk_at dksX25_newTask_10 22 rfl rfl)
theorem dX25_newTask_256 : decode cX25_newTask 256 = .ok (.iload 8, 2) := dk_21 8 (dk_at dksX25_newTask_11 0 rfl rfl)
theorem dX25_newTask_258 : decode cX25_newTask 258 = .ok (.invokevirtual 165, 3) := dk_182 0 165 (dk_at dksX25_newTask_11 2 rfl rfl)
theorem dX25_newTask_261 : decode cX25_newTask 261 = .ok (.return_, 1) := dk_177 (dk_at dksX25_newTask_11 5 rfl rfl)
def dkwX25_endsBehind_1 : List UInt8 := [46, 46, 161, 0, 10, 42, 27, 9, 3, 182, 0, 169, 177]
abbrev dktX25_endsBehind_1 : List UInt8 := dkwX25_endsBehind_1 ++ []
def dkwX25_endsBehind_0 : List UInt8 := [42, 180, 0, 41, 27, 46, 154, 0, 30, 42, 180, 0, 38, 27, 46, 42, 180, 0, 7, 42, 180, 0, 35, 27]
abbrev dktX25_endsBehind_0 : List UInt8 := dkwX25_endsBehind_0 ++ dktX25_endsBehind_1
theorem dksX25_endsBehind_0 : cX25_endsBehind.data.toList.drop 0 = dktX25_endsBehind_0 := by decide +kernel
theorem dksX25_endsBehind_1 : cX25_endsBehind.data.toList.drop 24 = dktX25_endsBehind_1 := dk_seg dksX25_endsBehind_0 24 rfl rfl
theorem dX25_endsBehind_0 : decode cX25_endsBehind 0 = .ok (.aload_n 0, 1) := dk_42 (dk_at dksX25_endsBehind_0 0 rfl rfl)
theorem dX25_endsBehind_1 : decode cX25_endsBehind 1 = .ok (.getfield 41, 3) := dk_180 0 41 (dk_at dksX25_endsBehind_0 1 rfl rfl)
theorem dX25_endsBehind_4 : decode cX25_endsBehind 4 = .ok (.iload_n 1, 1) := dk_27 (dk_at dksX25_endsBehind_0 4 rfl rfl)
theorem dX25_endsBehind_5 : decode cX25_endsBehind 5 = .ok (.iaload, 1) := dk_46 (dk_at dksX25_endsBehind_0 5 rfl rfl)
theorem dX25_endsBehind_6 : decode cX25_endsBehind 6 = .ok (.ifCond .ne 30, 3) := dk_154 0 30 (dk_at dksX25_endsBehind_0 6 rfl rfl)
theorem dX25_endsBehind_9 : decode cX25_endsBehind 9 = .ok (.aload_n 0, 1) := dk_42 (dk_at dksX25_endsBehind_0 9 rfl rfl)
theorem dX25_endsBehind_10 : decode cX25_endsBehind 10 = .ok (.getfield 38, 3) := dk_180 0 38 (dk_at dksX25_endsBehind_0 10 rfl rfl)
theorem dX25_endsBehind_13 : decode cX25_endsBehind 13 = .ok (.iload_n 1, 1) := dk_27 (dk_at dksX25_endsBehind_0 13 rfl rfl)
theorem dX25_endsBehind_14 : decode cX25_endsBehind 14 = .ok (.iaload, 1) := dk_46 (dk_at dksX25_endsBehind_0 14 rfl rfl)
theorem dX25_endsBehind_15 : decode cX25_endsBehind 15 = .ok (.aload_n 0, 1) := dk_42 (dk_at dksX25_endsBehind_0 15 rfl rfl)
theorem dX25_endsBehind_16 : decode cX25_endsBehind 16 = .ok (.getfield 7, 3) := dk_180 0 7 (dk_at dksX25_endsBehind_0 16 rfl rfl)
theorem dX25_endsBehind_19 : decode cX25_endsBehind 19 = .ok (.aload_n 0, 1) := dk_42 (dk_at dksX25_endsBehind_0 19 rfl rfl)
theorem dX25_endsBehind_20 : decode cX25_endsBehind 20 = .ok (.getfield 35, 3) := dk_180 0 35 (dk_at dksX25_endsBehind_0 20 rfl rfl)
theorem dX25_endsBehind_23 : decode cX25_endsBehind 23 = .ok (.iload_n 1, 1) := dk_27 (dk_at dksX25_endsBehind_0 23 rfl rfl)
theorem dX25_endsBehind_24 : decode cX25_endsBehind 24 = .ok (.iaload, 1) := dk_46 (dk_at dksX25_endsBehind_1 0 rfl rfl)
theorem dX25_endsBehind_25 : decode cX25_endsBehind 25 = .ok (.iaload, 1) := dk_46 (dk_at dksX25_endsBehind_1 1 rfl rfl)
theorem dX25_endsBehind_26 : decode cX25_endsBehind 26 = .ok (.if_icmp .lt 10, 3) := dk_161 0 10 (dk_at dksX25_endsBehind_1 2 rfl rfl)
theorem dX25_endsBehind_29 : decode cX25_endsBehind 29 = .ok (.aload_n 0, 1) := dk_42 (dk_at dksX25_endsBehind_1 5 rfl rfl)
theorem dX25_endsBehind_30 : decode cX25_endsBehind 30 = .ok (.iload_n 1, 1) := dk_27 (dk_at dksX25_endsBehind_1 6 rfl rfl)
theorem dX25_endsBehind_31 : decode cX25_endsBehind 31 = .ok (.lconst 0, 1) := dk_9 (dk_at dksX25_endsBehind_1 7 rfl rfl)
theorem dX25_endsBehind_32 : decode cX25_endsBehind 32 = .ok (.iconst 0, 1) := dk_3 (dk_at dksX25_endsBehind_1 8 rfl rfl)
theorem dX25_endsBehind_33 : decode cX25_endsBehind 33 = .ok (.invokevirtual 169, 3) := dk_182 0 169 (dk_at dksX25_endsBehind_1 9 rfl rfl)
theorem dX25_endsBehind_36 : decode cX25_endsBehind 36 = .ok (.return_, 1) := dk_177 (dk_at dksX25_endsBehind_1 12 rfl rfl)
def dkwX25_ends_1 : List UInt8 := [180, 0, 78, 27, 21, 4, 84, 177]
abbrev dktX25_ends_1 : List UInt8 := dkwX25_ends_1 ++ []
def dkwX25_ends_0 : List UInt8 := [42, 180, 0, 41, 27, 5, 79, 42, 180, 0, 71, 27, 4, 84, 42, 180, 0, 75, 27, 32, 80, 42]
abbrev dktX25_ends_0 : List UInt8 := dkwX25_ends_0 ++ dktX25_ends_1
theorem dksX25_ends_0 : cX25_ends.data.toList.drop 0 = dktX25_ends_0 := by decide +kernel
theorem dksX25_ends_1 : cX25_ends.data.toList.drop 22 = dktX25_ends_1 := dk_seg dksX25_ends_0 22 rfl rfl
theorem dX25_ends_0 : decode cX25_ends 0 = .ok (.aload_n 0, 1) := dk_42 (dk_at dksX25_ends_0 0 rfl rfl)
theorem dX25_ends_1 : decode cX25_ends 1 = .ok (.getfield 41, 3) := dk_180 0 41 (dk_at dksX25_ends_0 1 rfl rfl)
theorem dX25_ends_4 : decode cX25_ends 4 = .ok (.iload_n 1, 1) := dk_27 (dk_at dksX25_ends_0 4 rfl rfl)
theorem dX25_ends_5 : decode cX25_ends 5 = .ok (.iconst 2, 1) := dk_5 (dk_at dksX25_ends_0 5 rfl rfl)
theorem dX25_ends_6 : decode cX25_ends 6 = .ok (.iastore, 1) := dk_79 (dk_at dksX25_ends_0 6 rfl rfl)
theorem dX25_ends_7 : decode cX25_ends 7 = .ok (.aload_n 0, 1) := dk_42 (dk_at dksX25_ends_0 7 rfl rfl)
theorem dX25_ends_8 : decode cX25_ends 8 = .ok (.getfield 71, 3) := dk_180 0 71 (dk_at dksX25_ends_0 8 rfl rfl)
theorem dX25_ends_11 : decode cX25_ends 11 = .ok (.iload_n 1, 1) := dk_27 (dk_at dksX25_ends_0 11 rfl rfl)
theorem dX25_ends_12 : decode cX25_ends 12 = .ok (.iconst 1, 1) := dk_4 (dk_at dksX25_ends_0 12 rfl rfl)
theorem dX25_ends_13 : decode cX25_ends 13 = .ok (.bastore, 1) := dk_84 (dk_at dksX25_ends_0 13 rfl rfl)
theorem dX25_ends_14 : decode cX25_ends 14 = .ok (.aload_n 0, 1) := dk_42 (dk_at dksX25_ends_0 14 rfl rfl)
theorem dX25_ends_15 : decode cX25_ends 15 = .ok (.getfield 75, 3) := dk_180 0 75 (dk_at dksX25_ends_0 15 rfl rfl)
theorem dX25_ends_18 : decode cX25_ends 18 = .ok (.iload_n 1, 1) := dk_27 (dk_at dksX25_ends_0 18 rfl rfl)
theorem dX25_ends_19 : decode cX25_ends 19 = .ok (.lload_n 2, 1) := dk_32 (dk_at dksX25_ends_0 19 rfl rfl)
theorem dX25_ends_20 : decode cX25_ends 20 = .ok (.lastore, 1) := dk_80 (dk_at dksX25_ends_0 20 rfl rfl)
theorem dX25_ends_21 : decode cX25_ends 21 = .ok (.aload_n 0, 1) := dk_42 (dk_at dksX25_ends_0 21 rfl rfl)
theorem dX25_ends_22 : decode cX25_ends 22 = .ok (.getfield 78, 3) := dk_180 0 78 (dk_at dksX25_ends_1 0 rfl rfl)
theorem dX25_ends_25 : decode cX25_ends 25 = .ok (.iload_n 1, 1) := dk_27 (dk_at dksX25_ends_1 3 rfl rfl)
theorem dX25_ends_26 : decode cX25_ends 26 = .ok (.iload 4, 2) := dk_21 4 (dk_at dksX25_ends_1 4 rfl rfl)
theorem dX25_ends_28 : decode cX25_ends 28 = .ok (.bastore, 1) := dk_84 (dk_at dksX25_ends_1 6 rfl rfl)
theorem dX25_ends_29 : decode cX25_ends 29 = .ok (.return_, 1) := dk_177 (dk_at dksX25_ends_1 7 rfl rfl)
def dkwX25_stop_1 : List UInt8 := [181, 0, 160, 42, 3, 181, 0, 157, 42, 3, 181, 0, 173, 42, 3, 181, 0, 176, 27, 172]
abbrev dktX25_stop_1 : List UInt8 := dkwX25_stop_1 ++ []
def dkwX25_stop_0 : List UInt8 := [42, 180, 0, 130, 154, 0, 6, 16, 254, 172, 42, 180, 0, 160, 60, 42, 3, 181, 0, 130, 42, 3]
abbrev dktX25_stop_0 : List UInt8 := dkwX25_stop_0 ++ dktX25_stop_1
theorem dksX25_stop_0 : cX25_stop.data.toList.drop 0 = dktX25_stop_0 := by decide +kernel
theorem dksX25_stop_1 : cX25_stop.data.toList.drop 22 = dktX25_stop_1 := dk_seg dksX25_stop_0 22 rfl rfl
theorem dX25_stop_0 : decode cX25_stop 0 = .ok (.aload_n 0, 1) := dk_42 (dk_at dksX25_stop_0 0 rfl rfl)
theorem dX25_stop_1 : decode cX25_stop 1 = .ok (.getfield 130, 3) := dk_180 0 130 (dk_at dksX25_stop_0 1 rfl rfl)
theorem dX25_stop_4 : decode cX25_stop 4 = .ok (.ifCond .ne 6, 3) := dk_154 0 6 (dk_at dksX25_stop_0 4 rfl rfl)
theorem dX25_stop_7 : decode cX25_stop 7 = .ok (.bipush (-2), 2) := dk_16 254 (dk_at dksX25_stop_0 7 rfl rfl)
theorem dX25_stop_9 : decode cX25_stop 9 = .ok (.ireturn, 1) := dk_172 (dk_at dksX25_stop_0 9 rfl rfl)
theorem dX25_stop_10 : decode cX25_stop 10 = .ok (.aload_n 0, 1) := dk_42 (dk_at dksX25_stop_0 10 rfl rfl)
theorem dX25_stop_11 : decode cX25_stop 11 = .ok (.getfield 160, 3) := dk_180 0 160 (dk_at dksX25_stop_0 11 rfl rfl)
theorem dX25_stop_14 : decode cX25_stop 14 = .ok (.istore_n 1, 1) := dk_60 (dk_at dksX25_stop_0 14 rfl rfl)
theorem dX25_stop_15 : decode cX25_stop 15 = .ok (.aload_n 0, 1) := dk_42 (dk_at dksX25_stop_0 15 rfl rfl)
theorem dX25_stop_16 : decode cX25_stop 16 = .ok (.iconst 0, 1) := dk_3 (dk_at dksX25_stop_0 16 rfl rfl)
theorem dX25_stop_17 : decode cX25_stop 17 = .ok (.putfield 130, 3) := dk_181 0 130 (dk_at dksX25_stop_0 17 rfl rfl)
theorem dX25_stop_20 : decode cX25_stop 20 = .ok (.aload_n 0, 1) := dk_42 (dk_at dksX25_stop_0 20 rfl rfl)
theorem dX25_stop_21 : decode cX25_stop 21 = .ok (.iconst 0, 1) := dk_3 (dk_at dksX25_stop_0 21 rfl rfl)
theorem dX25_stop_22 : decode cX25_stop 22 = .ok (.putfield 160, 3) := dk_181 0 160 (dk_at dksX25_stop_1 0 rfl rfl)
theorem dX25_stop_25 : decode cX25_stop 25 = .ok (.aload_n 0, 1) := dk_42 (dk_at dksX25_stop_1 3 rfl rfl)
theorem dX25_stop_26 : decode cX25_stop 26 = .ok (.iconst 0, 1) := dk_3 (dk_at dksX25_stop_1 4 rfl rfl)
theorem dX25_stop_27 : decode cX25_stop 27 = .ok (.putfield 157, 3) := dk_181 0 157 (dk_at dksX25_stop_1 5 rfl rfl)
theorem dX25_stop_30 : decode cX25_stop 30 = .ok (.aload_n 0, 1) := dk_42 (dk_at dksX25_stop_1 8 rfl rfl)
theorem dX25_stop_31 : decode cX25_stop 31 = .ok (.iconst 0, 1) := dk_3 (dk_at dksX25_stop_1 9 rfl rfl)
theorem dX25_stop_32 : decode cX25_stop 32 = .ok (.putfield 173, 3) := dk_181 0 173 (dk_at dksX25_stop_1 10 rfl rfl)
theorem dX25_stop_35 : decode cX25_stop 35 = .ok (.aload_n 0, 1) := dk_42 (dk_at dksX25_stop_1 13 rfl rfl)
theorem dX25_stop_36 : decode cX25_stop 36 = .ok (.iconst 0, 1) := dk_3 (dk_at dksX25_stop_1 14 rfl rfl)
theorem dX25_stop_37 : decode cX25_stop 37 = .ok (.putfield 176, 3) := dk_181 0 176 (dk_at dksX25_stop_1 15 rfl rfl)
theorem dX25_stop_40 : decode cX25_stop 40 = .ok (.iload_n 1, 1) := dk_27 (dk_at dksX25_stop_1 18 rfl rfl)
theorem dX25_stop_41 : decode cX25_stop 41 = .ok (.ireturn, 1) := dk_172 (dk_at dksX25_stop_1 19 rfl rfl)
def dkwX25_step_2 : List UInt8 := [42, 27, 182, 0, 239, 172]
abbrev dktX25_step_2 : List UInt8 := dkwX25_step_2 ++ []
def dkwX25_step_1 : List UInt8 := [29, 28, 162, 0, 22, 42, 27, 182, 0, 239, 154, 0, 14, 42, 27, 182, 0, 242, 132, 3, 1, 167, 255, 235]
abbrev dktX25_step_1 : List UInt8 := dkwX25_step_1 ++ dktX25_step_2
def dkwX25_step_0 : List UInt8 := [42, 27, 182, 0, 234, 153, 0, 15, 28, 133, 10, 20, 0, 237, 184, 0, 118, 154, 0, 5, 2, 172, 3, 62]
abbrev dktX25_step_0 : List UInt8 := dkwX25_step_0 ++ dktX25_step_1
theorem dksX25_step_0 : cX25_step.data.toList.drop 0 = dktX25_step_0 := by decide +kernel
theorem dksX25_step_1 : cX25_step.data.toList.drop 24 = dktX25_step_1 := dk_seg dksX25_step_0 24 rfl rfl
theorem dksX25_step_2 : cX25_step.data.toList.drop 48 = dktX25_step_2 := dk_seg dksX25_step_1 24 rfl rfl
theorem dX25_step_0 : decode cX25_step 0 = .ok (.aload_n 0, 1) := dk_42 (dk_at dksX25_step_0 0 rfl rfl)
theorem dX25_step_1 : decode cX25_step 1 = .ok (.iload_n 1, 1) := dk_27 (dk_at dksX25_step_0 1 rfl rfl)
theorem dX25_step_2 : decode cX25_step 2 = .ok (.invokevirtual 234, 3) := dk_182 0 234 (dk_at dksX25_step_0 2 rfl rfl)
theorem dX25_step_5 : decode cX25_step 5 = .ok (.ifCond .eq 15, 3) := dk_153 0 15 (dk_at dksX25_step_0 5 rfl rfl)
theorem dX25_step_8 : decode cX25_step 8 = .ok (.iload_n 2, 1) := dk_28 (dk_at dksX25_step_0 8 rfl rfl)
theorem dX25_step_9 : decode cX25_step 9 = .ok (.i2l, 1) := dk_133 (dk_at dksX25_step_0 9 rfl rfl)
theorem dX25_step_10 : decode cX25_step 10 = .ok (.lconst 1, 1) := dk_10 (dk_at dksX25_step_0 10 rfl rfl)
theorem dX25_step_11 : decode cX25_step 11 = .ok (.ldc2_w 237, 3) := dk_20 0 237 (dk_at dksX25_step_0 11 rfl rfl)
theorem dX25_step_14 : decode cX25_step 14 = .ok (.invokestatic 118, 3) := dk_184 0 118 (dk_at dksX25_step_0 14 rfl rfl)
theorem dX25_step_17 : decode cX25_step 17 = .ok (.ifCond .ne 5, 3) := dk_154 0 5 (dk_at dksX25_step_0 17 rfl rfl)
theorem dX25_step_20 : decode cX25_step 20 = .ok (.iconst (-1), 1) := dk_2 (dk_at dksX25_step_0 20 rfl rfl)
theorem dX25_step_21 : decode cX25_step 21 = .ok (.ireturn, 1) := dk_172 (dk_at dksX25_step_0 21 rfl rfl)
theorem dX25_step_22 : decode cX25_step 22 = .ok (.iconst 0, 1) := dk_3 (dk_at dksX25_step_0 22 rfl rfl)
theorem dX25_step_23 : decode cX25_step 23 = .ok (.istore_n 3, 1) := dk_62 (dk_at dksX25_step_0 23 rfl rfl)
theorem dX25_step_24 : decode cX25_step 24 = .ok (.iload_n 3, 1) := dk_29 (dk_at dksX25_step_1 0 rfl rfl)
theorem dX25_step_25 : decode cX25_step 25 = .ok (.iload_n 2, 1) := dk_28 (dk_at dksX25_step_1 1 rfl rfl)
theorem dX25_step_26 : decode cX25_step 26 = .ok (.if_icmp .ge 22, 3) := dk_162 0 22 (dk_at dksX25_step_1 2 rfl rfl)
theorem dX25_step_29 : decode cX25_step 29 = .ok (.aload_n 0, 1) := dk_42 (dk_at dksX25_step_1 5 rfl rfl)
theorem dX25_step_30 : decode cX25_step 30 = .ok (.iload_n 1, 1) := dk_27 (dk_at dksX25_step_1 6 rfl rfl)
theorem dX25_step_31 : decode cX25_step 31 = .ok (.invokevirtual 239, 3) := dk_182 0 239 (dk_at dksX25_step_1 7 rfl rfl)
theorem dX25_step_34 : decode cX25_step 34 = .ok (.ifCond .ne 14, 3) := dk_154 0 14 (dk_at dksX25_step_1 10 rfl rfl)
theorem dX25_step_37 : decode cX25_step 37 = .ok (.aload_n 0, 1) := dk_42 (dk_at dksX25_step_1 13 rfl rfl)
theorem dX25_step_38 : decode cX25_step 38 = .ok (.iload_n 1, 1) := dk_27 (dk_at dksX25_step_1 14 rfl rfl)
theorem dX25_step_39 : decode cX25_step 39 = .ok (.invokevirtual 242, 3) := dk_182 0 242 (dk_at dksX25_step_1 15 rfl rfl)
theorem dX25_step_42 : decode cX25_step 42 = .ok (.iinc 3 1, 3) := dk_132 3 1 (dk_at dksX25_step_1 18 rfl rfl)
theorem dX25_step_45 : decode cX25_step 45 = .ok (.goto (-21), 3) := dk_167 255 235 (dk_at dksX25_step_1 21 rfl rfl)
theorem dX25_step_48 : decode cX25_step 48 = .ok (.aload_n 0, 1) := dk_42 (dk_at dksX25_step_2 0 rfl rfl)
theorem dX25_step_49 : decode cX25_step 49 = .ok (.iload_n 1, 1) := dk_27 (dk_at dksX25_step_2 1 rfl rfl)
theorem dX25_step_50 : decode cX25_step 50 = .ok (.invokevirtual 239, 3) := dk_182 0 239 (dk_at dksX25_step_2 2 rfl rfl)
theorem dX25_step_53 : decode cX25_step 53 = .ok (.ireturn, 1) := dk_172 (dk_at dksX25_step_2 5 rfl rfl)
def dkwX25_isTask_0 : List UInt8 := [27, 133, 9, 42, 180, 0, 160, 4, 100, 133, 184, 0, 118, 172]
abbrev dktX25_isTask_0 : List UInt8 := dkwX25_isTask_0 ++ []
theorem dksX25_isTask_0 : cX25_isTask.data.toList.drop 0 = dktX25_isTask_0 := by decide +kernel
theorem dX25_isTask_0 : decode cX25_isTask 0 = .ok (.iload_n 1, 1) := dk_27 (dk_at dksX25_isTask_0 0 rfl rfl)
theorem dX25_isTask_1 : decode cX25_isTask 1 = .ok (.i2l, 1) := dk_133 (dk_at dksX25_isTask_0 1 rfl rfl)
theorem dX25_isTask_2 : decode cX25_isTask 2 = .ok (.lconst 0, 1) := dk_9 (dk_at dksX25_isTask_0 2 rfl rfl)
theorem dX25_isTask_3 : decode cX25_isTask 3 = .ok (.aload_n 0, 1) := dk_42 (dk_at dksX25_isTask_0 3 rfl rfl)
theorem dX25_isTask_4 : decode cX25_isTask 4 = .ok (.getfield 160, 3) := dk_180 0 160 (dk_at dksX25_isTask_0 4 rfl rfl)
theorem dX25_isTask_7 : decode cX25_isTask 7 = .ok (.iconst 1, 1) := dk_4 (dk_at dksX25_isTask_0 7 rfl rfl)
theorem dX25_isTask_8 : decode cX25_isTask 8 = .ok (.isub, 1) := dk_100 (dk_at dksX25_isTask_0 8 rfl rfl)
theorem dX25_isTask_9 : decode cX25_isTask 9 = .ok (.i2l, 1) := dk_133 (dk_at dksX25_isTask_0 9 rfl rfl)
theorem dX25_isTask_10 : decode cX25_isTask 10 = .ok (.invokestatic 118, 3) := dk_184 0 118 (dk_at dksX25_isTask_0 10 rfl rfl)
theorem dX25_isTask_13 : decode cX25_isTask 13 = .ok (.ireturn, 1) := dk_172 (dk_at dksX25_isTask_0 13 rfl rfl)
def dkwX25_standing_1 : List UInt8 := [16, 252, 159, 0, 7, 4, 167, 0, 4, 3, 172]
abbrev dktX25_standing_1 : List UInt8 := dkwX25_standing_1 ++ []
def dkwX25_standing_0 : List UInt8 := [42, 180, 0, 41, 27, 46, 153, 0, 12, 42, 180, 0, 41, 27, 46, 167, 0, 18, 42, 27, 182, 0, 187]
abbrev dktX25_standing_0 : List UInt8 := dkwX25_standing_0 ++ dktX25_standing_1
theorem dksX25_standing_0 : cX25_standing.data.toList.drop 0 = dktX25_standing_0 := by decide +kernel
theorem dksX25_standing_1 : cX25_standing.data.toList.drop 23 = dktX25_standing_1 := dk_seg dksX25_standing_0 23 rfl rfl
theorem dX25_standing_0 : decode cX25_standing 0 = .ok (.aload_n 0, 1) := dk_42 (dk_at dksX25_standing_0 0 rfl rfl)
theorem dX25_standing_1 : decode cX25_standing 1 = .ok (.getfield 41, 3) := dk_180 0 41 (dk_at dksX25_standing_0 1 rfl rfl)
theorem dX25_standing_4 : decode cX25_standing 4 = .ok (.iload_n 1, 1) := dk_27 (dk_at dksX25_standing_0 4 rfl rfl)
theorem dX25_standing_5 : decode cX25_standing 5 = .ok (.iaload, 1) := dk_46 (dk_at dksX25_standing_0 5 rfl rfl)
theorem dX25_standing_6 : decode cX25_standing 6 = .ok (.ifCond .eq 12, 3) := dk_153 0 12 (dk_at dksX25_standing_0 6 rfl rfl)
theorem dX25_standing_9 : decode cX25_standing 9 = .ok (.aload_n 0, 1) := dk_42 (dk_at dksX25_standing_0 9 rfl rfl)
theorem dX25_standing_10 : decode cX25_standing 10 = .ok (.getfield 41, 3) := dk_180 0 41 (dk_at dksX25_standing_0 10 rfl rfl)
theorem dX25_standing_13 : decode cX25_standing 13 = .ok (.iload_n 1, 1) := dk_27 (dk_at dksX25_standing_0 13 rfl rfl)
theorem dX25_standing_14 : decode cX25_standing 14 = .ok (.iaload, 1) := dk_46 (dk_at dksX25_standing_0 14 rfl rfl)
theorem dX25_standing_15 : decode cX25_standing 15 = .ok (.goto 18, 3) := dk_167 0 18 (dk_at dksX25_standing_0 15 rfl rfl)
theorem dX25_standing_18 : decode cX25_standing 18 = .ok (.aload_n 0, 1) := dk_42 (dk_at dksX25_standing_0 18 rfl rfl)
theorem dX25_standing_19 : decode cX25_standing 19 = .ok (.iload_n 1, 1) := dk_27 (dk_at dksX25_standing_0 19 rfl rfl)
theorem dX25_standing_20 : decode cX25_standing 20 = .ok (.invokevirtual 187, 3) := dk_182 0 187 (dk_at dksX25_standing_0 20 rfl rfl)
theorem dX25_standing_23 : decode cX25_standing 23 = .ok (.bipush (-4), 2) := dk_16 252 (dk_at dksX25_standing_1 0 rfl rfl)
theorem dX25_standing_25 : decode cX25_standing 25 = .ok (.if_icmp .eq 7, 3) := dk_159 0 7 (dk_at dksX25_standing_1 2 rfl rfl)
theorem dX25_standing_28 : decode cX25_standing 28 = .ok (.iconst 1, 1) := dk_4 (dk_at dksX25_standing_1 5 rfl rfl)
theorem dX25_standing_29 : decode cX25_standing 29 = .ok (.goto 4, 3) := dk_167 0 4 (dk_at dksX25_standing_1 6 rfl rfl)
theorem dX25_standing_32 : decode cX25_standing 32 = .ok (.iconst 0, 1) := dk_3 (dk_at dksX25_standing_1 9 rfl rfl)
theorem dX25_standing_33 : decode cX25_standing 33 = .ok (.ireturn, 1) := dk_172 (dk_at dksX25_standing_1 10 rfl rfl)
def dkwX25_waitsFor_4 : List UInt8 := [42, 180, 0, 41, 29, 46, 154, 0, 7, 29, 167, 0, 5, 16, 252, 172]
abbrev dktX25_waitsFor_4 : List UInt8 := dkwX25_waitsFor_4 ++ []
def dkwX25_waitsFor_3 : List UInt8 := [96, 4, 100, 61, 42, 180, 0, 90, 28, 51, 154, 0, 6, 16, 252, 172, 42, 180, 0, 87, 28, 47, 136, 62]
abbrev dktX25_waitsFor_3 : List UInt8 := dkwX25_waitsFor_3 ++ dktX25_waitsFor_4
def dkwX25_waitsFor_2 : List UInt8 := [180, 0, 47, 27, 46, 17, 0, 200, 161, 0, 6, 16, 252, 172, 16, 12, 27, 104, 42, 180, 0, 93, 27, 46]
abbrev dktX25_waitsFor_2 : List UInt8 := dkwX25_waitsFor_2 ++ dktX25_waitsFor_3
def dkwX25_waitsFor_1 : List UInt8 := [180, 0, 38, 27, 46, 96, 46, 16, 18, 160, 0, 24, 42, 180, 0, 93, 27, 46, 153, 0, 15, 42]
abbrev dktX25_waitsFor_1 : List UInt8 := dkwX25_waitsFor_1 ++ dktX25_waitsFor_2
def dkwX25_waitsFor_0 : List UInt8 := [42, 180, 0, 41, 27, 46, 154, 0, 50, 42, 180, 0, 13, 16, 40, 42, 180, 0, 35, 27, 46, 104, 42]
abbrev dktX25_waitsFor_0 : List UInt8 := dkwX25_waitsFor_0 ++ dktX25_waitsFor_1
theorem dksX25_waitsFor_0 : cX25_waitsFor.data.toList.drop 0 = dktX25_waitsFor_0 := by decide +kernel
theorem dksX25_waitsFor_1 : cX25_waitsFor.data.toList.drop 23 = dktX25_waitsFor_1 := dk_seg dksX25_waitsFor_0 23 rfl rfl
theorem dksX25_waitsFor_2 : cX25_waitsFor.data.toList.drop 45 = dktX25_waitsFor_2 := dk_seg dksX25_waitsFor_1 22 rfl rfl
theorem dksX25_waitsFor_3 : cX25_waitsFor.data.toList.drop 69 = dktX25_waitsFor_3 := dk_seg dksX25_waitsFor_2 24 rfl rfl
theorem dksX25_waitsFor_4 : cX25_waitsFor.data.toList.drop 93 = dktX25_waitsFor_4 := dk_seg dksX25_waitsFor_3 24 rfl rfl
theorem dX25_waitsFor_0 : decode cX25_waitsFor 0 = .ok (.aload_n 0, 1) := dk_42 (dk_at dksX25_waitsFor_0 0 rfl rfl)
theorem dX25_waitsFor_1 : decode cX25_waitsFor 1 = .ok (.getfield 41, 3) := dk_180 0 41 (dk_at dksX25_waitsFor_0 1 rfl rfl)
theorem dX25_waitsFor_4 : decode cX25_waitsFor 4 = .ok (.iload_n 1, 1) := dk_27 (dk_at dksX25_waitsFor_0 4 rfl rfl)
theorem dX25_waitsFor_5 : decode cX25_waitsFor 5 = .ok (.iaload, 1) := dk_46 (dk_at dksX25_waitsFor_0 5 rfl rfl)
theorem dX25_waitsFor_6 : decode cX25_waitsFor 6 = .ok (.ifCond .ne 50, 3) := dk_154 0 50 (dk_at dksX25_waitsFor_0 6 rfl rfl)
theorem dX25_waitsFor_9 : decode cX25_waitsFor 9 = .ok (.aload_n 0, 1) := dk_42 (dk_at dksX25_waitsFor_0 9 rfl rfl)
theorem dX25_waitsFor_10 : decode cX25_waitsFor 10 = .ok (.getfield 13, 3) := dk_180 0 13 (dk_at dksX25_waitsFor_0 10 rfl rfl)
theorem dX25_waitsFor_13 : decode cX25_waitsFor 13 = .ok (.bipush 40, 2) := dk_16 40 (dk_at dksX25_waitsFor_0 13 rfl rfl)
theorem dX25_waitsFor_15 : decode cX25_waitsFor 15 = .ok (.aload_n 0, 1) := dk_42 (dk_at dksX25_waitsFor_0 15 rfl rfl)
theorem dX25_waitsFor_16 : decode cX25_waitsFor 16 = .ok (.getfield 35, 3) := dk_180 0 35 (dk_at dksX25_waitsFor_0 16 rfl rfl)
theorem dX25_waitsFor_19 : decode cX25_waitsFor 19 = .ok (.iload_n 1, 1) := dk_27 (dk_at dksX25_waitsFor_0 19 rfl rfl)
theorem dX25_waitsFor_20 : decode cX25_waitsFor 20 = .ok (.iaload, 1) := dk_46 (dk_at dksX25_waitsFor_0 20 rfl rfl)
theorem dX25_waitsFor_21 : decode cX25_waitsFor 21 = .ok (.imul, 1) := dk_104 (dk_at dksX25_waitsFor_0 21 rfl rfl)
theorem dX25_waitsFor_22 : decode cX25_waitsFor 22 = .ok (.aload_n 0, 1) := dk_42 (dk_at dksX25_waitsFor_0 22 rfl rfl)
theorem dX25_waitsFor_23 : decode cX25_waitsFor 23 = .ok (.getfield 38, 3) := dk_180 0 38 (dk_at dksX25_waitsFor_1 0 rfl rfl)
theorem dX25_waitsFor_26 : decode cX25_waitsFor 26 = .ok (.iload_n 1, 1) := dk_27 (dk_at dksX25_waitsFor_1 3 rfl rfl)
theorem dX25_waitsFor_27 : decode cX25_waitsFor 27 = .ok (.iaload, 1) := dk_46 (dk_at dksX25_waitsFor_1 4 rfl rfl)
theorem dX25_waitsFor_28 : decode cX25_waitsFor 28 = .ok (.iadd, 1) := dk_96 (dk_at dksX25_waitsFor_1 5 rfl rfl)
theorem dX25_waitsFor_29 : decode cX25_waitsFor 29 = .ok (.iaload, 1) := dk_46 (dk_at dksX25_waitsFor_1 6 rfl rfl)
theorem dX25_waitsFor_30 : decode cX25_waitsFor 30 = .ok (.bipush 18, 2) := dk_16 18 (dk_at dksX25_waitsFor_1 7 rfl rfl)
theorem dX25_waitsFor_32 : decode cX25_waitsFor 32 = .ok (.if_icmp .ne 24, 3) := dk_160 0 24 (dk_at dksX25_waitsFor_1 9 rfl rfl)
theorem dX25_waitsFor_35 : decode cX25_waitsFor 35 = .ok (.aload_n 0, 1) := dk_42 (dk_at dksX25_waitsFor_1 12 rfl rfl)
theorem dX25_waitsFor_36 : decode cX25_waitsFor 36 = .ok (.getfield 93, 3) := dk_180 0 93 (dk_at dksX25_waitsFor_1 13 rfl rfl)
theorem dX25_waitsFor_39 : decode cX25_waitsFor 39 = .ok (.iload_n 1, 1) := dk_27 (dk_at dksX25_waitsFor_1 16 rfl rfl)
theorem dX25_waitsFor_40 : decode cX25_waitsFor 40 = .ok (.iaload, 1) := dk_46 (dk_at dksX25_waitsFor_1 17 rfl rfl)
theorem dX25_waitsFor_41 : decode cX25_waitsFor 41 = .ok (.ifCond .eq 15, 3) := dk_153 0 15 (dk_at dksX25_waitsFor_1 18 rfl rfl)
theorem dX25_waitsFor_44 : decode cX25_waitsFor 44 = .ok (.aload_n 0, 1) := dk_42 (dk_at dksX25_waitsFor_1 21 rfl rfl)
theorem dX25_waitsFor_45 : decode cX25_waitsFor 45 = .ok (.getfield 47, 3) := dk_180 0 47 (dk_at dksX25_waitsFor_2 0 rfl rfl)
theorem dX25_waitsFor_48 : decode cX25_waitsFor 48 = .ok (.iload_n 1, 1) := dk_27 (dk_at dksX25_waitsFor_2 3 rfl rfl)
theorem dX25_waitsFor_49 : decode cX25_waitsFor 49 = .ok (.iaload, 1) := dk_46 (dk_at dksX25_waitsFor_2 4 rfl rfl)
theorem dX25_waitsFor_50 : decode cX25_waitsFor 50 = .ok (.sipush 200, 3) := dk_17 0 200 (dk_at dksX25_waitsFor_2 5 rfl rfl)
theorem dX25_waitsFor_53 : decode cX25_waitsFor 53 = .ok (.if_icmp .lt 6, 3) := dk_161 0 6 (dk_at dksX25_waitsFor_2 8 rfl rfl)
theorem dX25_waitsFor_56 : decode cX25_waitsFor 56 = .ok (.bipush (-4), 2) := dk_16 252 (dk_at dksX25_waitsFor_2 11 rfl rfl)
theorem dX25_waitsFor_58 : decode cX25_waitsFor 58 = .ok (.ireturn, 1) := dk_172 (dk_at dksX25_waitsFor_2 13 rfl rfl)
theorem dX25_waitsFor_59 : decode cX25_waitsFor 59 = .ok (.bipush 12, 2) := dk_16 12 (dk_at dksX25_waitsFor_2 14 rfl rfl)
theorem dX25_waitsFor_61 : decode cX25_waitsFor 61 = .ok (.iload_n 1, 1) := dk_27 (dk_at dksX25_waitsFor_2 16 rfl rfl)
theorem dX25_waitsFor_62 : decode cX25_waitsFor 62 = .ok (.imul, 1) := dk_104 (dk_at dksX25_waitsFor_2 17 rfl rfl)
theorem dX25_waitsFor_63 : decode cX25_waitsFor 63 = .ok (.aload_n 0, 1) := dk_42 (dk_at dksX25_waitsFor_2 18 rfl rfl)
theorem dX25_waitsFor_64 : decode cX25_waitsFor 64 = .ok (.getfield 93, 3) := dk_180 0 93 (dk_at dksX25_waitsFor_2 19 rfl rfl)
theorem dX25_waitsFor_67 : decode cX25_waitsFor 67 = .ok (.iload_n 1, 1) := dk_27 (dk_at dksX25_waitsFor_2 22 rfl rfl)
theorem dX25_waitsFor_68 : decode cX25_waitsFor 68 = .ok (.iaload, 1) := dk_46 (dk_at dksX25_waitsFor_2 23 rfl rfl)
theorem dX25_waitsFor_69 : decode cX25_waitsFor 69 = .ok (.iadd, 1) := dk_96 (dk_at dksX25_waitsFor_3 0 rfl rfl)
theorem dX25_waitsFor_70 : decode cX25_waitsFor 70 = .ok (.iconst 1, 1) := dk_4 (dk_at dksX25_waitsFor_3 1 rfl rfl)
theorem dX25_waitsFor_71 : decode cX25_waitsFor 71 = .ok (.isub, 1) := dk_100 (dk_at dksX25_waitsFor_3 2 rfl rfl)
theorem dX25_waitsFor_72 : decode cX25_waitsFor 72 = .ok (.istore_n 2, 1) := dk_61 (dk_at dksX25_waitsFor_3 3 rfl rfl)
theorem dX25_waitsFor_73 : decode cX25_waitsFor 73 = .ok (.aload_n 0, 1) := dk_42 (dk_at dksX25_waitsFor_3 4 rfl rfl)
theorem dX25_waitsFor_74 : decode cX25_waitsFor 74 = .ok (.getfield 90, 3) := dk_180 0 90 (dk_at dksX25_waitsFor_3 5 rfl rfl)
theorem dX25_waitsFor_77 : decode cX25_waitsFor 77 = .ok (.iload_n 2, 1) := dk_28 (dk_at dksX25_waitsFor_3 8 rfl rfl)
theorem dX25_waitsFor_78 : decode cX25_waitsFor 78 = .ok (.baload, 1) := dk_51 (dk_at dksX25_waitsFor_3 9 rfl rfl)
theorem dX25_waitsFor_79 : decode cX25_waitsFor 79 = .ok (.ifCond .ne 6, 3) := dk_154 0 6 (dk_at dksX25_waitsFor_3 10 rfl rfl)
theorem dX25_waitsFor_82 : decode cX25_waitsFor 82 = .ok (.bipush (-4), 2) := dk_16 252 (dk_at dksX25_waitsFor_3 13 rfl rfl)
theorem dX25_waitsFor_84 : decode cX25_waitsFor 84 = .ok (.ireturn, 1) := dk_172 (dk_at dksX25_waitsFor_3 15 rfl rfl)
theorem dX25_waitsFor_85 : decode cX25_waitsFor 85 = .ok (.aload_n 0, 1) := dk_42 (dk_at dksX25_waitsFor_3 16 rfl rfl)
theorem dX25_waitsFor_86 : decode cX25_waitsFor 86 = .ok (.getfield 87, 3) := dk_180 0 87 (dk_at dksX25_waitsFor_3 17 rfl rfl)
theorem dX25_waitsFor_89 : decode cX25_waitsFor 89 = .ok (.iload_n 2, 1) := dk_28 (dk_at dksX25_waitsFor_3 20 rfl rfl)
theorem dX25_waitsFor_90 : decode cX25_waitsFor 90 = .ok (.laload, 1) := dk_47 (dk_at dksX25_waitsFor_3 21 rfl rfl)
theorem dX25_waitsFor_91 : decode cX25_waitsFor 91 = .ok (.l2i, 1) := dk_136 (dk_at dksX25_waitsFor_3 22 rfl rfl)
theorem dX25_waitsFor_92 : decode cX25_waitsFor 92 = .ok (.istore_n 3, 1) := dk_62 (dk_at dksX25_waitsFor_3 23 rfl rfl)
theorem dX25_waitsFor_93 : decode cX25_waitsFor 93 = .ok (.aload_n 0, 1) := dk_42 (dk_at dksX25_waitsFor_4 0 rfl rfl)
theorem dX25_waitsFor_94 : decode cX25_waitsFor 94 = .ok (.getfield 41, 3) := dk_180 0 41 (dk_at dksX25_waitsFor_4 1 rfl rfl)
theorem dX25_waitsFor_97 : decode cX25_waitsFor 97 = .ok (.iload_n 3, 1) := dk_29 (dk_at dksX25_waitsFor_4 4 rfl rfl)
theorem dX25_waitsFor_98 : decode cX25_waitsFor 98 = .ok (.iaload, 1) := dk_46 (dk_at dksX25_waitsFor_4 5 rfl rfl)
theorem dX25_waitsFor_99 : decode cX25_waitsFor 99 = .ok (.ifCond .ne 7, 3) := dk_154 0 7 (dk_at dksX25_waitsFor_4 6 rfl rfl)
theorem dX25_waitsFor_102 : decode cX25_waitsFor 102 = .ok (.iload_n 3, 1) := dk_29 (dk_at dksX25_waitsFor_4 9 rfl rfl)
theorem dX25_waitsFor_103 : decode cX25_waitsFor 103 = .ok (.goto 5, 3) := dk_167 0 5 (dk_at dksX25_waitsFor_4 10 rfl rfl)
theorem dX25_waitsFor_106 : decode cX25_waitsFor 106 = .ok (.bipush (-4), 2) := dk_16 252 (dk_at dksX25_waitsFor_4 13 rfl rfl)
theorem dX25_waitsFor_108 : decode cX25_waitsFor 108 = .ok (.ireturn, 1) := dk_172 (dk_at dksX25_waitsFor_4 15 rfl rfl)
def dkwX25_oneStep_14 : List UInt8 := [42, 27, 29, 21, 4, 22, 7, 21, 9, 22, 10, 182, 0, 203, 177]
abbrev dktX25_oneStep_14 : List UInt8 := dkwX25_oneStep_14 ++ []
def dkwX25_oneStep_13 : List UInt8 := [21, 4, 22, 7, 22, 10, 182, 0, 199, 54, 14, 21, 14, 158, 0, 11, 42, 27, 21, 14, 182, 0, 192, 177]
abbrev dktX25_oneStep_13 : List UInt8 := dkwX25_oneStep_13 ++ dktX25_oneStep_14
def dkwX25_oneStep_12 : List UInt8 := [16, 18, 160, 0, 7, 4, 167, 0, 4, 3, 159, 0, 10, 42, 27, 5, 182, 0, 192, 177, 42, 27, 29]
abbrev dktX25_oneStep_12 : List UInt8 := dkwX25_oneStep_12 ++ dktX25_oneStep_13
def dkwX25_oneStep_11 : List UInt8 := [21, 5, 4, 164, 0, 8, 21, 12, 154, 0, 29, 21, 5, 158, 0, 31, 21, 13, 154, 0, 26, 21, 9, 29]
abbrev dktX25_oneStep_11 : List UInt8 := dkwX25_oneStep_11 ++ dktX25_oneStep_12
def dkwX25_oneStep_10 : List UInt8 := [16, 16, 159, 0, 15, 29, 16, 17, 159, 0, 9, 29, 16, 20, 160, 0, 7, 4, 167, 0, 4, 3, 54, 13]
abbrev dktX25_oneStep_10 : List UInt8 := dkwX25_oneStep_10 ++ dktX25_oneStep_11
def dkwX25_oneStep_9 : List UInt8 := [167, 0, 4, 3, 54, 12, 42, 180, 0, 93, 27, 92, 46, 21, 5, 100, 79, 29, 16, 15, 159, 0, 21, 29]
abbrev dktX25_oneStep_9 : List UInt8 := dkwX25_oneStep_9 ++ dktX25_oneStep_10
def dkwX25_oneStep_8 : List UInt8 := [9, 55, 10, 21, 5, 4, 164, 0, 19, 42, 180, 0, 90, 21, 6, 4, 96, 51, 153, 0, 7, 4]
abbrev dktX25_oneStep_8 : List UInt8 := dkwX25_oneStep_8 ++ dktX25_oneStep_9
def dkwX25_oneStep_7 : List UInt8 := [167, 0, 4, 3, 54, 9, 21, 5, 4, 164, 0, 15, 42, 180, 0, 87, 21, 6, 4, 96, 47, 167, 0, 4]
abbrev dktX25_oneStep_7 : List UInt8 := dkwX25_oneStep_7 ++ dktX25_oneStep_8
def dkwX25_oneStep_6 : List UInt8 := [47, 167, 0, 4, 9, 55, 7, 21, 5, 158, 0, 17, 42, 180, 0, 90, 21, 6, 51, 153, 0, 7, 4]
abbrev dktX25_oneStep_6 : List UInt8 := dkwX25_oneStep_6 ++ dktX25_oneStep_7
def dkwX25_oneStep_5 : List UInt8 := [104, 42, 180, 0, 93, 27, 46, 96, 21, 5, 100, 54, 6, 21, 5, 158, 0, 13, 42, 180, 0, 87, 21, 6]
abbrev dktX25_oneStep_5 : List UInt8 := dkwX25_oneStep_5 ++ dktX25_oneStep_6
def dkwX25_oneStep_4 : List UInt8 := [54, 5, 42, 180, 0, 93, 27, 46, 21, 5, 162, 0, 11, 42, 27, 16, 8, 182, 0, 192, 177, 16, 12, 27]
abbrev dktX25_oneStep_4 : List UInt8 := dkwX25_oneStep_4 ++ dktX25_oneStep_5
def dkwX25_oneStep_3 : List UInt8 := [180, 0, 47, 27, 46, 17, 0, 200, 164, 0, 11, 42, 27, 16, 6, 182, 0, 192, 177, 29, 184, 0, 196]
abbrev dktX25_oneStep_3 : List UInt8 := dkwX25_oneStep_3 ++ dktX25_oneStep_4
def dkwX25_oneStep_2 : List UInt8 := [96, 181, 0, 173, 42, 180, 0, 68, 27, 20, 0, 190, 42, 180, 0, 68, 27, 47, 105, 29, 133, 97, 80, 42]
abbrev dktX25_oneStep_2 : List UInt8 := dkwX25_oneStep_2 ++ dktX25_oneStep_3
def dkwX25_oneStep_1 : List UInt8 := [42, 180, 0, 16, 28, 46, 54, 4, 42, 180, 0, 47, 27, 92, 46, 4, 96, 79, 42, 89, 180, 0, 173, 4]
abbrev dktX25_oneStep_1 : List UInt8 := dkwX25_oneStep_1 ++ dktX25_oneStep_2
def dkwX25_oneStep_0 : List UInt8 := [16, 40, 42, 180, 0, 35, 27, 46, 104, 42, 180, 0, 38, 27, 46, 96, 61, 42, 180, 0, 13, 28, 46, 62]
abbrev dktX25_oneStep_0 : List UInt8 := dkwX25_oneStep_0 ++ dktX25_oneStep_1
theorem dksX25_oneStep_0 : cX25_oneStep.data.toList.drop 0 = dktX25_oneStep_0 := by decide +kernel
theorem dksX25_oneStep_1 : cX25_oneStep.data.toList.drop 24 = dktX25_oneStep_1 := dk_seg dksX25_oneStep_0 24 rfl rfl
theorem dksX25_oneStep_2 : cX25_oneStep.data.toList.drop 48 = dktX25_oneStep_2 := dk_seg dksX25_oneStep_1 24 rfl rfl
theorem dksX25_oneStep_3 : cX25_oneStep.data.toList.drop 72 = dktX25_oneStep_3 := dk_seg dksX25_oneStep_2 24 rfl rfl
theorem dksX25_oneStep_4 : cX25_oneStep.data.toList.drop 95 = dktX25_oneStep_4 := dk_seg dksX25_oneStep_3 23 rfl rfl
theorem dksX25_oneStep_5 : cX25_oneStep.data.toList.drop 119 = dktX25_oneStep_5 := dk_seg dksX25_oneStep_4 24 rfl rfl
theorem dksX25_oneStep_6 : cX25_oneStep.data.toList.drop 143 = dktX25_oneStep_6 := dk_seg dksX25_oneStep_5 24 rfl rfl
theorem dksX25_oneStep_7 : cX25_oneStep.data.toList.drop 166 = dktX25_oneStep_7 := dk_seg dksX25_oneStep_6 23 rfl rfl
theorem dksX25_oneStep_8 : cX25_oneStep.data.toList.drop 190 = dktX25_oneStep_8 := dk_seg dksX25_oneStep_7 24 rfl rfl
theorem dksX25_oneStep_9 : cX25_oneStep.data.toList.drop 212 = dktX25_oneStep_9 := dk_seg dksX25_oneStep_8 22 rfl rfl
theorem dksX25_oneStep_10 : cX25_oneStep.data.toList.drop 236 = dktX25_oneStep_10 := dk_seg dksX25_oneStep_9 24 rfl rfl
theorem dksX25_oneStep_11 : cX25_oneStep.data.toList.drop 260 = dktX25_oneStep_11 := dk_seg dksX25_oneStep_10 24 rfl rfl
theorem dksX25_oneStep_12 : cX25_oneStep.data.toList.drop 284 = dktX25_oneStep_12 := dk_seg dksX25_oneStep_11 24 rfl rfl
theorem dksX25_oneStep_13 : cX25_oneStep.data.toList.drop 307 = dktX25_oneStep_13 := dk_seg dksX25_oneStep_12 23 rfl rfl
theorem dksX25_oneStep_14 : cX25_oneStep.data.toList.drop 331 = dktX25_oneStep_14 := dk_seg dksX25_oneStep_13 24 rfl rfl
theorem dX25_oneStep_0 : decode cX25_oneStep 0 = .ok (.bipush 40, 2) := dk_16 40 (dk_at dksX25_oneStep_0 0 rfl rfl)
theorem dX25_oneStep_2 : decode cX25_oneStep 2 = .ok (.aload_n 0, 1) := dk_42 (dk_at dksX25_oneStep_0 2 rfl rfl)
theorem dX25_oneStep_3 : decode cX25_oneStep 3 = .ok (.getfield 35, 3) := dk_180 0 35 (dk_at dksX25_oneStep_0 3 rfl rfl)
theorem dX25_oneStep_6 : decode cX25_oneStep 6 = .ok (.iload_n 1, 1) := dk_27 (dk_at dksX25_oneStep_0 6 rfl rfl)
theorem dX25_oneStep_7 : decode cX25_oneStep 7 = .ok (.iaload, 1) := dk_46 (dk_at dksX25_oneStep_0 7 rfl rfl)
theorem dX25_oneStep_8 : decode cX25_oneStep 8 = .ok (.imul, 1) := dk_104 (dk_at dksX25_oneStep_0 8 rfl rfl)
theorem dX25_oneStep_9 : decode cX25_oneStep 9 = .ok (.aload_n 0, 1) := dk_42 (dk_at dksX25_oneStep_0 9 rfl rfl)
theorem dX25_oneStep_10 : decode cX25_oneStep 10 = .ok (.getfield 38, 3) := dk_180 0 38 (dk_at dksX25_oneStep_0 10 rfl rfl)
theorem dX25_oneStep_13 : decode cX25_oneStep 13 = .ok (.iload_n 1, 1) := dk_27 (dk_at dksX25_oneStep_0 13 rfl rfl)
theorem dX25_oneStep_14 : decode cX25_oneStep 14 = .ok (.iaload, 1) := dk_46 (dk_at dksX25_oneStep_0 14 rfl rfl)
theorem dX25_oneStep_15 : decode cX25_oneStep 15 = .ok (.iadd, 1) := dk_96 (dk_at dksX25_oneStep_0 15 rfl rfl)
theorem dX25_oneStep_16 : decode cX25_oneStep 16 = .ok (.istore_n 2, 1) := dk_61 (dk_at dksX25_oneStep_0 16 rfl rfl)
theorem dX25_oneStep_17 : decode cX25_oneStep 17 = .ok (.aload_n 0, 1) := dk_42 (dk_at dksX25_oneStep_0 17 rfl rfl)
theorem dX25_oneStep_18 : decode cX25_oneStep 18 = .ok (.getfield 13, 3) := dk_180 0 13 (dk_at dksX25_oneStep_0 18 rfl rfl)
theorem dX25_oneStep_21 : decode cX25_oneStep 21 = .ok (.iload_n 2, 1) := dk_28 (dk_at dksX25_oneStep_0 21 rfl rfl)
theorem dX25_oneStep_22 : decode cX25_oneStep 22 = .ok (.iaload, 1) := dk_46 (dk_at dksX25_oneStep_0 22 rfl rfl)
theorem dX25_oneStep_23 : decode cX25_oneStep 23 = .ok (.istore_n 3, 1) := dk_62 (dk_at dksX25_oneStep_0 23 rfl rfl)
theorem dX25_oneStep_24 : decode cX25_oneStep 24 = .ok (.aload_n 0, 1) := dk_42 (dk_at dksX25_oneStep_1 0 rfl rfl)
theorem dX25_oneStep_25 : decode cX25_oneStep 25 = .ok (.getfield 16, 3) := dk_180 0 16 (dk_at dksX25_oneStep_1 1 rfl rfl)
theorem dX25_oneStep_28 : decode cX25_oneStep 28 = .ok (.iload_n 2, 1) := dk_28 (dk_at dksX25_oneStep_1 4 rfl rfl)
theorem dX25_oneStep_29 : decode cX25_oneStep 29 = .ok (.iaload, 1) := dk_46 (dk_at dksX25_oneStep_1 5 rfl rfl)
theorem dX25_oneStep_30 : decode cX25_oneStep 30 = .ok (.istore 4, 2) := dk_54 4 (dk_at dksX25_oneStep_1 6 rfl rfl)
theorem dX25_oneStep_32 : decode cX25_oneStep 32 = .ok (.aload_n 0, 1) := dk_42 (dk_at dksX25_oneStep_1 8 rfl rfl)
theorem dX25_oneStep_33 : decode cX25_oneStep 33 = .ok (.getfield 47, 3) := dk_180 0 47 (dk_at dksX25_oneStep_1 9 rfl rfl)
theorem dX25_oneStep_36 : decode cX25_oneStep 36 = .ok (.iload_n 1, 1) := dk_27 (dk_at dksX25_oneStep_1 12 rfl rfl)
theorem dX25_oneStep_37 : decode cX25_oneStep 37 = .ok (.dup2, 1) := dk_92 (dk_at dksX25_oneStep_1 13 rfl rfl)
theorem dX25_oneStep_38 : decode cX25_oneStep 38 = .ok (.iaload, 1) := dk_46 (dk_at dksX25_oneStep_1 14 rfl rfl)
theorem dX25_oneStep_39 : decode cX25_oneStep 39 = .ok (.iconst 1, 1) := dk_4 (dk_at dksX25_oneStep_1 15 rfl rfl)
theorem dX25_oneStep_40 : decode cX25_oneStep 40 = .ok (.iadd, 1) := dk_96 (dk_at dksX25_oneStep_1 16 rfl rfl)
theorem dX25_oneStep_41 : decode cX25_oneStep 41 = .ok (.iastore, 1) := dk_79 (dk_at dksX25_oneStep_1 17 rfl rfl)
theorem dX25_oneStep_42 : decode cX25_oneStep 42 = .ok (.aload_n 0, 1) := dk_42 (dk_at dksX25_oneStep_1 18 rfl rfl)
theorem dX25_oneStep_43 : decode cX25_oneStep 43 = .ok (.dup, 1) := dk_89 (dk_at dksX25_oneStep_1 19 rfl rfl)
theorem dX25_oneStep_44 : decode cX25_oneStep 44 = .ok (.getfield 173, 3) := dk_180 0 173 (dk_at dksX25_oneStep_1 20 rfl rfl)
theorem dX25_oneStep_47 : decode cX25_oneStep 47 = .ok (.iconst 1, 1) := dk_4 (dk_at dksX25_oneStep_1 23 rfl rfl)
theorem dX25_oneStep_48 : decode cX25_oneStep 48 = .ok (.iadd, 1) := dk_96 (dk_at dksX25_oneStep_2 0 rfl rfl)
theorem dX25_oneStep_49 : decode cX25_oneStep 49 = .ok (.putfield 173, 3) := dk_181 0 173 (dk_at dksX25_oneStep_2 1 rfl rfl)
theorem dX25_oneStep_52 : decode cX25_oneStep 52 = .ok (.aload_n 0, 1) := dk_42 (dk_at dksX25_oneStep_2 4 rfl rfl)
theorem dX25_oneStep_53 : decode cX25_oneStep 53 = .ok (.getfield 68, 3) := dk_180 0 68 (dk_at dksX25_oneStep_2 5 rfl rfl)
theorem dX25_oneStep_56 : decode cX25_oneStep 56 = .ok (.iload_n 1, 1) := dk_27 (dk_at dksX25_oneStep_2 8 rfl rfl)
theorem dX25_oneStep_57 : decode cX25_oneStep 57 = .ok (.ldc2_w 190, 3) := dk_20 0 190 (dk_at dksX25_oneStep_2 9 rfl rfl)
theorem dX25_oneStep_60 : decode cX25_oneStep 60 = .ok (.aload_n 0, 1) := dk_42 (dk_at dksX25_oneStep_2 12 rfl rfl)
theorem dX25_oneStep_61 : decode cX25_oneStep 61 = .ok (.getfield 68, 3) := dk_180 0 68 (dk_at dksX25_oneStep_2 13 rfl rfl)
theorem dX25_oneStep_64 : decode cX25_oneStep 64 = .ok (.iload_n 1, 1) := dk_27 (dk_at dksX25_oneStep_2 16 rfl rfl)
theorem dX25_oneStep_65 : decode cX25_oneStep 65 = .ok (.laload, 1) := dk_47 (dk_at dksX25_oneStep_2 17 rfl rfl)
theorem dX25_oneStep_66 : decode cX25_oneStep 66 = .ok (.lmul, 1) := dk_105 (dk_at dksX25_oneStep_2 18 rfl rfl)
theorem dX25_oneStep_67 : decode cX25_oneStep 67 = .ok (.iload_n 3, 1) := dk_29 (dk_at dksX25_oneStep_2 19 rfl rfl)
theorem dX25_oneStep_68 : decode cX25_oneStep 68 = .ok (.i2l, 1) := dk_133 (dk_at dksX25_oneStep_2 20 rfl rfl)
theorem dX25_oneStep_69 : decode cX25_oneStep 69 = .ok (.ladd, 1) := dk_97 (dk_at dksX25_oneStep_2 21 rfl rfl)
theorem dX25_oneStep_70 : decode cX25_oneStep 70 = .ok (.lastore, 1) := dk_80 (dk_at dksX25_oneStep_2 22 rfl rfl)
theorem dX25_oneStep_71 : decode cX25_oneStep 71 = .ok (.aload_n 0, 1) := dk_42 (dk_at dksX25_oneStep_2 23 rfl rfl)
theorem dX25_oneStep_72 : decode cX25_oneStep 72 = .ok (.getfield 47, 3) := dk_180 0 47 (dk_at dksX25_oneStep_3 0 rfl rfl)
theorem dX25_oneStep_75 : decode cX25_oneStep 75 = .ok (.iload_n 1, 1) := dk_27 (dk_at dksX25_oneStep_3 3 rfl rfl)
theorem dX25_oneStep_76 : decode cX25_oneStep 76 = .ok (.iaload, 1) := dk_46 (dk_at dksX25_oneStep_3 4 rfl rfl)
theorem dX25_oneStep_77 : decode cX25_oneStep 77 = .ok (.sipush 200, 3) := dk_17 0 200 (dk_at dksX25_oneStep_3 5 rfl rfl)
theorem dX25_oneStep_80 : decode cX25_oneStep 80 = .ok (.if_icmp .le 11, 3) := dk_164 0 11 (dk_at dksX25_oneStep_3 8 rfl rfl)
theorem dX25_oneStep_83 : decode cX25_oneStep 83 = .ok (.aload_n 0, 1) := dk_42 (dk_at dksX25_oneStep_3 11 rfl rfl)
theorem dX25_oneStep_84 : decode cX25_oneStep 84 = .ok (.iload_n 1, 1) := dk_27 (dk_at dksX25_oneStep_3 12 rfl rfl)
theorem dX25_oneStep_85 : decode cX25_oneStep 85 = .ok (.bipush 6, 2) := dk_16 6 (dk_at dksX25_oneStep_3 13 rfl rfl)
theorem dX25_oneStep_87 : decode cX25_oneStep 87 = .ok (.invokevirtual 192, 3) := dk_182 0 192 (dk_at dksX25_oneStep_3 15 rfl rfl)
theorem dX25_oneStep_90 : decode cX25_oneStep 90 = .ok (.return_, 1) := dk_177 (dk_at dksX25_oneStep_3 18 rfl rfl)
theorem dX25_oneStep_91 : decode cX25_oneStep 91 = .ok (.iload_n 3, 1) := dk_29 (dk_at dksX25_oneStep_3 19 rfl rfl)
theorem dX25_oneStep_92 : decode cX25_oneStep 92 = .ok (.invokestatic 196, 3) := dk_184 0 196 (dk_at dksX25_oneStep_3 20 rfl rfl)
theorem dX25_oneStep_95 : decode cX25_oneStep 95 = .ok (.istore 5, 2) := dk_54 5 (dk_at dksX25_oneStep_4 0 rfl rfl)
theorem dX25_oneStep_97 : decode cX25_oneStep 97 = .ok (.aload_n 0, 1) := dk_42 (dk_at dksX25_oneStep_4 2 rfl rfl)
theorem dX25_oneStep_98 : decode cX25_oneStep 98 = .ok (.getfield 93, 3) := dk_180 0 93 (dk_at dksX25_oneStep_4 3 rfl rfl)
theorem dX25_oneStep_101 : decode cX25_oneStep 101 = .ok (.iload_n 1, 1) := dk_27 (dk_at dksX25_oneStep_4 6 rfl rfl)
theorem dX25_oneStep_102 : decode cX25_oneStep 102 = .ok (.iaload, 1) := dk_46 (dk_at dksX25_oneStep_4 7 rfl rfl)
theorem dX25_oneStep_103 : decode cX25_oneStep 103 = .ok (.iload 5, 2) := dk_21 5 (dk_at dksX25_oneStep_4 8 rfl rfl)
theorem dX25_oneStep_105 : decode cX25_oneStep 105 = .ok (.if_icmp .ge 11, 3) := dk_162 0 11 (dk_at dksX25_oneStep_4 10 rfl rfl)
theorem dX25_oneStep_108 : decode cX25_oneStep 108 = .ok (.aload_n 0, 1) := dk_42 (dk_at dksX25_oneStep_4 13 rfl rfl)
theorem dX25_oneStep_109 : decode cX25_oneStep 109 = .ok (.iload_n 1, 1) := dk_27 (dk_at dksX25_oneStep_4 14 rfl rfl)
theorem dX25_oneStep_110 : decode cX25_oneStep 110 = .ok (.bipush 8, 2) := dk_16 8 (dk_at dksX25_oneStep_4 15 rfl rfl)
theorem dX25_oneStep_112 : decode cX25_oneStep 112 = .ok (.invokevirtual 192, 3) := dk_182 0 192 (dk_at dksX25_oneStep_4 17 rfl rfl)
theorem dX25_oneStep_115 : decode cX25_oneStep 115 = .ok (.return_, 1) := dk_177 (dk_at dksX25_oneStep_4 20 rfl rfl)
theorem dX25_oneStep_116 : decode cX25_oneStep 116 = .ok (.bipush 12, 2) := dk_16 12 (dk_at dksX25_oneStep_4 21 rfl rfl)
theorem dX25_oneStep_118 : decode cX25_oneStep 118 = .ok (.iload_n 1, 1) := dk_27 (dk_at dksX25_oneStep_4 23 rfl rfl)
theorem dX25_oneStep_119 : decode cX25_oneStep 119 = .ok (.imul, 1) := dk_104 (dk_at dksX25_oneStep_5 0 rfl rfl)
theorem dX25_oneStep_120 : decode cX25_oneStep 120 = .ok (.aload_n 0, 1) := dk_42 (dk_at dksX25_oneStep_5 1 rfl rfl)
theorem dX25_oneStep_121 : decode cX25_oneStep 121 = .ok (.getfield 93, 3) := dk_180 0 93 (dk_at dksX25_oneStep_5 2 rfl rfl)
theorem dX25_oneStep_124 : decode cX25_oneStep 124 = .ok (.iload_n 1, 1) := dk_27 (dk_at dksX25_oneStep_5 5 rfl rfl)
theorem dX25_oneStep_125 : decode cX25_oneStep 125 = .ok (.iaload, 1) := dk_46 (dk_at dksX25_oneStep_5 6 rfl rfl)
theorem dX25_oneStep_126 : decode cX25_oneStep 126 = .ok (.iadd, 1) := dk_96 (dk_at dksX25_oneStep_5 7 rfl rfl)
theorem dX25_oneStep_127 : decode cX25_oneStep 127 = .ok (.iload 5, 2) := dk_21 5 (dk_at dksX25_oneStep_5 8 rfl rfl)
theorem dX25_oneStep_129 : decode cX25_oneStep 129 = .ok (.isub, 1) := dk_100 (dk_at dksX25_oneStep_5 10 rfl rfl)
theorem dX25_oneStep_130 : decode cX25_oneStep 130 = .ok (.istore 6, 2) := dk_54 6 (dk_at dksX25_oneStep_5 11 rfl rfl)
theorem dX25_oneStep_132 : decode cX25_oneStep 132 = .ok (.iload 5, 2) := dk_21 5 (dk_at dksX25_oneStep_5 13 rfl rfl)
theorem dX25_oneStep_134 : decode cX25_oneStep 134 = .ok (.ifCond .le 13, 3) := dk_158 0 13 (dk_at dksX25_oneStep_5 15 rfl rfl)
theorem dX25_oneStep_137 : decode cX25_oneStep 137 = .ok (.aload_n 0, 1) := dk_42 (dk_at dksX25_oneStep_5 18 rfl rfl)
theorem dX25_oneStep_138 : decode cX25_oneStep 138 = .ok (.getfield 87, 3) := dk_180 0 87 (dk_at dksX25_oneStep_5 19 rfl rfl)
theorem dX25_oneStep_141 : decode cX25_oneStep 141 = .ok (.iload 6, 2) := dk_21 6 (dk_at dksX25_oneStep_5 22 rfl rfl)
theorem dX25_oneStep_143 : decode cX25_oneStep 143 = .ok (.laload, 1) := dk_47 (dk_at dksX25_oneStep_6 0 rfl rfl)
theorem dX25_oneStep_144 : decode cX25_oneStep 144 = .ok (.goto 4, 3) := dk_167 0 4 (dk_at dksX25_oneStep_6 1 rfl rfl)
theorem dX25_oneStep_147 : decode cX25_oneStep 147 = .ok (.lconst 0, 1) := dk_9 (dk_at dksX25_oneStep_6 4 rfl rfl)
theorem dX25_oneStep_148 : decode cX25_oneStep 148 = .ok (.lstore 7, 2) := dk_55 7 (dk_at dksX25_oneStep_6 5 rfl rfl)
theorem dX25_oneStep_150 : decode cX25_oneStep 150 = .ok (.iload 5, 2) := dk_21 5 (dk_at dksX25_oneStep_6 7 rfl rfl)
theorem dX25_oneStep_152 : decode cX25_oneStep 152 = .ok (.ifCond .le 17, 3) := dk_158 0 17 (dk_at dksX25_oneStep_6 9 rfl rfl)
theorem dX25_oneStep_155 : decode cX25_oneStep 155 = .ok (.aload_n 0, 1) := dk_42 (dk_at dksX25_oneStep_6 12 rfl rfl)
theorem dX25_oneStep_156 : decode cX25_oneStep 156 = .ok (.getfield 90, 3) := dk_180 0 90 (dk_at dksX25_oneStep_6 13 rfl rfl)
theorem dX25_oneStep_159 : decode cX25_oneStep 159 = .ok (.iload 6, 2) := dk_21 6 (dk_at dksX25_oneStep_6 16 rfl rfl)
theorem dX25_oneStep_161 : decode cX25_oneStep 161 = .ok (.baload, 1) := dk_51 (dk_at dksX25_oneStep_6 18 rfl rfl)
theorem dX25_oneStep_162 : decode cX25_oneStep 162 = .ok (.ifCond .eq 7, 3) := dk_153 0 7 (dk_at dksX25_oneStep_6 19 rfl rfl)
theorem dX25_oneStep_165 : decode cX25_oneStep 165 = .ok (.iconst 1, 1) := dk_4 (dk_at dksX25_oneStep_6 22 rfl rfl)
theorem dX25_oneStep_166 : decode cX25_oneStep 166 = .ok (.goto 4, 3) := dk_167 0 4 (dk_at dksX25_oneStep_7 0 rfl rfl)
theorem dX25_oneStep_169 : decode cX25_oneStep 169 = .ok (.iconst 0, 1) := dk_3 (dk_at dksX25_oneStep_7 3 rfl rfl)
theorem dX25_oneStep_170 : decode cX25_oneStep 170 = .ok (.istore 9, 2) := dk_54 9 (dk_at dksX25_oneStep_7 4 rfl rfl)
theorem dX25_oneStep_172 : decode cX25_oneStep 172 = .ok (.iload 5, 2) := dk_21 5 (dk_at dksX25_oneStep_7 6 rfl rfl)
theorem dX25_oneStep_174 : decode cX25_oneStep 174 = .ok (.iconst 1, 1) := dk_4 (dk_at dksX25_oneStep_7 8 rfl rfl)
theorem dX25_oneStep_175 : decode cX25_oneStep 175 = .ok (.if_icmp .le 15, 3) := dk_164 0 15 (dk_at dksX25_oneStep_7 9 rfl rfl)
theorem dX25_oneStep_178 : decode cX25_oneStep 178 = .ok (.aload_n 0, 1) := dk_42 (dk_at dksX25_oneStep_7 12 rfl rfl)
theorem dX25_oneStep_179 : decode cX25_oneStep 179 = .ok (.getfield 87, 3) := dk_180 0 87 (dk_at dksX25_oneStep_7 13 rfl rfl)
theorem dX25_oneStep_182 : decode cX25_oneStep 182 = .ok (.iload 6, 2) := dk_21 6 (dk_at dksX25_oneStep_7 16 rfl rfl)
theorem dX25_oneStep_184 : decode cX25_oneStep 184 = .ok (.iconst 1, 1) := dk_4 (dk_at dksX25_oneStep_7 18 rfl rfl)
theorem dX25_oneStep_185 : decode cX25_oneStep 185 = .ok (.iadd, 1) := dk_96 (dk_at dksX25_oneStep_7 19 rfl rfl)
theorem dX25_oneStep_186 : decode cX25_oneStep 186 = .ok (.laload, 1) := dk_47 (dk_at dksX25_oneStep_7 20 rfl rfl)
theorem dX25_oneStep_187 : decode cX25_oneStep 187 = .ok (.goto 4, 3) := dk_167 0 4 (dk_at dksX25_oneStep_7 21 rfl rfl)
theorem dX25_oneStep_190 : decode cX25_oneStep 190 = .ok (.lconst 0, 1) := dk_9 (dk_at dksX25_oneStep_8 0 rfl rfl)
theorem dX25_oneStep_191 : decode cX25_oneStep 191 = .ok (.lstore 10, 2) := dk_55 10 (dk_at dksX25_oneStep_8 1 rfl rfl)
theorem dX25_oneStep_193 : decode cX25_oneStep 193 = .ok (.iload 5, 2) := dk_21 5 (dk_at dksX25_oneStep_8 3 rfl rfl)
theorem dX25_oneStep_195 : decode cX25_oneStep 195 = .ok (.iconst 1, 1) := dk_4 (dk_at dksX25_oneStep_8 5 rfl rfl)
theorem dX25_oneStep_196 : decode cX25_oneStep 196 = .ok (.if_icmp .le 19, 3) := dk_164 0 19 (dk_at dksX25_oneStep_8 6 rfl rfl)
theorem dX25_oneStep_199 : decode cX25_oneStep 199 = .ok (.aload_n 0, 1) := dk_42 (dk_at dksX25_oneStep_8 9 rfl rfl)
theorem dX25_oneStep_200 : decode cX25_oneStep 200 = .ok (.getfield 90, 3) := dk_180 0 90 (dk_at dksX25_oneStep_8 10 rfl rfl)
theorem dX25_oneStep_203 : decode cX25_oneStep 203 = .ok (.iload 6, 2) := dk_21 6 (dk_at dksX25_oneStep_8 13 rfl rfl)
theorem dX25_oneStep_205 : decode cX25_oneStep 205 = .ok (.iconst 1, 1) := dk_4 (dk_at dksX25_oneStep_8 15 rfl rfl)
theorem dX25_oneStep_206 : decode cX25_oneStep 206 = .ok (.iadd, 1) := dk_96 (dk_at dksX25_oneStep_8 16 rfl rfl)
theorem dX25_oneStep_207 : decode cX25_oneStep 207 = .ok (.baload, 1) := dk_51 (dk_at dksX25_oneStep_8 17 rfl rfl)
theorem dX25_oneStep_208 : decode cX25_oneStep 208 = .ok (.ifCond .eq 7, 3) := dk_153 0 7 (dk_at dksX25_oneStep_8 18 rfl rfl)
theorem dX25_oneStep_211 : decode cX25_oneStep 211 = .ok (.iconst 1, 1) := dk_4 (dk_at dksX25_oneStep_8 21 rfl rfl)
theorem dX25_oneStep_212 : decode cX25_oneStep 212 = .ok (.goto 4, 3) := dk_167 0 4 (dk_at dksX25_oneStep_9 0 rfl rfl)
theorem dX25_oneStep_215 : decode cX25_oneStep 215 = .ok (.iconst 0, 1) := dk_3 (dk_at dksX25_oneStep_9 3 rfl rfl)
theorem dX25_oneStep_216 : decode cX25_oneStep 216 = .ok (.istore 12, 2) := dk_54 12 (dk_at dksX25_oneStep_9 4 rfl rfl)
theorem dX25_oneStep_218 : decode cX25_oneStep 218 = .ok (.aload_n 0, 1) := dk_42 (dk_at dksX25_oneStep_9 6 rfl rfl)
theorem dX25_oneStep_219 : decode cX25_oneStep 219 = .ok (.getfield 93, 3) := dk_180 0 93 (dk_at dksX25_oneStep_9 7 rfl rfl)
theorem dX25_oneStep_222 : decode cX25_oneStep 222 = .ok (.iload_n 1, 1) := dk_27 (dk_at dksX25_oneStep_9 10 rfl rfl)
theorem dX25_oneStep_223 : decode cX25_oneStep 223 = .ok (.dup2, 1) := dk_92 (dk_at dksX25_oneStep_9 11 rfl rfl)
theorem dX25_oneStep_224 : decode cX25_oneStep 224 = .ok (.iaload, 1) := dk_46 (dk_at dksX25_oneStep_9 12 rfl rfl)
theorem dX25_oneStep_225 : decode cX25_oneStep 225 = .ok (.iload 5, 2) := dk_21 5 (dk_at dksX25_oneStep_9 13 rfl rfl)
theorem dX25_oneStep_227 : decode cX25_oneStep 227 = .ok (.isub, 1) := dk_100 (dk_at dksX25_oneStep_9 15 rfl rfl)
theorem dX25_oneStep_228 : decode cX25_oneStep 228 = .ok (.iastore, 1) := dk_79 (dk_at dksX25_oneStep_9 16 rfl rfl)
theorem dX25_oneStep_229 : decode cX25_oneStep 229 = .ok (.iload_n 3, 1) := dk_29 (dk_at dksX25_oneStep_9 17 rfl rfl)
theorem dX25_oneStep_230 : decode cX25_oneStep 230 = .ok (.bipush 15, 2) := dk_16 15 (dk_at dksX25_oneStep_9 18 rfl rfl)
theorem dX25_oneStep_232 : decode cX25_oneStep 232 = .ok (.if_icmp .eq 21, 3) := dk_159 0 21 (dk_at dksX25_oneStep_9 20 rfl rfl)
theorem dX25_oneStep_235 : decode cX25_oneStep 235 = .ok (.iload_n 3, 1) := dk_29 (dk_at dksX25_oneStep_9 23 rfl rfl)
theorem dX25_oneStep_236 : decode cX25_oneStep 236 = .ok (.bipush 16, 2) := dk_16 16 (dk_at dksX25_oneStep_10 0 rfl rfl)
theorem dX25_oneStep_238 : decode cX25_oneStep 238 = .ok (.if_icmp .eq 15, 3) := dk_159 0 15 (dk_at dksX25_oneStep_10 2 rfl rfl)
theorem dX25_oneStep_241 : decode cX25_oneStep 241 = .ok (.iload_n 3, 1) := dk_29 (dk_at dksX25_oneStep_10 5 rfl rfl)
theorem dX25_oneStep_242 : decode cX25_oneStep 242 = .ok (.bipush 17, 2) := dk_16 17 (dk_at dksX25_oneStep_10 6 rfl rfl)
theorem dX25_oneStep_244 : decode cX25_oneStep 244 = .ok (.if_icmp .eq 9, 3) := dk_159 0 9 (dk_at dksX25_oneStep_10 8 rfl rfl)
theorem dX25_oneStep_247 : decode cX25_oneStep 247 = .ok (.iload_n 3, 1) := dk_29 (dk_at dksX25_oneStep_10 11 rfl rfl)
theorem dX25_oneStep_248 : decode cX25_oneStep 248 = .ok (.bipush 20, 2) := dk_16 20 (dk_at dksX25_oneStep_10 12 rfl rfl)
theorem dX25_oneStep_250 : decode cX25_oneStep 250 = .ok (.if_icmp .ne 7, 3) := dk_160 0 7 (dk_at dksX25_oneStep_10 14 rfl rfl)
theorem dX25_oneStep_253 : decode cX25_oneStep 253 = .ok (.iconst 1, 1) := dk_4 (dk_at dksX25_oneStep_10 17 rfl rfl)
theorem dX25_oneStep_254 : decode cX25_oneStep 254 = .ok (.goto 4, 3) := dk_167 0 4 (dk_at dksX25_oneStep_10 18 rfl rfl)
theorem dX25_oneStep_257 : decode cX25_oneStep 257 = .ok (.iconst 0, 1) := dk_3 (dk_at dksX25_oneStep_10 21 rfl rfl)
theorem dX25_oneStep_258 : decode cX25_oneStep 258 = .ok (.istore 13, 2) := dk_54 13 (dk_at dksX25_oneStep_10 22 rfl rfl)
theorem dX25_oneStep_260 : decode cX25_oneStep 260 = .ok (.iload 5, 2) := dk_21 5 (dk_at dksX25_oneStep_11 0 rfl rfl)
theorem dX25_oneStep_262 : decode cX25_oneStep 262 = .ok (.iconst 1, 1) := dk_4 (dk_at dksX25_oneStep_11 2 rfl rfl)
theorem dX25_oneStep_263 : decode cX25_oneStep 263 = .ok (.if_icmp .le 8, 3) := dk_164 0 8 (dk_at dksX25_oneStep_11 3 rfl rfl)
theorem dX25_oneStep_266 : decode cX25_oneStep 266 = .ok (.iload 12, 2) := dk_21 12 (dk_at dksX25_oneStep_11 6 rfl rfl)
theorem dX25_oneStep_268 : decode cX25_oneStep 268 = .ok (.ifCond .ne 29, 3) := dk_154 0 29 (dk_at dksX25_oneStep_11 8 rfl rfl)
theorem dX25_oneStep_271 : decode cX25_oneStep 271 = .ok (.iload 5, 2) := dk_21 5 (dk_at dksX25_oneStep_11 11 rfl rfl)
theorem dX25_oneStep_273 : decode cX25_oneStep 273 = .ok (.ifCond .le 31, 3) := dk_158 0 31 (dk_at dksX25_oneStep_11 13 rfl rfl)
theorem dX25_oneStep_276 : decode cX25_oneStep 276 = .ok (.iload 13, 2) := dk_21 13 (dk_at dksX25_oneStep_11 16 rfl rfl)
theorem dX25_oneStep_278 : decode cX25_oneStep 278 = .ok (.ifCond .ne 26, 3) := dk_154 0 26 (dk_at dksX25_oneStep_11 18 rfl rfl)
theorem dX25_oneStep_281 : decode cX25_oneStep 281 = .ok (.iload 9, 2) := dk_21 9 (dk_at dksX25_oneStep_11 21 rfl rfl)
theorem dX25_oneStep_283 : decode cX25_oneStep 283 = .ok (.iload_n 3, 1) := dk_29 (dk_at dksX25_oneStep_11 23 rfl rfl)
theorem dX25_oneStep_284 : decode cX25_oneStep 284 = .ok (.bipush 18, 2) := dk_16 18 (dk_at dksX25_oneStep_12 0 rfl rfl)
theorem dX25_oneStep_286 : decode cX25_oneStep 286 = .ok (.if_icmp .ne 7, 3) := dk_160 0 7 (dk_at dksX25_oneStep_12 2 rfl rfl)
theorem dX25_oneStep_289 : decode cX25_oneStep 289 = .ok (.iconst 1, 1) := dk_4 (dk_at dksX25_oneStep_12 5 rfl rfl)
theorem dX25_oneStep_290 : decode cX25_oneStep 290 = .ok (.goto 4, 3) := dk_167 0 4 (dk_at dksX25_oneStep_12 6 rfl rfl)
theorem dX25_oneStep_293 : decode cX25_oneStep 293 = .ok (.iconst 0, 1) := dk_3 (dk_at dksX25_oneStep_12 9 rfl rfl)
theorem dX25_oneStep_294 : decode cX25_oneStep 294 = .ok (.if_icmp .eq 10, 3) := dk_159 0 10 (dk_at dksX25_oneStep_12 10 rfl rfl)
theorem dX25_oneStep_297 : decode cX25_oneStep 297 = .ok (.aload_n 0, 1) := dk_42 (dk_at dksX25_oneStep_12 13 rfl rfl)
theorem dX25_oneStep_298 : decode cX25_oneStep 298 = .ok (.iload_n 1, 1) := dk_27 (dk_at dksX25_oneStep_12 14 rfl rfl)
theorem dX25_oneStep_299 : decode cX25_oneStep 299 = .ok (.iconst 2, 1) := dk_5 (dk_at dksX25_oneStep_12 15 rfl rfl)
theorem dX25_oneStep_300 : decode cX25_oneStep 300 = .ok (.invokevirtual 192, 3) := dk_182 0 192 (dk_at dksX25_oneStep_12 16 rfl rfl)
theorem dX25_oneStep_303 : decode cX25_oneStep 303 = .ok (.return_, 1) := dk_177 (dk_at dksX25_oneStep_12 19 rfl rfl)
theorem dX25_oneStep_304 : decode cX25_oneStep 304 = .ok (.aload_n 0, 1) := dk_42 (dk_at dksX25_oneStep_12 20 rfl rfl)
theorem dX25_oneStep_305 : decode cX25_oneStep 305 = .ok (.iload_n 1, 1) := dk_27 (dk_at dksX25_oneStep_12 21 rfl rfl)
theorem dX25_oneStep_306 : decode cX25_oneStep 306 = .ok (.iload_n 3, 1) := dk_29 (dk_at dksX25_oneStep_12 22 rfl rfl)
theorem dX25_oneStep_307 : decode cX25_oneStep 307 = .ok (.iload 4, 2) := dk_21 4 (dk_at dksX25_oneStep_13 0 rfl rfl)
theorem dX25_oneStep_309 : decode cX25_oneStep 309 = .ok (.lload 7, 2) := dk_22 7 (dk_at dksX25_oneStep_13 2 rfl rfl)
theorem dX25_oneStep_311 : decode cX25_oneStep 311 = .ok (.lload 10, 2) := dk_22 10 (dk_at dksX25_oneStep_13 4 rfl rfl)
theorem dX25_oneStep_313 : decode cX25_oneStep 313 = .ok (.invokevirtual 199, 3) := dk_182 0 199 (dk_at dksX25_oneStep_13 6 rfl rfl)
theorem dX25_oneStep_316 : decode cX25_oneStep 316 = .ok (.istore 14, 2) := dk_54 14 (dk_at dksX25_oneStep_13 9 rfl rfl)
theorem dX25_oneStep_318 : decode cX25_oneStep 318 = .ok (.iload 14, 2) := dk_21 14 (dk_at dksX25_oneStep_13 11 rfl rfl)
theorem dX25_oneStep_320 : decode cX25_oneStep 320 = .ok (.ifCond .le 11, 3) := dk_158 0 11 (dk_at dksX25_oneStep_13 13 rfl rfl)
theorem dX25_oneStep_323 : decode cX25_oneStep 323 = .ok (.aload_n 0, 1) := dk_42 (dk_at dksX25_oneStep_13 16 rfl rfl)
theorem dX25_oneStep_324 : decode cX25_oneStep 324 = .ok (.iload_n 1, 1) := dk_27 (dk_at dksX25_oneStep_13 17 rfl rfl)
theorem dX25_oneStep_325 : decode cX25_oneStep 325 = .ok (.iload 14, 2) := dk_21 14 (dk_at dksX25_oneStep_13 18 rfl rfl)
theorem dX25_oneStep_327 : decode cX25_oneStep 327 = .ok (.invokevirtual 192, 3) := dk_182 0 192 (dk_at dksX25_oneStep_13 20 rfl rfl)
theorem dX25_oneStep_330 : decode cX25_oneStep 330 = .ok (.return_, 1) := dk_177 (dk_at dksX25_oneStep_13 23 rfl rfl)
theorem dX25_oneStep_331 : decode cX25_oneStep 331 = .ok (.aload_n 0, 1) := dk_42 (dk_at dksX25_oneStep_14 0 rfl rfl)
theorem dX25_oneStep_332 : decode cX25_oneStep 332 = .ok (.iload_n 1, 1) := dk_27 (dk_at dksX25_oneStep_14 1 rfl rfl)
theorem dX25_oneStep_333 : decode cX25_oneStep 333 = .ok (.iload_n 3, 1) := dk_29 (dk_at dksX25_oneStep_14 2 rfl rfl)
theorem dX25_oneStep_334 : decode cX25_oneStep 334 = .ok (.iload 4, 2) := dk_21 4 (dk_at dksX25_oneStep_14 3 rfl rfl)
theorem dX25_oneStep_336 : decode cX25_oneStep 336 = .ok (.lload 7, 2) := dk_22 7 (dk_at dksX25_oneStep_14 5 rfl rfl)
theorem dX25_oneStep_338 : decode cX25_oneStep 338 = .ok (.iload 9, 2) := dk_21 9 (dk_at dksX25_oneStep_14 7 rfl rfl)
theorem dX25_oneStep_340 : decode cX25_oneStep 340 = .ok (.lload 10, 2) := dk_22 10 (dk_at dksX25_oneStep_14 9 rfl rfl)
theorem dX25_oneStep_342 : decode cX25_oneStep 342 = .ok (.invokevirtual 203, 3) := dk_182 0 203 (dk_at dksX25_oneStep_14 11 rfl rfl)
theorem dX25_oneStep_345 : decode cX25_oneStep 345 = .ok (.return_, 1) := dk_177 (dk_at dksX25_oneStep_14 14 rfl rfl)
def dkwX25_fails_0 : List UInt8 := [42, 180, 0, 41, 27, 6, 79, 42, 180, 0, 44, 27, 28, 79, 177]
abbrev dktX25_fails_0 : List UInt8 := dkwX25_fails_0 ++ []
theorem dksX25_fails_0 : cX25_fails.data.toList.drop 0 = dktX25_fails_0 := by decide +kernel
theorem dX25_fails_0 : decode cX25_fails 0 = .ok (.aload_n 0, 1) := dk_42 (dk_at dksX25_fails_0 0 rfl rfl)
theorem dX25_fails_1 : decode cX25_fails 1 = .ok (.getfield 41, 3) := dk_180 0 41 (dk_at dksX25_fails_0 1 rfl rfl)
theorem dX25_fails_4 : decode cX25_fails 4 = .ok (.iload_n 1, 1) := dk_27 (dk_at dksX25_fails_0 4 rfl rfl)
theorem dX25_fails_5 : decode cX25_fails 5 = .ok (.iconst 3, 1) := dk_6 (dk_at dksX25_fails_0 5 rfl rfl)
theorem dX25_fails_6 : decode cX25_fails 6 = .ok (.iastore, 1) := dk_79 (dk_at dksX25_fails_0 6 rfl rfl)
theorem dX25_fails_7 : decode cX25_fails 7 = .ok (.aload_n 0, 1) := dk_42 (dk_at dksX25_fails_0 7 rfl rfl)
theorem dX25_fails_8 : decode cX25_fails 8 = .ok (.getfield 44, 3) := dk_180 0 44 (dk_at dksX25_fails_0 8 rfl rfl)
theorem dX25_fails_11 : decode cX25_fails 11 = .ok (.iload_n 1, 1) := dk_27 (dk_at dksX25_fails_0 11 rfl rfl)
theorem dX25_fails_12 : decode cX25_fails 12 = .ok (.iload_n 2, 1) := dk_28 (dk_at dksX25_fails_0 12 rfl rfl)
theorem dX25_fails_13 : decode cX25_fails 13 = .ok (.iastore, 1) := dk_79 (dk_at dksX25_fails_0 13 rfl rfl)
theorem dX25_fails_14 : decode cX25_fails 14 = .ok (.return_, 1) := dk_177 (dk_at dksX25_fails_0 14 rfl rfl)
def dkwX25_taken_1 : List UInt8 := [159, 0, 15, 26, 16, 13, 159, 0, 9, 26, 16, 15, 161, 0, 7, 4, 167, 0, 4, 3, 172]
abbrev dktX25_taken_1 : List UInt8 := dkwX25_taken_1 ++ []
def dkwX25_taken_0 : List UInt8 := [26, 7, 161, 0, 13, 26, 16, 11, 163, 0, 7, 5, 167, 0, 30, 26, 5, 159, 0, 20, 26, 6]
abbrev dktX25_taken_0 : List UInt8 := dkwX25_taken_0 ++ dktX25_taken_1
theorem dksX25_taken_0 : cX25_taken.data.toList.drop 0 = dktX25_taken_0 := by decide +kernel
theorem dksX25_taken_1 : cX25_taken.data.toList.drop 22 = dktX25_taken_1 := dk_seg dksX25_taken_0 22 rfl rfl
theorem dX25_taken_0 : decode cX25_taken 0 = .ok (.iload_n 0, 1) := dk_26 (dk_at dksX25_taken_0 0 rfl rfl)
theorem dX25_taken_1 : decode cX25_taken 1 = .ok (.iconst 4, 1) := dk_7 (dk_at dksX25_taken_0 1 rfl rfl)
theorem dX25_taken_2 : decode cX25_taken 2 = .ok (.if_icmp .lt 13, 3) := dk_161 0 13 (dk_at dksX25_taken_0 2 rfl rfl)
theorem dX25_taken_5 : decode cX25_taken 5 = .ok (.iload_n 0, 1) := dk_26 (dk_at dksX25_taken_0 5 rfl rfl)
theorem dX25_taken_6 : decode cX25_taken 6 = .ok (.bipush 11, 2) := dk_16 11 (dk_at dksX25_taken_0 6 rfl rfl)
theorem dX25_taken_8 : decode cX25_taken 8 = .ok (.if_icmp .gt 7, 3) := dk_163 0 7 (dk_at dksX25_taken_0 8 rfl rfl)
theorem dX25_taken_11 : decode cX25_taken 11 = .ok (.iconst 2, 1) := dk_5 (dk_at dksX25_taken_0 11 rfl rfl)
theorem dX25_taken_12 : decode cX25_taken 12 = .ok (.goto 30, 3) := dk_167 0 30 (dk_at dksX25_taken_0 12 rfl rfl)
theorem dX25_taken_15 : decode cX25_taken 15 = .ok (.iload_n 0, 1) := dk_26 (dk_at dksX25_taken_0 15 rfl rfl)
theorem dX25_taken_16 : decode cX25_taken 16 = .ok (.iconst 2, 1) := dk_5 (dk_at dksX25_taken_0 16 rfl rfl)
theorem dX25_taken_17 : decode cX25_taken 17 = .ok (.if_icmp .eq 20, 3) := dk_159 0 20 (dk_at dksX25_taken_0 17 rfl rfl)
theorem dX25_taken_20 : decode cX25_taken 20 = .ok (.iload_n 0, 1) := dk_26 (dk_at dksX25_taken_0 20 rfl rfl)
theorem dX25_taken_21 : decode cX25_taken 21 = .ok (.iconst 3, 1) := dk_6 (dk_at dksX25_taken_0 21 rfl rfl)
theorem dX25_taken_22 : decode cX25_taken 22 = .ok (.if_icmp .eq 15, 3) := dk_159 0 15 (dk_at dksX25_taken_1 0 rfl rfl)
theorem dX25_taken_25 : decode cX25_taken 25 = .ok (.iload_n 0, 1) := dk_26 (dk_at dksX25_taken_1 3 rfl rfl)
theorem dX25_taken_26 : decode cX25_taken 26 = .ok (.bipush 13, 2) := dk_16 13 (dk_at dksX25_taken_1 4 rfl rfl)
theorem dX25_taken_28 : decode cX25_taken 28 = .ok (.if_icmp .eq 9, 3) := dk_159 0 9 (dk_at dksX25_taken_1 6 rfl rfl)
theorem dX25_taken_31 : decode cX25_taken 31 = .ok (.iload_n 0, 1) := dk_26 (dk_at dksX25_taken_1 9 rfl rfl)
theorem dX25_taken_32 : decode cX25_taken 32 = .ok (.bipush 15, 2) := dk_16 15 (dk_at dksX25_taken_1 10 rfl rfl)
theorem dX25_taken_34 : decode cX25_taken 34 = .ok (.if_icmp .lt 7, 3) := dk_161 0 7 (dk_at dksX25_taken_1 12 rfl rfl)
theorem dX25_taken_37 : decode cX25_taken 37 = .ok (.iconst 1, 1) := dk_4 (dk_at dksX25_taken_1 15 rfl rfl)
theorem dX25_taken_38 : decode cX25_taken 38 = .ok (.goto 4, 3) := dk_167 0 4 (dk_at dksX25_taken_1 16 rfl rfl)
theorem dX25_taken_41 : decode cX25_taken 41 = .ok (.iconst 0, 1) := dk_3 (dk_at dksX25_taken_1 19 rfl rfl)
theorem dX25_taken_42 : decode cX25_taken 42 = .ok (.ireturn, 1) := dk_172 (dk_at dksX25_taken_1 20 rfl rfl)
def dkwX25_faultOf_6 : List UInt8 := [20, 0, 207, 127, 136, 96, 167, 0, 4, 3, 172]
abbrev dktX25_faultOf_6 : List UInt8 := dkwX25_faultOf_6 ++ []
def dkwX25_faultOf_5 : List UInt8 := [180, 0, 93, 27, 46, 16, 12, 160, 0, 6, 16, 7, 172, 28, 16, 21, 160, 0, 16, 16, 100, 22, 4]
abbrev dktX25_faultOf_5 : List UInt8 := dkwX25_faultOf_5 ++ dktX25_faultOf_6
def dkwX25_faultOf_4 : List UInt8 := [8, 167, 0, 4, 3, 172, 28, 153, 0, 14, 28, 4, 159, 0, 9, 28, 16, 14, 160, 0, 17, 42]
abbrev dktX25_faultOf_4 : List UInt8 := dkwX25_faultOf_4 ++ dktX25_faultOf_5
def dkwX25_faultOf_3 : List UInt8 := [42, 180, 0, 53, 27, 46, 6, 160, 0, 7, 7, 167, 0, 18, 42, 180, 0, 50, 27, 46, 6, 160, 0, 7]
abbrev dktX25_faultOf_3 : List UInt8 := dkwX25_faultOf_3 ++ dktX25_faultOf_4
def dkwX25_faultOf_2 : List UInt8 := [154, 0, 5, 4, 172, 28, 16, 17, 160, 0, 46, 29, 42, 180, 0, 114, 161, 0, 8, 16, 10, 167, 0, 32]
abbrev dktX25_faultOf_2 : List UInt8 := dkwX25_faultOf_2 ++ dktX25_faultOf_3
def dkwX25_faultOf_1 : List UInt8 := [9, 20, 0, 124, 184, 0, 118, 154, 0, 6, 16, 9, 172, 28, 16, 8, 160, 0, 12, 22, 6, 9, 148]
abbrev dktX25_faultOf_1 : List UInt8 := dkwX25_faultOf_1 ++ dktX25_faultOf_2
def dkwX25_faultOf_0 : List UInt8 := [28, 6, 160, 0, 15, 22, 4, 9, 20, 0, 124, 184, 0, 118, 153, 0, 20, 28, 7, 160, 0, 18, 22, 4]
abbrev dktX25_faultOf_0 : List UInt8 := dkwX25_faultOf_0 ++ dktX25_faultOf_1
theorem dksX25_faultOf_0 : cX25_faultOf.data.toList.drop 0 = dktX25_faultOf_0 := by decide +kernel
theorem dksX25_faultOf_1 : cX25_faultOf.data.toList.drop 24 = dktX25_faultOf_1 := dk_seg dksX25_faultOf_0 24 rfl rfl
theorem dksX25_faultOf_2 : cX25_faultOf.data.toList.drop 47 = dktX25_faultOf_2 := dk_seg dksX25_faultOf_1 23 rfl rfl
theorem dksX25_faultOf_3 : cX25_faultOf.data.toList.drop 71 = dktX25_faultOf_3 := dk_seg dksX25_faultOf_2 24 rfl rfl
theorem dksX25_faultOf_4 : cX25_faultOf.data.toList.drop 95 = dktX25_faultOf_4 := dk_seg dksX25_faultOf_3 24 rfl rfl
theorem dksX25_faultOf_5 : cX25_faultOf.data.toList.drop 117 = dktX25_faultOf_5 := dk_seg dksX25_faultOf_4 22 rfl rfl
theorem dksX25_faultOf_6 : cX25_faultOf.data.toList.drop 140 = dktX25_faultOf_6 := dk_seg dksX25_faultOf_5 23 rfl rfl
theorem dX25_faultOf_0 : decode cX25_faultOf 0 = .ok (.iload_n 2, 1) := dk_28 (dk_at dksX25_faultOf_0 0 rfl rfl)
theorem dX25_faultOf_1 : decode cX25_faultOf 1 = .ok (.iconst 3, 1) := dk_6 (dk_at dksX25_faultOf_0 1 rfl rfl)
theorem dX25_faultOf_2 : decode cX25_faultOf 2 = .ok (.if_icmp .ne 15, 3) := dk_160 0 15 (dk_at dksX25_faultOf_0 2 rfl rfl)
theorem dX25_faultOf_5 : decode cX25_faultOf 5 = .ok (.lload 4, 2) := dk_22 4 (dk_at dksX25_faultOf_0 5 rfl rfl)
theorem dX25_faultOf_7 : decode cX25_faultOf 7 = .ok (.lconst 0, 1) := dk_9 (dk_at dksX25_faultOf_0 7 rfl rfl)
theorem dX25_faultOf_8 : decode cX25_faultOf 8 = .ok (.ldc2_w 124, 3) := dk_20 0 124 (dk_at dksX25_faultOf_0 8 rfl rfl)
theorem dX25_faultOf_11 : decode cX25_faultOf 11 = .ok (.invokestatic 118, 3) := dk_184 0 118 (dk_at dksX25_faultOf_0 11 rfl rfl)
theorem dX25_faultOf_14 : decode cX25_faultOf 14 = .ok (.ifCond .eq 20, 3) := dk_153 0 20 (dk_at dksX25_faultOf_0 14 rfl rfl)
theorem dX25_faultOf_17 : decode cX25_faultOf 17 = .ok (.iload_n 2, 1) := dk_28 (dk_at dksX25_faultOf_0 17 rfl rfl)
theorem dX25_faultOf_18 : decode cX25_faultOf 18 = .ok (.iconst 4, 1) := dk_7 (dk_at dksX25_faultOf_0 18 rfl rfl)
theorem dX25_faultOf_19 : decode cX25_faultOf 19 = .ok (.if_icmp .ne 18, 3) := dk_160 0 18 (dk_at dksX25_faultOf_0 19 rfl rfl)
theorem dX25_faultOf_22 : decode cX25_faultOf 22 = .ok (.lload 4, 2) := dk_22 4 (dk_at dksX25_faultOf_0 22 rfl rfl)
theorem dX25_faultOf_24 : decode cX25_faultOf 24 = .ok (.lconst 0, 1) := dk_9 (dk_at dksX25_faultOf_1 0 rfl rfl)
theorem dX25_faultOf_25 : decode cX25_faultOf 25 = .ok (.ldc2_w 124, 3) := dk_20 0 124 (dk_at dksX25_faultOf_1 1 rfl rfl)
theorem dX25_faultOf_28 : decode cX25_faultOf 28 = .ok (.invokestatic 118, 3) := dk_184 0 118 (dk_at dksX25_faultOf_1 4 rfl rfl)
theorem dX25_faultOf_31 : decode cX25_faultOf 31 = .ok (.ifCond .ne 6, 3) := dk_154 0 6 (dk_at dksX25_faultOf_1 7 rfl rfl)
theorem dX25_faultOf_34 : decode cX25_faultOf 34 = .ok (.bipush 9, 2) := dk_16 9 (dk_at dksX25_faultOf_1 10 rfl rfl)
theorem dX25_faultOf_36 : decode cX25_faultOf 36 = .ok (.ireturn, 1) := dk_172 (dk_at dksX25_faultOf_1 12 rfl rfl)
theorem dX25_faultOf_37 : decode cX25_faultOf 37 = .ok (.iload_n 2, 1) := dk_28 (dk_at dksX25_faultOf_1 13 rfl rfl)
theorem dX25_faultOf_38 : decode cX25_faultOf 38 = .ok (.bipush 8, 2) := dk_16 8 (dk_at dksX25_faultOf_1 14 rfl rfl)
theorem dX25_faultOf_40 : decode cX25_faultOf 40 = .ok (.if_icmp .ne 12, 3) := dk_160 0 12 (dk_at dksX25_faultOf_1 16 rfl rfl)
theorem dX25_faultOf_43 : decode cX25_faultOf 43 = .ok (.lload 6, 2) := dk_22 6 (dk_at dksX25_faultOf_1 19 rfl rfl)
theorem dX25_faultOf_45 : decode cX25_faultOf 45 = .ok (.lconst 0, 1) := dk_9 (dk_at dksX25_faultOf_1 21 rfl rfl)
theorem dX25_faultOf_46 : decode cX25_faultOf 46 = .ok (.lcmp, 1) := dk_148 (dk_at dksX25_faultOf_1 22 rfl rfl)
theorem dX25_faultOf_47 : decode cX25_faultOf 47 = .ok (.ifCond .ne 5, 3) := dk_154 0 5 (dk_at dksX25_faultOf_2 0 rfl rfl)
theorem dX25_faultOf_50 : decode cX25_faultOf 50 = .ok (.iconst 1, 1) := dk_4 (dk_at dksX25_faultOf_2 3 rfl rfl)
theorem dX25_faultOf_51 : decode cX25_faultOf 51 = .ok (.ireturn, 1) := dk_172 (dk_at dksX25_faultOf_2 4 rfl rfl)
theorem dX25_faultOf_52 : decode cX25_faultOf 52 = .ok (.iload_n 2, 1) := dk_28 (dk_at dksX25_faultOf_2 5 rfl rfl)
theorem dX25_faultOf_53 : decode cX25_faultOf 53 = .ok (.bipush 17, 2) := dk_16 17 (dk_at dksX25_faultOf_2 6 rfl rfl)
theorem dX25_faultOf_55 : decode cX25_faultOf 55 = .ok (.if_icmp .ne 46, 3) := dk_160 0 46 (dk_at dksX25_faultOf_2 8 rfl rfl)
theorem dX25_faultOf_58 : decode cX25_faultOf 58 = .ok (.iload_n 3, 1) := dk_29 (dk_at dksX25_faultOf_2 11 rfl rfl)
theorem dX25_faultOf_59 : decode cX25_faultOf 59 = .ok (.aload_n 0, 1) := dk_42 (dk_at dksX25_faultOf_2 12 rfl rfl)
theorem dX25_faultOf_60 : decode cX25_faultOf 60 = .ok (.getfield 114, 3) := dk_180 0 114 (dk_at dksX25_faultOf_2 13 rfl rfl)
theorem dX25_faultOf_63 : decode cX25_faultOf 63 = .ok (.if_icmp .lt 8, 3) := dk_161 0 8 (dk_at dksX25_faultOf_2 16 rfl rfl)
theorem dX25_faultOf_66 : decode cX25_faultOf 66 = .ok (.bipush 10, 2) := dk_16 10 (dk_at dksX25_faultOf_2 19 rfl rfl)
theorem dX25_faultOf_68 : decode cX25_faultOf 68 = .ok (.goto 32, 3) := dk_167 0 32 (dk_at dksX25_faultOf_2 21 rfl rfl)
theorem dX25_faultOf_71 : decode cX25_faultOf 71 = .ok (.aload_n 0, 1) := dk_42 (dk_at dksX25_faultOf_3 0 rfl rfl)
theorem dX25_faultOf_72 : decode cX25_faultOf 72 = .ok (.getfield 53, 3) := dk_180 0 53 (dk_at dksX25_faultOf_3 1 rfl rfl)
theorem dX25_faultOf_75 : decode cX25_faultOf 75 = .ok (.iload_n 1, 1) := dk_27 (dk_at dksX25_faultOf_3 4 rfl rfl)
theorem dX25_faultOf_76 : decode cX25_faultOf 76 = .ok (.iaload, 1) := dk_46 (dk_at dksX25_faultOf_3 5 rfl rfl)
theorem dX25_faultOf_77 : decode cX25_faultOf 77 = .ok (.iconst 3, 1) := dk_6 (dk_at dksX25_faultOf_3 6 rfl rfl)
theorem dX25_faultOf_78 : decode cX25_faultOf 78 = .ok (.if_icmp .ne 7, 3) := dk_160 0 7 (dk_at dksX25_faultOf_3 7 rfl rfl)
theorem dX25_faultOf_81 : decode cX25_faultOf 81 = .ok (.iconst 4, 1) := dk_7 (dk_at dksX25_faultOf_3 10 rfl rfl)
theorem dX25_faultOf_82 : decode cX25_faultOf 82 = .ok (.goto 18, 3) := dk_167 0 18 (dk_at dksX25_faultOf_3 11 rfl rfl)
theorem dX25_faultOf_85 : decode cX25_faultOf 85 = .ok (.aload_n 0, 1) := dk_42 (dk_at dksX25_faultOf_3 14 rfl rfl)
theorem dX25_faultOf_86 : decode cX25_faultOf 86 = .ok (.getfield 50, 3) := dk_180 0 50 (dk_at dksX25_faultOf_3 15 rfl rfl)
theorem dX25_faultOf_89 : decode cX25_faultOf 89 = .ok (.iload_n 1, 1) := dk_27 (dk_at dksX25_faultOf_3 18 rfl rfl)
theorem dX25_faultOf_90 : decode cX25_faultOf 90 = .ok (.iaload, 1) := dk_46 (dk_at dksX25_faultOf_3 19 rfl rfl)
theorem dX25_faultOf_91 : decode cX25_faultOf 91 = .ok (.iconst 3, 1) := dk_6 (dk_at dksX25_faultOf_3 20 rfl rfl)
theorem dX25_faultOf_92 : decode cX25_faultOf 92 = .ok (.if_icmp .ne 7, 3) := dk_160 0 7 (dk_at dksX25_faultOf_3 21 rfl rfl)
theorem dX25_faultOf_95 : decode cX25_faultOf 95 = .ok (.iconst 5, 1) := dk_8 (dk_at dksX25_faultOf_4 0 rfl rfl)
theorem dX25_faultOf_96 : decode cX25_faultOf 96 = .ok (.goto 4, 3) := dk_167 0 4 (dk_at dksX25_faultOf_4 1 rfl rfl)
theorem dX25_faultOf_99 : decode cX25_faultOf 99 = .ok (.iconst 0, 1) := dk_3 (dk_at dksX25_faultOf_4 4 rfl rfl)
theorem dX25_faultOf_100 : decode cX25_faultOf 100 = .ok (.ireturn, 1) := dk_172 (dk_at dksX25_faultOf_4 5 rfl rfl)
theorem dX25_faultOf_101 : decode cX25_faultOf 101 = .ok (.iload_n 2, 1) := dk_28 (dk_at dksX25_faultOf_4 6 rfl rfl)
theorem dX25_faultOf_102 : decode cX25_faultOf 102 = .ok (.ifCond .eq 14, 3) := dk_153 0 14 (dk_at dksX25_faultOf_4 7 rfl rfl)
theorem dX25_faultOf_105 : decode cX25_faultOf 105 = .ok (.iload_n 2, 1) := dk_28 (dk_at dksX25_faultOf_4 10 rfl rfl)
theorem dX25_faultOf_106 : decode cX25_faultOf 106 = .ok (.iconst 1, 1) := dk_4 (dk_at dksX25_faultOf_4 11 rfl rfl)
theorem dX25_faultOf_107 : decode cX25_faultOf 107 = .ok (.if_icmp .eq 9, 3) := dk_159 0 9 (dk_at dksX25_faultOf_4 12 rfl rfl)
theorem dX25_faultOf_110 : decode cX25_faultOf 110 = .ok (.iload_n 2, 1) := dk_28 (dk_at dksX25_faultOf_4 15 rfl rfl)
theorem dX25_faultOf_111 : decode cX25_faultOf 111 = .ok (.bipush 14, 2) := dk_16 14 (dk_at dksX25_faultOf_4 16 rfl rfl)
theorem dX25_faultOf_113 : decode cX25_faultOf 113 = .ok (.if_icmp .ne 17, 3) := dk_160 0 17 (dk_at dksX25_faultOf_4 18 rfl rfl)
theorem dX25_faultOf_116 : decode cX25_faultOf 116 = .ok (.aload_n 0, 1) := dk_42 (dk_at dksX25_faultOf_4 21 rfl rfl)
theorem dX25_faultOf_117 : decode cX25_faultOf 117 = .ok (.getfield 93, 3) := dk_180 0 93 (dk_at dksX25_faultOf_5 0 rfl rfl)
theorem dX25_faultOf_120 : decode cX25_faultOf 120 = .ok (.iload_n 1, 1) := dk_27 (dk_at dksX25_faultOf_5 3 rfl rfl)
theorem dX25_faultOf_121 : decode cX25_faultOf 121 = .ok (.iaload, 1) := dk_46 (dk_at dksX25_faultOf_5 4 rfl rfl)
theorem dX25_faultOf_122 : decode cX25_faultOf 122 = .ok (.bipush 12, 2) := dk_16 12 (dk_at dksX25_faultOf_5 5 rfl rfl)
theorem dX25_faultOf_124 : decode cX25_faultOf 124 = .ok (.if_icmp .ne 6, 3) := dk_160 0 6 (dk_at dksX25_faultOf_5 7 rfl rfl)
theorem dX25_faultOf_127 : decode cX25_faultOf 127 = .ok (.bipush 7, 2) := dk_16 7 (dk_at dksX25_faultOf_5 10 rfl rfl)
theorem dX25_faultOf_129 : decode cX25_faultOf 129 = .ok (.ireturn, 1) := dk_172 (dk_at dksX25_faultOf_5 12 rfl rfl)
theorem dX25_faultOf_130 : decode cX25_faultOf 130 = .ok (.iload_n 2, 1) := dk_28 (dk_at dksX25_faultOf_5 13 rfl rfl)
theorem dX25_faultOf_131 : decode cX25_faultOf 131 = .ok (.bipush 21, 2) := dk_16 21 (dk_at dksX25_faultOf_5 14 rfl rfl)
theorem dX25_faultOf_133 : decode cX25_faultOf 133 = .ok (.if_icmp .ne 16, 3) := dk_160 0 16 (dk_at dksX25_faultOf_5 16 rfl rfl)
theorem dX25_faultOf_136 : decode cX25_faultOf 136 = .ok (.bipush 100, 2) := dk_16 100 (dk_at dksX25_faultOf_5 19 rfl rfl)
theorem dX25_faultOf_138 : decode cX25_faultOf 138 = .ok (.lload 4, 2) := dk_22 4 (dk_at dksX25_faultOf_5 21 rfl rfl)
theorem dX25_faultOf_140 : decode cX25_faultOf 140 = .ok (.ldc2_w 207, 3) := dk_20 0 207 (dk_at dksX25_faultOf_6 0 rfl rfl)
theorem dX25_faultOf_143 : decode cX25_faultOf 143 = .ok (.land, 1) := dk_127 (dk_at dksX25_faultOf_6 3 rfl rfl)
theorem dX25_faultOf_144 : decode cX25_faultOf 144 = .ok (.l2i, 1) := dk_136 (dk_at dksX25_faultOf_6 4 rfl rfl)
theorem dX25_faultOf_145 : decode cX25_faultOf 145 = .ok (.iadd, 1) := dk_96 (dk_at dksX25_faultOf_6 5 rfl rfl)
theorem dX25_faultOf_146 : decode cX25_faultOf 146 = .ok (.goto 4, 3) := dk_167 0 4 (dk_at dksX25_faultOf_6 6 rfl rfl)
theorem dX25_faultOf_149 : decode cX25_faultOf 149 = .ok (.iconst 0, 1) := dk_3 (dk_at dksX25_faultOf_6 9 rfl rfl)
theorem dX25_faultOf_150 : decode cX25_faultOf 150 = .ok (.ireturn, 1) := dk_172 (dk_at dksX25_faultOf_6 10 rfl rfl)
def dkwX25_does_17 : List UInt8 := [27, 46, 6, 159, 0, 16, 42, 180, 0, 38, 27, 21, 9, 79, 42, 27, 182, 0, 165, 177]
abbrev dktX25_does_17 : List UInt8 := dkwX25_does_17 ++ []
def dkwX25_does_16 : List UInt8 := [22, 4, 182, 0, 227, 167, 0, 15, 42, 27, 22, 4, 21, 6, 182, 0, 169, 167, 0, 3, 42, 180, 0, 41]
abbrev dktX25_does_16 : List UInt8 := dkwX25_does_16 ++ dktX25_does_17
def dkwX25_does_15 : List UInt8 := [29, 22, 4, 21, 6, 182, 0, 220, 167, 0, 36, 42, 27, 22, 4, 136, 182, 0, 224, 167, 0, 25, 42, 27]
abbrev dktX25_does_15 : List UInt8 := dkwX25_does_15 ++ dktX25_does_16
def dkwX25_does_14 : List UInt8 := [104, 29, 96, 22, 4, 80, 42, 180, 0, 84, 16, 8, 27, 104, 29, 96, 21, 6, 84, 167, 0, 49, 42, 27]
abbrev dktX25_does_14 : List UInt8 := dkwX25_does_14 ++ dktX25_does_15
def dkwX25_does_13 : List UInt8 := [9, 80, 42, 180, 0, 84, 16, 8, 27, 104, 29, 96, 3, 84, 167, 0, 78, 42, 180, 0, 81, 16, 8, 27]
abbrev dktX25_does_13 : List UInt8 := dkwX25_does_13 ++ dktX25_does_14
def dkwX25_does_12 : List UInt8 := [42, 180, 0, 84, 16, 8, 27, 104, 29, 96, 51, 153, 0, 105, 42, 180, 0, 81, 16, 8, 27, 104, 29, 96]
abbrev dktX25_does_12 : List UInt8 := dkwX25_does_12 ++ dktX25_does_13
def dkwX25_does_11 : List UInt8 := [180, 0, 81, 16, 8, 27, 104, 29, 96, 47, 42, 180, 0, 84, 16, 8, 27, 104, 29, 96, 51, 182, 0, 209]
abbrev dktX25_does_11 : List UInt8 := dkwX25_does_11 ++ dktX25_does_12
def dkwX25_does_10 : List UInt8 := [167, 0, 164, 22, 4, 9, 148, 154, 0, 7, 29, 167, 0, 5, 21, 9, 54, 9, 167, 0, 146, 42, 27, 42]
abbrev dktX25_does_10 : List UInt8 := dkwX25_does_10 ++ dktX25_does_11
def dkwX25_does_9 : List UInt8 := [182, 0, 209, 167, 0, 184, 42, 27, 22, 4, 22, 7, 129, 3, 182, 0, 209, 167, 0, 170, 29, 54, 9]
abbrev dktX25_does_9 : List UInt8 := dkwX25_does_9 ++ dktX25_does_10
def dkwX25_does_8 : List UInt8 := [156, 0, 7, 10, 167, 0, 4, 9, 3, 182, 0, 209, 167, 0, 198, 42, 27, 22, 4, 22, 7, 127, 3]
abbrev dktX25_does_8 : List UInt8 := dkwX25_does_8 ++ dktX25_does_9
def dkwX25_does_7 : List UInt8 := [167, 0, 234, 42, 27, 22, 4, 22, 7, 109, 3, 182, 0, 209, 167, 0, 220, 42, 27, 22, 4, 22, 7, 148]
abbrev dktX25_does_7 : List UInt8 := dkwX25_does_7 ++ dktX25_does_8
def dkwX25_does_6 : List UInt8 := [22, 4, 22, 7, 101, 3, 182, 0, 209, 167, 0, 248, 42, 27, 22, 4, 22, 7, 105, 3, 182, 0, 209]
abbrev dktX25_does_6 : List UInt8 := dkwX25_does_6 ++ dktX25_does_7
def dkwX25_does_5 : List UInt8 := [22, 7, 182, 0, 216, 167, 1, 20, 42, 27, 22, 4, 22, 7, 97, 3, 182, 0, 209, 167, 1, 6, 42, 27]
abbrev dktX25_does_5 : List UInt8 := dkwX25_does_5 ++ dktX25_does_6
def dkwX25_does_4 : List UInt8 := [180, 0, 62, 27, 46, 22, 4, 136, 182, 0, 212, 3, 182, 0, 209, 167, 1, 33, 42, 27, 22, 4, 136]
abbrev dktX25_does_4 : List UInt8 := dkwX25_does_4 ++ dktX25_does_5
def dkwX25_does_3 : List UInt8 := [3, 182, 0, 209, 167, 1, 66, 42, 27, 29, 22, 4, 182, 0, 216, 167, 1, 55, 42, 27, 42, 42]
abbrev dktX25_does_3 : List UInt8 := dkwX25_does_3 ++ dktX25_does_4
def dkwX25_does_2 : List UInt8 := [42, 27, 29, 133, 3, 182, 0, 209, 167, 1, 86, 42, 27, 42, 42, 180, 0, 62, 27, 46, 29, 182, 0, 212]
abbrev dktX25_does_2 : List UInt8 := dkwX25_does_2 ++ dktX25_does_3
def dkwX25_does_1 : List UInt8 := [170, 0, 0, 1, 191, 0, 0, 0, 0, 0, 0, 0, 20, 0, 0, 0, 97, 0, 0, 0, 108, 0, 0, 0, 128, 0, 0, 0, 139, 0, 0, 0, 161, 0, 0, 0, 174, 0, 0, 0, 188, 0, 0, 0, 202, 0, 0, 0, 216, 0, 0, 0, 230, 0, 0, 0, 252, 0, 0, 1, 10, 0, 0, 1, 24, 0, 0, 1, 30, 0, 0, 1, 48, 0, 0, 1, 116, 0, 0, 1, 191, 0, 0, 1, 145, 0, 0, 1, 158, 0, 0, 1, 169, 0, 0, 1, 179]
abbrev dktX25_does_1 : List UInt8 := dkwX25_does_1 ++ dktX25_does_2
def dkwX25_does_0 : List UInt8 := [42, 180, 0, 38, 27, 46, 4, 96, 54, 9, 28]
abbrev dktX25_does_0 : List UInt8 := dkwX25_does_0 ++ dktX25_does_1
theorem dksX25_does_0 : cX25_does.data.toList.drop 0 = dktX25_does_0 := by decide +kernel
theorem dksX25_does_1 : cX25_does.data.toList.drop 11 = dktX25_does_1 := dk_seg dksX25_does_0 11 rfl rfl
theorem dksX25_does_2 : cX25_does.data.toList.drop 108 = dktX25_does_2 := dk_seg dksX25_does_1 97 rfl rfl
theorem dksX25_does_3 : cX25_does.data.toList.drop 132 = dktX25_does_3 := dk_seg dksX25_does_2 24 rfl rfl
theorem dksX25_does_4 : cX25_does.data.toList.drop 154 = dktX25_does_4 := dk_seg dksX25_does_3 22 rfl rfl
theorem dksX25_does_5 : cX25_does.data.toList.drop 177 = dktX25_does_5 := dk_seg dksX25_does_4 23 rfl rfl
theorem dksX25_does_6 : cX25_does.data.toList.drop 201 = dktX25_does_6 := dk_seg dksX25_does_5 24 rfl rfl
theorem dksX25_does_7 : cX25_does.data.toList.drop 224 = dktX25_does_7 := dk_seg dksX25_does_6 23 rfl rfl
theorem dksX25_does_8 : cX25_does.data.toList.drop 248 = dktX25_does_8 := dk_seg dksX25_does_7 24 rfl rfl
theorem dksX25_does_9 : cX25_does.data.toList.drop 271 = dktX25_does_9 := dk_seg dksX25_does_8 23 rfl rfl
theorem dksX25_does_10 : cX25_does.data.toList.drop 294 = dktX25_does_10 := dk_seg dksX25_does_9 23 rfl rfl
theorem dksX25_does_11 : cX25_does.data.toList.drop 318 = dktX25_does_11 := dk_seg dksX25_does_10 24 rfl rfl
theorem dksX25_does_12 : cX25_does.data.toList.drop 342 = dktX25_does_12 := dk_seg dksX25_does_11 24 rfl rfl
theorem dksX25_does_13 : cX25_does.data.toList.drop 366 = dktX25_does_13 := dk_seg dksX25_does_12 24 rfl rfl
theorem dksX25_does_14 : cX25_does.data.toList.drop 390 = dktX25_does_14 := dk_seg dksX25_does_13 24 rfl rfl
theorem dksX25_does_15 : cX25_does.data.toList.drop 414 = dktX25_does_15 := dk_seg dksX25_does_14 24 rfl rfl
theorem dksX25_does_16 : cX25_does.data.toList.drop 438 = dktX25_does_16 := dk_seg dksX25_does_15 24 rfl rfl
theorem dksX25_does_17 : cX25_does.data.toList.drop 462 = dktX25_does_17 := dk_seg dksX25_does_16 24 rfl rfl
theorem dX25_does_0 : decode cX25_does 0 = .ok (.aload_n 0, 1) := dk_42 (dk_at dksX25_does_0 0 rfl rfl)
theorem dX25_does_1 : decode cX25_does 1 = .ok (.getfield 38, 3) := dk_180 0 38 (dk_at dksX25_does_0 1 rfl rfl)
theorem dX25_does_4 : decode cX25_does 4 = .ok (.iload_n 1, 1) := dk_27 (dk_at dksX25_does_0 4 rfl rfl)
theorem dX25_does_5 : decode cX25_does 5 = .ok (.iaload, 1) := dk_46 (dk_at dksX25_does_0 5 rfl rfl)
theorem dX25_does_6 : decode cX25_does 6 = .ok (.iconst 1, 1) := dk_4 (dk_at dksX25_does_0 6 rfl rfl)
theorem dX25_does_7 : decode cX25_does 7 = .ok (.iadd, 1) := dk_96 (dk_at dksX25_does_0 7 rfl rfl)
theorem dX25_does_8 : decode cX25_does 8 = .ok (.istore 9, 2) := dk_54 9 (dk_at dksX25_does_0 8 rfl rfl)
theorem dX25_does_10 : decode cX25_does 10 = .ok (.iload_n 2, 1) := dk_28 (dk_at dksX25_does_0 10 rfl rfl)
theorem dX25_does_11 : decode cX25_does 11 = .ok (.tableswitch 447 0 20 #[97, 108, 128, 139, 161, 174, 188, 202, 216, 230, 252, 266, 280, 286, 304, 372, 447, 401, 414, 425, 435], 97) := by decide +kernel
theorem dX25_does_108 : decode cX25_does 108 = .ok (.aload_n 0, 1) := dk_42 (dk_at dksX25_does_2 0 rfl rfl)
theorem dX25_does_109 : decode cX25_does 109 = .ok (.iload_n 1, 1) := dk_27 (dk_at dksX25_does_2 1 rfl rfl)
theorem dX25_does_110 : decode cX25_does 110 = .ok (.iload_n 3, 1) := dk_29 (dk_at dksX25_does_2 2 rfl rfl)
theorem dX25_does_111 : decode cX25_does 111 = .ok (.i2l, 1) := dk_133 (dk_at dksX25_does_2 3 rfl rfl)
theorem dX25_does_112 : decode cX25_does 112 = .ok (.iconst 0, 1) := dk_3 (dk_at dksX25_does_2 4 rfl rfl)
theorem dX25_does_113 : decode cX25_does 113 = .ok (.invokevirtual 209, 3) := dk_182 0 209 (dk_at dksX25_does_2 5 rfl rfl)
theorem dX25_does_116 : decode cX25_does 116 = .ok (.goto 342, 3) := dk_167 1 86 (dk_at dksX25_does_2 8 rfl rfl)
theorem dX25_does_119 : decode cX25_does 119 = .ok (.aload_n 0, 1) := dk_42 (dk_at dksX25_does_2 11 rfl rfl)
theorem dX25_does_120 : decode cX25_does 120 = .ok (.iload_n 1, 1) := dk_27 (dk_at dksX25_does_2 12 rfl rfl)
theorem dX25_does_121 : decode cX25_does 121 = .ok (.aload_n 0, 1) := dk_42 (dk_at dksX25_does_2 13 rfl rfl)
theorem dX25_does_122 : decode cX25_does 122 = .ok (.aload_n 0, 1) := dk_42 (dk_at dksX25_does_2 14 rfl rfl)
theorem dX25_does_123 : decode cX25_does 123 = .ok (.getfield 62, 3) := dk_180 0 62 (dk_at dksX25_does_2 15 rfl rfl)
theorem dX25_does_126 : decode cX25_does 126 = .ok (.iload_n 1, 1) := dk_27 (dk_at dksX25_does_2 18 rfl rfl)
theorem dX25_does_127 : decode cX25_does 127 = .ok (.iaload, 1) := dk_46 (dk_at dksX25_does_2 19 rfl rfl)
theorem dX25_does_128 : decode cX25_does 128 = .ok (.iload_n 3, 1) := dk_29 (dk_at dksX25_does_2 20 rfl rfl)
theorem dX25_does_129 : decode cX25_does 129 = .ok (.invokevirtual 212, 3) := dk_182 0 212 (dk_at dksX25_does_2 21 rfl rfl)
theorem dX25_does_132 : decode cX25_does 132 = .ok (.iconst 0, 1) := dk_3 (dk_at dksX25_does_3 0 rfl rfl)
theorem dX25_does_133 : decode cX25_does 133 = .ok (.invokevirtual 209, 3) := dk_182 0 209 (dk_at dksX25_does_3 1 rfl rfl)
theorem dX25_does_136 : decode cX25_does 136 = .ok (.goto 322, 3) := dk_167 1 66 (dk_at dksX25_does_3 4 rfl rfl)
theorem dX25_does_139 : decode cX25_does 139 = .ok (.aload_n 0, 1) := dk_42 (dk_at dksX25_does_3 7 rfl rfl)
theorem dX25_does_140 : decode cX25_does 140 = .ok (.iload_n 1, 1) := dk_27 (dk_at dksX25_does_3 8 rfl rfl)
theorem dX25_does_141 : decode cX25_does 141 = .ok (.iload_n 3, 1) := dk_29 (dk_at dksX25_does_3 9 rfl rfl)
theorem dX25_does_142 : decode cX25_does 142 = .ok (.lload 4, 2) := dk_22 4 (dk_at dksX25_does_3 10 rfl rfl)
theorem dX25_does_144 : decode cX25_does 144 = .ok (.invokevirtual 216, 3) := dk_182 0 216 (dk_at dksX25_does_3 12 rfl rfl)
theorem dX25_does_147 : decode cX25_does 147 = .ok (.goto 311, 3) := dk_167 1 55 (dk_at dksX25_does_3 15 rfl rfl)
theorem dX25_does_150 : decode cX25_does 150 = .ok (.aload_n 0, 1) := dk_42 (dk_at dksX25_does_3 18 rfl rfl)
theorem dX25_does_151 : decode cX25_does 151 = .ok (.iload_n 1, 1) := dk_27 (dk_at dksX25_does_3 19 rfl rfl)
theorem dX25_does_152 : decode cX25_does 152 = .ok (.aload_n 0, 1) := dk_42 (dk_at dksX25_does_3 20 rfl rfl)
theorem dX25_does_153 : decode cX25_does 153 = .ok (.aload_n 0, 1) := dk_42 (dk_at dksX25_does_3 21 rfl rfl)
theorem dX25_does_154 : decode cX25_does 154 = .ok (.getfield 62, 3) := dk_180 0 62 (dk_at dksX25_does_4 0 rfl rfl)
theorem dX25_does_157 : decode cX25_does 157 = .ok (.iload_n 1, 1) := dk_27 (dk_at dksX25_does_4 3 rfl rfl)
theorem dX25_does_158 : decode cX25_does 158 = .ok (.iaload, 1) := dk_46 (dk_at dksX25_does_4 4 rfl rfl)
theorem dX25_does_159 : decode cX25_does 159 = .ok (.lload 4, 2) := dk_22 4 (dk_at dksX25_does_4 5 rfl rfl)
theorem dX25_does_161 : decode cX25_does 161 = .ok (.l2i, 1) := dk_136 (dk_at dksX25_does_4 7 rfl rfl)
theorem dX25_does_162 : decode cX25_does 162 = .ok (.invokevirtual 212, 3) := dk_182 0 212 (dk_at dksX25_does_4 8 rfl rfl)
theorem dX25_does_165 : decode cX25_does 165 = .ok (.iconst 0, 1) := dk_3 (dk_at dksX25_does_4 11 rfl rfl)
theorem dX25_does_166 : decode cX25_does 166 = .ok (.invokevirtual 209, 3) := dk_182 0 209 (dk_at dksX25_does_4 12 rfl rfl)
theorem dX25_does_169 : decode cX25_does 169 = .ok (.goto 289, 3) := dk_167 1 33 (dk_at dksX25_does_4 15 rfl rfl)
theorem dX25_does_172 : decode cX25_does 172 = .ok (.aload_n 0, 1) := dk_42 (dk_at dksX25_does_4 18 rfl rfl)
theorem dX25_does_173 : decode cX25_does 173 = .ok (.iload_n 1, 1) := dk_27 (dk_at dksX25_does_4 19 rfl rfl)
theorem dX25_does_174 : decode cX25_does 174 = .ok (.lload 4, 2) := dk_22 4 (dk_at dksX25_does_4 20 rfl rfl)
theorem dX25_does_176 : decode cX25_does 176 = .ok (.l2i, 1) := dk_136 (dk_at dksX25_does_4 22 rfl rfl)
theorem dX25_does_177 : decode cX25_does 177 = .ok (.lload 7, 2) := dk_22 7 (dk_at dksX25_does_5 0 rfl rfl)
theorem dX25_does_179 : decode cX25_does 179 = .ok (.invokevirtual 216, 3) := dk_182 0 216 (dk_at dksX25_does_5 2 rfl rfl)
theorem dX25_does_182 : decode cX25_does 182 = .ok (.goto 276, 3) := dk_167 1 20 (dk_at dksX25_does_5 5 rfl rfl)
theorem dX25_does_185 : decode cX25_does 185 = .ok (.aload_n 0, 1) := dk_42 (dk_at dksX25_does_5 8 rfl rfl)
theorem dX25_does_186 : decode cX25_does 186 = .ok (.iload_n 1, 1) := dk_27 (dk_at dksX25_does_5 9 rfl rfl)
theorem dX25_does_187 : decode cX25_does 187 = .ok (.lload 4, 2) := dk_22 4 (dk_at dksX25_does_5 10 rfl rfl)
theorem dX25_does_189 : decode cX25_does 189 = .ok (.lload 7, 2) := dk_22 7 (dk_at dksX25_does_5 12 rfl rfl)
theorem dX25_does_191 : decode cX25_does 191 = .ok (.ladd, 1) := dk_97 (dk_at dksX25_does_5 14 rfl rfl)
theorem dX25_does_192 : decode cX25_does 192 = .ok (.iconst 0, 1) := dk_3 (dk_at dksX25_does_5 15 rfl rfl)
theorem dX25_does_193 : decode cX25_does 193 = .ok (.invokevirtual 209, 3) := dk_182 0 209 (dk_at dksX25_does_5 16 rfl rfl)
theorem dX25_does_196 : decode cX25_does 196 = .ok (.goto 262, 3) := dk_167 1 6 (dk_at dksX25_does_5 19 rfl rfl)
theorem dX25_does_199 : decode cX25_does 199 = .ok (.aload_n 0, 1) := dk_42 (dk_at dksX25_does_5 22 rfl rfl)
theorem dX25_does_200 : decode cX25_does 200 = .ok (.iload_n 1, 1) := dk_27 (dk_at dksX25_does_5 23 rfl rfl)
theorem dX25_does_201 : decode cX25_does 201 = .ok (.lload 4, 2) := dk_22 4 (dk_at dksX25_does_6 0 rfl rfl)
theorem dX25_does_203 : decode cX25_does 203 = .ok (.lload 7, 2) := dk_22 7 (dk_at dksX25_does_6 2 rfl rfl)
theorem dX25_does_205 : decode cX25_does 205 = .ok (.lsub, 1) := dk_101 (dk_at dksX25_does_6 4 rfl rfl)
theorem dX25_does_206 : decode cX25_does 206 = .ok (.iconst 0, 1) := dk_3 (dk_at dksX25_does_6 5 rfl rfl)
theorem dX25_does_207 : decode cX25_does 207 = .ok (.invokevirtual 209, 3) := dk_182 0 209 (dk_at dksX25_does_6 6 rfl rfl)
theorem dX25_does_210 : decode cX25_does 210 = .ok (.goto 248, 3) := dk_167 0 248 (dk_at dksX25_does_6 9 rfl rfl)
theorem dX25_does_213 : decode cX25_does 213 = .ok (.aload_n 0, 1) := dk_42 (dk_at dksX25_does_6 12 rfl rfl)
theorem dX25_does_214 : decode cX25_does 214 = .ok (.iload_n 1, 1) := dk_27 (dk_at dksX25_does_6 13 rfl rfl)
theorem dX25_does_215 : decode cX25_does 215 = .ok (.lload 4, 2) := dk_22 4 (dk_at dksX25_does_6 14 rfl rfl)
theorem dX25_does_217 : decode cX25_does 217 = .ok (.lload 7, 2) := dk_22 7 (dk_at dksX25_does_6 16 rfl rfl)
theorem dX25_does_219 : decode cX25_does 219 = .ok (.lmul, 1) := dk_105 (dk_at dksX25_does_6 18 rfl rfl)
theorem dX25_does_220 : decode cX25_does 220 = .ok (.iconst 0, 1) := dk_3 (dk_at dksX25_does_6 19 rfl rfl)
theorem dX25_does_221 : decode cX25_does 221 = .ok (.invokevirtual 209, 3) := dk_182 0 209 (dk_at dksX25_does_6 20 rfl rfl)
theorem dX25_does_224 : decode cX25_does 224 = .ok (.goto 234, 3) := dk_167 0 234 (dk_at dksX25_does_7 0 rfl rfl)
theorem dX25_does_227 : decode cX25_does 227 = .ok (.aload_n 0, 1) := dk_42 (dk_at dksX25_does_7 3 rfl rfl)
theorem dX25_does_228 : decode cX25_does 228 = .ok (.iload_n 1, 1) := dk_27 (dk_at dksX25_does_7 4 rfl rfl)
theorem dX25_does_229 : decode cX25_does 229 = .ok (.lload 4, 2) := dk_22 4 (dk_at dksX25_does_7 5 rfl rfl)
theorem dX25_does_231 : decode cX25_does 231 = .ok (.lload 7, 2) := dk_22 7 (dk_at dksX25_does_7 7 rfl rfl)
theorem dX25_does_233 : decode cX25_does 233 = .ok (.ldiv, 1) := dk_109 (dk_at dksX25_does_7 9 rfl rfl)
theorem dX25_does_234 : decode cX25_does 234 = .ok (.iconst 0, 1) := dk_3 (dk_at dksX25_does_7 10 rfl rfl)
theorem dX25_does_235 : decode cX25_does 235 = .ok (.invokevirtual 209, 3) := dk_182 0 209 (dk_at dksX25_does_7 11 rfl rfl)
theorem dX25_does_238 : decode cX25_does 238 = .ok (.goto 220, 3) := dk_167 0 220 (dk_at dksX25_does_7 14 rfl rfl)
theorem dX25_does_241 : decode cX25_does 241 = .ok (.aload_n 0, 1) := dk_42 (dk_at dksX25_does_7 17 rfl rfl)
theorem dX25_does_242 : decode cX25_does 242 = .ok (.iload_n 1, 1) := dk_27 (dk_at dksX25_does_7 18 rfl rfl)
theorem dX25_does_243 : decode cX25_does 243 = .ok (.lload 4, 2) := dk_22 4 (dk_at dksX25_does_7 19 rfl rfl)
theorem dX25_does_245 : decode cX25_does 245 = .ok (.lload 7, 2) := dk_22 7 (dk_at dksX25_does_7 21 rfl rfl)
theorem dX25_does_247 : decode cX25_does 247 = .ok (.lcmp, 1) := dk_148 (dk_at dksX25_does_7 23 rfl rfl)
theorem dX25_does_248 : decode cX25_does 248 = .ok (.ifCond .ge 7, 3) := dk_156 0 7 (dk_at dksX25_does_8 0 rfl rfl)
theorem dX25_does_251 : decode cX25_does 251 = .ok (.lconst 1, 1) := dk_10 (dk_at dksX25_does_8 3 rfl rfl)
theorem dX25_does_252 : decode cX25_does 252 = .ok (.goto 4, 3) := dk_167 0 4 (dk_at dksX25_does_8 4 rfl rfl)
theorem dX25_does_255 : decode cX25_does 255 = .ok (.lconst 0, 1) := dk_9 (dk_at dksX25_does_8 7 rfl rfl)
theorem dX25_does_256 : decode cX25_does 256 = .ok (.iconst 0, 1) := dk_3 (dk_at dksX25_does_8 8 rfl rfl)
theorem dX25_does_257 : decode cX25_does 257 = .ok (.invokevirtual 209, 3) := dk_182 0 209 (dk_at dksX25_does_8 9 rfl rfl)
theorem dX25_does_260 : decode cX25_does 260 = .ok (.goto 198, 3) := dk_167 0 198 (dk_at dksX25_does_8 12 rfl rfl)
theorem dX25_does_263 : decode cX25_does 263 = .ok (.aload_n 0, 1) := dk_42 (dk_at dksX25_does_8 15 rfl rfl)
theorem dX25_does_264 : decode cX25_does 264 = .ok (.iload_n 1, 1) := dk_27 (dk_at dksX25_does_8 16 rfl rfl)
theorem dX25_does_265 : decode cX25_does 265 = .ok (.lload 4, 2) := dk_22 4 (dk_at dksX25_does_8 17 rfl rfl)
theorem dX25_does_267 : decode cX25_does 267 = .ok (.lload 7, 2) := dk_22 7 (dk_at dksX25_does_8 19 rfl rfl)
theorem dX25_does_269 : decode cX25_does 269 = .ok (.land, 1) := dk_127 (dk_at dksX25_does_8 21 rfl rfl)
theorem dX25_does_270 : decode cX25_does 270 = .ok (.iconst 0, 1) := dk_3 (dk_at dksX25_does_8 22 rfl rfl)
theorem dX25_does_271 : decode cX25_does 271 = .ok (.invokevirtual 209, 3) := dk_182 0 209 (dk_at dksX25_does_9 0 rfl rfl)
theorem dX25_does_274 : decode cX25_does 274 = .ok (.goto 184, 3) := dk_167 0 184 (dk_at dksX25_does_9 3 rfl rfl)
theorem dX25_does_277 : decode cX25_does 277 = .ok (.aload_n 0, 1) := dk_42 (dk_at dksX25_does_9 6 rfl rfl)
theorem dX25_does_278 : decode cX25_does 278 = .ok (.iload_n 1, 1) := dk_27 (dk_at dksX25_does_9 7 rfl rfl)
theorem dX25_does_279 : decode cX25_does 279 = .ok (.lload 4, 2) := dk_22 4 (dk_at dksX25_does_9 8 rfl rfl)
theorem dX25_does_281 : decode cX25_does 281 = .ok (.lload 7, 2) := dk_22 7 (dk_at dksX25_does_9 10 rfl rfl)
theorem dX25_does_283 : decode cX25_does 283 = .ok (.lor, 1) := dk_129 (dk_at dksX25_does_9 12 rfl rfl)
theorem dX25_does_284 : decode cX25_does 284 = .ok (.iconst 0, 1) := dk_3 (dk_at dksX25_does_9 13 rfl rfl)
theorem dX25_does_285 : decode cX25_does 285 = .ok (.invokevirtual 209, 3) := dk_182 0 209 (dk_at dksX25_does_9 14 rfl rfl)
theorem dX25_does_288 : decode cX25_does 288 = .ok (.goto 170, 3) := dk_167 0 170 (dk_at dksX25_does_9 17 rfl rfl)
theorem dX25_does_291 : decode cX25_does 291 = .ok (.iload_n 3, 1) := dk_29 (dk_at dksX25_does_9 20 rfl rfl)
theorem dX25_does_292 : decode cX25_does 292 = .ok (.istore 9, 2) := dk_54 9 (dk_at dksX25_does_9 21 rfl rfl)
theorem dX25_does_294 : decode cX25_does 294 = .ok (.goto 164, 3) := dk_167 0 164 (dk_at dksX25_does_10 0 rfl rfl)
theorem dX25_does_297 : decode cX25_does 297 = .ok (.lload 4, 2) := dk_22 4 (dk_at dksX25_does_10 3 rfl rfl)
theorem dX25_does_299 : decode cX25_does 299 = .ok (.lconst 0, 1) := dk_9 (dk_at dksX25_does_10 5 rfl rfl)
theorem dX25_does_300 : decode cX25_does 300 = .ok (.lcmp, 1) := dk_148 (dk_at dksX25_does_10 6 rfl rfl)
theorem dX25_does_301 : decode cX25_does 301 = .ok (.ifCond .ne 7, 3) := dk_154 0 7 (dk_at dksX25_does_10 7 rfl rfl)
theorem dX25_does_304 : decode cX25_does 304 = .ok (.iload_n 3, 1) := dk_29 (dk_at dksX25_does_10 10 rfl rfl)
theorem dX25_does_305 : decode cX25_does 305 = .ok (.goto 5, 3) := dk_167 0 5 (dk_at dksX25_does_10 11 rfl rfl)
theorem dX25_does_308 : decode cX25_does 308 = .ok (.iload 9, 2) := dk_21 9 (dk_at dksX25_does_10 14 rfl rfl)
theorem dX25_does_310 : decode cX25_does 310 = .ok (.istore 9, 2) := dk_54 9 (dk_at dksX25_does_10 16 rfl rfl)
theorem dX25_does_312 : decode cX25_does 312 = .ok (.goto 146, 3) := dk_167 0 146 (dk_at dksX25_does_10 18 rfl rfl)
theorem dX25_does_315 : decode cX25_does 315 = .ok (.aload_n 0, 1) := dk_42 (dk_at dksX25_does_10 21 rfl rfl)
theorem dX25_does_316 : decode cX25_does 316 = .ok (.iload_n 1, 1) := dk_27 (dk_at dksX25_does_10 22 rfl rfl)
theorem dX25_does_317 : decode cX25_does 317 = .ok (.aload_n 0, 1) := dk_42 (dk_at dksX25_does_10 23 rfl rfl)
theorem dX25_does_318 : decode cX25_does 318 = .ok (.getfield 81, 3) := dk_180 0 81 (dk_at dksX25_does_11 0 rfl rfl)
theorem dX25_does_321 : decode cX25_does 321 = .ok (.bipush 8, 2) := dk_16 8 (dk_at dksX25_does_11 3 rfl rfl)
theorem dX25_does_323 : decode cX25_does 323 = .ok (.iload_n 1, 1) := dk_27 (dk_at dksX25_does_11 5 rfl rfl)
theorem dX25_does_324 : decode cX25_does 324 = .ok (.imul, 1) := dk_104 (dk_at dksX25_does_11 6 rfl rfl)
theorem dX25_does_325 : decode cX25_does 325 = .ok (.iload_n 3, 1) := dk_29 (dk_at dksX25_does_11 7 rfl rfl)
theorem dX25_does_326 : decode cX25_does 326 = .ok (.iadd, 1) := dk_96 (dk_at dksX25_does_11 8 rfl rfl)
theorem dX25_does_327 : decode cX25_does 327 = .ok (.laload, 1) := dk_47 (dk_at dksX25_does_11 9 rfl rfl)
theorem dX25_does_328 : decode cX25_does 328 = .ok (.aload_n 0, 1) := dk_42 (dk_at dksX25_does_11 10 rfl rfl)
theorem dX25_does_329 : decode cX25_does 329 = .ok (.getfield 84, 3) := dk_180 0 84 (dk_at dksX25_does_11 11 rfl rfl)
theorem dX25_does_332 : decode cX25_does 332 = .ok (.bipush 8, 2) := dk_16 8 (dk_at dksX25_does_11 14 rfl rfl)
theorem dX25_does_334 : decode cX25_does 334 = .ok (.iload_n 1, 1) := dk_27 (dk_at dksX25_does_11 16 rfl rfl)
theorem dX25_does_335 : decode cX25_does 335 = .ok (.imul, 1) := dk_104 (dk_at dksX25_does_11 17 rfl rfl)
theorem dX25_does_336 : decode cX25_does 336 = .ok (.iload_n 3, 1) := dk_29 (dk_at dksX25_does_11 18 rfl rfl)
theorem dX25_does_337 : decode cX25_does 337 = .ok (.iadd, 1) := dk_96 (dk_at dksX25_does_11 19 rfl rfl)
theorem dX25_does_338 : decode cX25_does 338 = .ok (.baload, 1) := dk_51 (dk_at dksX25_does_11 20 rfl rfl)
theorem dX25_does_339 : decode cX25_does 339 = .ok (.invokevirtual 209, 3) := dk_182 0 209 (dk_at dksX25_does_11 21 rfl rfl)
theorem dX25_does_342 : decode cX25_does 342 = .ok (.aload_n 0, 1) := dk_42 (dk_at dksX25_does_12 0 rfl rfl)
theorem dX25_does_343 : decode cX25_does 343 = .ok (.getfield 84, 3) := dk_180 0 84 (dk_at dksX25_does_12 1 rfl rfl)
theorem dX25_does_346 : decode cX25_does 346 = .ok (.bipush 8, 2) := dk_16 8 (dk_at dksX25_does_12 4 rfl rfl)
theorem dX25_does_348 : decode cX25_does 348 = .ok (.iload_n 1, 1) := dk_27 (dk_at dksX25_does_12 6 rfl rfl)
theorem dX25_does_349 : decode cX25_does 349 = .ok (.imul, 1) := dk_104 (dk_at dksX25_does_12 7 rfl rfl)
theorem dX25_does_350 : decode cX25_does 350 = .ok (.iload_n 3, 1) := dk_29 (dk_at dksX25_does_12 8 rfl rfl)
theorem dX25_does_351 : decode cX25_does 351 = .ok (.iadd, 1) := dk_96 (dk_at dksX25_does_12 9 rfl rfl)
theorem dX25_does_352 : decode cX25_does 352 = .ok (.baload, 1) := dk_51 (dk_at dksX25_does_12 10 rfl rfl)
theorem dX25_does_353 : decode cX25_does 353 = .ok (.ifCond .eq 105, 3) := dk_153 0 105 (dk_at dksX25_does_12 11 rfl rfl)
theorem dX25_does_356 : decode cX25_does 356 = .ok (.aload_n 0, 1) := dk_42 (dk_at dksX25_does_12 14 rfl rfl)
theorem dX25_does_357 : decode cX25_does 357 = .ok (.getfield 81, 3) := dk_180 0 81 (dk_at dksX25_does_12 15 rfl rfl)
theorem dX25_does_360 : decode cX25_does 360 = .ok (.bipush 8, 2) := dk_16 8 (dk_at dksX25_does_12 18 rfl rfl)
theorem dX25_does_362 : decode cX25_does 362 = .ok (.iload_n 1, 1) := dk_27 (dk_at dksX25_does_12 20 rfl rfl)
theorem dX25_does_363 : decode cX25_does 363 = .ok (.imul, 1) := dk_104 (dk_at dksX25_does_12 21 rfl rfl)
theorem dX25_does_364 : decode cX25_does 364 = .ok (.iload_n 3, 1) := dk_29 (dk_at dksX25_does_12 22 rfl rfl)
theorem dX25_does_365 : decode cX25_does 365 = .ok (.iadd, 1) := dk_96 (dk_at dksX25_does_12 23 rfl rfl)
theorem dX25_does_366 : decode cX25_does 366 = .ok (.lconst 0, 1) := dk_9 (dk_at dksX25_does_13 0 rfl rfl)
theorem dX25_does_367 : decode cX25_does 367 = .ok (.lastore, 1) := dk_80 (dk_at dksX25_does_13 1 rfl rfl)
theorem dX25_does_368 : decode cX25_does 368 = .ok (.aload_n 0, 1) := dk_42 (dk_at dksX25_does_13 2 rfl rfl)
theorem dX25_does_369 : decode cX25_does 369 = .ok (.getfield 84, 3) := dk_180 0 84 (dk_at dksX25_does_13 3 rfl rfl)
theorem dX25_does_372 : decode cX25_does 372 = .ok (.bipush 8, 2) := dk_16 8 (dk_at dksX25_does_13 6 rfl rfl)
theorem dX25_does_374 : decode cX25_does 374 = .ok (.iload_n 1, 1) := dk_27 (dk_at dksX25_does_13 8 rfl rfl)
theorem dX25_does_375 : decode cX25_does 375 = .ok (.imul, 1) := dk_104 (dk_at dksX25_does_13 9 rfl rfl)
theorem dX25_does_376 : decode cX25_does 376 = .ok (.iload_n 3, 1) := dk_29 (dk_at dksX25_does_13 10 rfl rfl)
theorem dX25_does_377 : decode cX25_does 377 = .ok (.iadd, 1) := dk_96 (dk_at dksX25_does_13 11 rfl rfl)
theorem dX25_does_378 : decode cX25_does 378 = .ok (.iconst 0, 1) := dk_3 (dk_at dksX25_does_13 12 rfl rfl)
theorem dX25_does_379 : decode cX25_does 379 = .ok (.bastore, 1) := dk_84 (dk_at dksX25_does_13 13 rfl rfl)
theorem dX25_does_380 : decode cX25_does 380 = .ok (.goto 78, 3) := dk_167 0 78 (dk_at dksX25_does_13 14 rfl rfl)
theorem dX25_does_383 : decode cX25_does 383 = .ok (.aload_n 0, 1) := dk_42 (dk_at dksX25_does_13 17 rfl rfl)
theorem dX25_does_384 : decode cX25_does 384 = .ok (.getfield 81, 3) := dk_180 0 81 (dk_at dksX25_does_13 18 rfl rfl)
theorem dX25_does_387 : decode cX25_does 387 = .ok (.bipush 8, 2) := dk_16 8 (dk_at dksX25_does_13 21 rfl rfl)
theorem dX25_does_389 : decode cX25_does 389 = .ok (.iload_n 1, 1) := dk_27 (dk_at dksX25_does_13 23 rfl rfl)
theorem dX25_does_390 : decode cX25_does 390 = .ok (.imul, 1) := dk_104 (dk_at dksX25_does_14 0 rfl rfl)
theorem dX25_does_391 : decode cX25_does 391 = .ok (.iload_n 3, 1) := dk_29 (dk_at dksX25_does_14 1 rfl rfl)
theorem dX25_does_392 : decode cX25_does 392 = .ok (.iadd, 1) := dk_96 (dk_at dksX25_does_14 2 rfl rfl)
theorem dX25_does_393 : decode cX25_does 393 = .ok (.lload 4, 2) := dk_22 4 (dk_at dksX25_does_14 3 rfl rfl)
theorem dX25_does_395 : decode cX25_does 395 = .ok (.lastore, 1) := dk_80 (dk_at dksX25_does_14 5 rfl rfl)
theorem dX25_does_396 : decode cX25_does 396 = .ok (.aload_n 0, 1) := dk_42 (dk_at dksX25_does_14 6 rfl rfl)
theorem dX25_does_397 : decode cX25_does 397 = .ok (.getfield 84, 3) := dk_180 0 84 (dk_at dksX25_does_14 7 rfl rfl)
theorem dX25_does_400 : decode cX25_does 400 = .ok (.bipush 8, 2) := dk_16 8 (dk_at dksX25_does_14 10 rfl rfl)
theorem dX25_does_402 : decode cX25_does 402 = .ok (.iload_n 1, 1) := dk_27 (dk_at dksX25_does_14 12 rfl rfl)
theorem dX25_does_403 : decode cX25_does 403 = .ok (.imul, 1) := dk_104 (dk_at dksX25_does_14 13 rfl rfl)
theorem dX25_does_404 : decode cX25_does 404 = .ok (.iload_n 3, 1) := dk_29 (dk_at dksX25_does_14 14 rfl rfl)
theorem dX25_does_405 : decode cX25_does 405 = .ok (.iadd, 1) := dk_96 (dk_at dksX25_does_14 15 rfl rfl)
theorem dX25_does_406 : decode cX25_does 406 = .ok (.iload 6, 2) := dk_21 6 (dk_at dksX25_does_14 16 rfl rfl)
theorem dX25_does_408 : decode cX25_does 408 = .ok (.bastore, 1) := dk_84 (dk_at dksX25_does_14 18 rfl rfl)
theorem dX25_does_409 : decode cX25_does 409 = .ok (.goto 49, 3) := dk_167 0 49 (dk_at dksX25_does_14 19 rfl rfl)
theorem dX25_does_412 : decode cX25_does 412 = .ok (.aload_n 0, 1) := dk_42 (dk_at dksX25_does_14 22 rfl rfl)
theorem dX25_does_413 : decode cX25_does 413 = .ok (.iload_n 1, 1) := dk_27 (dk_at dksX25_does_14 23 rfl rfl)
theorem dX25_does_414 : decode cX25_does 414 = .ok (.iload_n 3, 1) := dk_29 (dk_at dksX25_does_15 0 rfl rfl)
theorem dX25_does_415 : decode cX25_does 415 = .ok (.lload 4, 2) := dk_22 4 (dk_at dksX25_does_15 1 rfl rfl)
theorem dX25_does_417 : decode cX25_does 417 = .ok (.iload 6, 2) := dk_21 6 (dk_at dksX25_does_15 3 rfl rfl)
theorem dX25_does_419 : decode cX25_does 419 = .ok (.invokevirtual 220, 3) := dk_182 0 220 (dk_at dksX25_does_15 5 rfl rfl)
theorem dX25_does_422 : decode cX25_does 422 = .ok (.goto 36, 3) := dk_167 0 36 (dk_at dksX25_does_15 8 rfl rfl)
theorem dX25_does_425 : decode cX25_does 425 = .ok (.aload_n 0, 1) := dk_42 (dk_at dksX25_does_15 11 rfl rfl)
theorem dX25_does_426 : decode cX25_does 426 = .ok (.iload_n 1, 1) := dk_27 (dk_at dksX25_does_15 12 rfl rfl)
theorem dX25_does_427 : decode cX25_does 427 = .ok (.lload 4, 2) := dk_22 4 (dk_at dksX25_does_15 13 rfl rfl)
theorem dX25_does_429 : decode cX25_does 429 = .ok (.l2i, 1) := dk_136 (dk_at dksX25_does_15 15 rfl rfl)
theorem dX25_does_430 : decode cX25_does 430 = .ok (.invokevirtual 224, 3) := dk_182 0 224 (dk_at dksX25_does_15 16 rfl rfl)
theorem dX25_does_433 : decode cX25_does 433 = .ok (.goto 25, 3) := dk_167 0 25 (dk_at dksX25_does_15 19 rfl rfl)
theorem dX25_does_436 : decode cX25_does 436 = .ok (.aload_n 0, 1) := dk_42 (dk_at dksX25_does_15 22 rfl rfl)
theorem dX25_does_437 : decode cX25_does 437 = .ok (.iload_n 1, 1) := dk_27 (dk_at dksX25_does_15 23 rfl rfl)
theorem dX25_does_438 : decode cX25_does 438 = .ok (.lload 4, 2) := dk_22 4 (dk_at dksX25_does_16 0 rfl rfl)
theorem dX25_does_440 : decode cX25_does 440 = .ok (.invokevirtual 227, 3) := dk_182 0 227 (dk_at dksX25_does_16 2 rfl rfl)
theorem dX25_does_443 : decode cX25_does 443 = .ok (.goto 15, 3) := dk_167 0 15 (dk_at dksX25_does_16 5 rfl rfl)
theorem dX25_does_446 : decode cX25_does 446 = .ok (.aload_n 0, 1) := dk_42 (dk_at dksX25_does_16 8 rfl rfl)
theorem dX25_does_447 : decode cX25_does 447 = .ok (.iload_n 1, 1) := dk_27 (dk_at dksX25_does_16 9 rfl rfl)
theorem dX25_does_448 : decode cX25_does 448 = .ok (.lload 4, 2) := dk_22 4 (dk_at dksX25_does_16 10 rfl rfl)
theorem dX25_does_450 : decode cX25_does 450 = .ok (.iload 6, 2) := dk_21 6 (dk_at dksX25_does_16 12 rfl rfl)
theorem dX25_does_452 : decode cX25_does 452 = .ok (.invokevirtual 169, 3) := dk_182 0 169 (dk_at dksX25_does_16 14 rfl rfl)
theorem dX25_does_455 : decode cX25_does 455 = .ok (.goto 3, 3) := dk_167 0 3 (dk_at dksX25_does_16 17 rfl rfl)
theorem dX25_does_458 : decode cX25_does 458 = .ok (.aload_n 0, 1) := dk_42 (dk_at dksX25_does_16 20 rfl rfl)
theorem dX25_does_459 : decode cX25_does 459 = .ok (.getfield 41, 3) := dk_180 0 41 (dk_at dksX25_does_16 21 rfl rfl)
theorem dX25_does_462 : decode cX25_does 462 = .ok (.iload_n 1, 1) := dk_27 (dk_at dksX25_does_17 0 rfl rfl)
theorem dX25_does_463 : decode cX25_does 463 = .ok (.iaload, 1) := dk_46 (dk_at dksX25_does_17 1 rfl rfl)
theorem dX25_does_464 : decode cX25_does 464 = .ok (.iconst 3, 1) := dk_6 (dk_at dksX25_does_17 2 rfl rfl)
theorem dX25_does_465 : decode cX25_does 465 = .ok (.if_icmp .eq 16, 3) := dk_159 0 16 (dk_at dksX25_does_17 3 rfl rfl)
theorem dX25_does_468 : decode cX25_does 468 = .ok (.aload_n 0, 1) := dk_42 (dk_at dksX25_does_17 6 rfl rfl)
theorem dX25_does_469 : decode cX25_does 469 = .ok (.getfield 38, 3) := dk_180 0 38 (dk_at dksX25_does_17 7 rfl rfl)
theorem dX25_does_472 : decode cX25_does 472 = .ok (.iload_n 1, 1) := dk_27 (dk_at dksX25_does_17 10 rfl rfl)
theorem dX25_does_473 : decode cX25_does 473 = .ok (.iload 9, 2) := dk_21 9 (dk_at dksX25_does_17 11 rfl rfl)
theorem dX25_does_475 : decode cX25_does 475 = .ok (.iastore, 1) := dk_79 (dk_at dksX25_does_17 13 rfl rfl)
theorem dX25_does_476 : decode cX25_does 476 = .ok (.aload_n 0, 1) := dk_42 (dk_at dksX25_does_17 14 rfl rfl)
theorem dX25_does_477 : decode cX25_does 477 = .ok (.iload_n 1, 1) := dk_27 (dk_at dksX25_does_17 15 rfl rfl)
theorem dX25_does_478 : decode cX25_does 478 = .ok (.invokevirtual 165, 3) := dk_182 0 165 (dk_at dksX25_does_17 16 rfl rfl)
theorem dX25_does_481 : decode cX25_does 481 = .ok (.return_, 1) := dk_177 (dk_at dksX25_does_17 19 rfl rfl)
def dkwX25_push_1 : List UInt8 := [104, 42, 180, 0, 93, 27, 46, 96, 21, 4, 84, 42, 180, 0, 93, 27, 92, 46, 4, 96, 79, 177]
abbrev dktX25_push_1 : List UInt8 := dkwX25_push_1 ++ []
def dkwX25_push_0 : List UInt8 := [42, 180, 0, 87, 16, 12, 27, 104, 42, 180, 0, 93, 27, 46, 96, 32, 80, 42, 180, 0, 90, 16, 12, 27]
abbrev dktX25_push_0 : List UInt8 := dkwX25_push_0 ++ dktX25_push_1
theorem dksX25_push_0 : cX25_push.data.toList.drop 0 = dktX25_push_0 := by decide +kernel
theorem dksX25_push_1 : cX25_push.data.toList.drop 24 = dktX25_push_1 := dk_seg dksX25_push_0 24 rfl rfl
theorem dX25_push_0 : decode cX25_push 0 = .ok (.aload_n 0, 1) := dk_42 (dk_at dksX25_push_0 0 rfl rfl)
theorem dX25_push_1 : decode cX25_push 1 = .ok (.getfield 87, 3) := dk_180 0 87 (dk_at dksX25_push_0 1 rfl rfl)
theorem dX25_push_4 : decode cX25_push 4 = .ok (.bipush 12, 2) := dk_16 12 (dk_at dksX25_push_0 4 rfl rfl)
theorem dX25_push_6 : decode cX25_push 6 = .ok (.iload_n 1, 1) := dk_27 (dk_at dksX25_push_0 6 rfl rfl)
theorem dX25_push_7 : decode cX25_push 7 = .ok (.imul, 1) := dk_104 (dk_at dksX25_push_0 7 rfl rfl)
theorem dX25_push_8 : decode cX25_push 8 = .ok (.aload_n 0, 1) := dk_42 (dk_at dksX25_push_0 8 rfl rfl)
theorem dX25_push_9 : decode cX25_push 9 = .ok (.getfield 93, 3) := dk_180 0 93 (dk_at dksX25_push_0 9 rfl rfl)
theorem dX25_push_12 : decode cX25_push 12 = .ok (.iload_n 1, 1) := dk_27 (dk_at dksX25_push_0 12 rfl rfl)
theorem dX25_push_13 : decode cX25_push 13 = .ok (.iaload, 1) := dk_46 (dk_at dksX25_push_0 13 rfl rfl)
theorem dX25_push_14 : decode cX25_push 14 = .ok (.iadd, 1) := dk_96 (dk_at dksX25_push_0 14 rfl rfl)
theorem dX25_push_15 : decode cX25_push 15 = .ok (.lload_n 2, 1) := dk_32 (dk_at dksX25_push_0 15 rfl rfl)
theorem dX25_push_16 : decode cX25_push 16 = .ok (.lastore, 1) := dk_80 (dk_at dksX25_push_0 16 rfl rfl)
theorem dX25_push_17 : decode cX25_push 17 = .ok (.aload_n 0, 1) := dk_42 (dk_at dksX25_push_0 17 rfl rfl)
theorem dX25_push_18 : decode cX25_push 18 = .ok (.getfield 90, 3) := dk_180 0 90 (dk_at dksX25_push_0 18 rfl rfl)
theorem dX25_push_21 : decode cX25_push 21 = .ok (.bipush 12, 2) := dk_16 12 (dk_at dksX25_push_0 21 rfl rfl)
theorem dX25_push_23 : decode cX25_push 23 = .ok (.iload_n 1, 1) := dk_27 (dk_at dksX25_push_0 23 rfl rfl)
theorem dX25_push_24 : decode cX25_push 24 = .ok (.imul, 1) := dk_104 (dk_at dksX25_push_1 0 rfl rfl)
theorem dX25_push_25 : decode cX25_push 25 = .ok (.aload_n 0, 1) := dk_42 (dk_at dksX25_push_1 1 rfl rfl)
theorem dX25_push_26 : decode cX25_push 26 = .ok (.getfield 93, 3) := dk_180 0 93 (dk_at dksX25_push_1 2 rfl rfl)
theorem dX25_push_29 : decode cX25_push 29 = .ok (.iload_n 1, 1) := dk_27 (dk_at dksX25_push_1 5 rfl rfl)
theorem dX25_push_30 : decode cX25_push 30 = .ok (.iaload, 1) := dk_46 (dk_at dksX25_push_1 6 rfl rfl)
theorem dX25_push_31 : decode cX25_push 31 = .ok (.iadd, 1) := dk_96 (dk_at dksX25_push_1 7 rfl rfl)
theorem dX25_push_32 : decode cX25_push 32 = .ok (.iload 4, 2) := dk_21 4 (dk_at dksX25_push_1 8 rfl rfl)
theorem dX25_push_34 : decode cX25_push 34 = .ok (.bastore, 1) := dk_84 (dk_at dksX25_push_1 10 rfl rfl)
theorem dX25_push_35 : decode cX25_push 35 = .ok (.aload_n 0, 1) := dk_42 (dk_at dksX25_push_1 11 rfl rfl)
theorem dX25_push_36 : decode cX25_push 36 = .ok (.getfield 93, 3) := dk_180 0 93 (dk_at dksX25_push_1 12 rfl rfl)
theorem dX25_push_39 : decode cX25_push 39 = .ok (.iload_n 1, 1) := dk_27 (dk_at dksX25_push_1 15 rfl rfl)
theorem dX25_push_40 : decode cX25_push 40 = .ok (.dup2, 1) := dk_92 (dk_at dksX25_push_1 16 rfl rfl)
theorem dX25_push_41 : decode cX25_push 41 = .ok (.iaload, 1) := dk_46 (dk_at dksX25_push_1 17 rfl rfl)
theorem dX25_push_42 : decode cX25_push 42 = .ok (.iconst 1, 1) := dk_4 (dk_at dksX25_push_1 18 rfl rfl)
theorem dX25_push_43 : decode cX25_push 43 = .ok (.iadd, 1) := dk_96 (dk_at dksX25_push_1 19 rfl rfl)
theorem dX25_push_44 : decode cX25_push 44 = .ok (.iastore, 1) := dk_79 (dk_at dksX25_push_1 20 rfl rfl)
theorem dX25_push_45 : decode cX25_push 45 = .ok (.return_, 1) := dk_177 (dk_at dksX25_push_1 21 rfl rfl)
def dkwX25_readFrom_1 : List UInt8 := [180, 0, 108, 16, 16, 29, 104, 28, 96, 47, 173, 42, 180, 0, 102, 29, 46, 62, 167, 255, 217, 9, 173]
abbrev dktX25_readFrom_1 : List UInt8 := dkwX25_readFrom_1 ++ []
def dkwX25_readFrom_0 : List UInt8 := [27, 62, 29, 16, 252, 159, 0, 39, 42, 180, 0, 105, 16, 16, 29, 104, 28, 96, 51, 153, 0, 15, 42]
abbrev dktX25_readFrom_0 : List UInt8 := dkwX25_readFrom_0 ++ dktX25_readFrom_1
theorem dksX25_readFrom_0 : cX25_readFrom.data.toList.drop 0 = dktX25_readFrom_0 := by decide +kernel
theorem dksX25_readFrom_1 : cX25_readFrom.data.toList.drop 23 = dktX25_readFrom_1 := dk_seg dksX25_readFrom_0 23 rfl rfl
theorem dX25_readFrom_0 : decode cX25_readFrom 0 = .ok (.iload_n 1, 1) := dk_27 (dk_at dksX25_readFrom_0 0 rfl rfl)
theorem dX25_readFrom_1 : decode cX25_readFrom 1 = .ok (.istore_n 3, 1) := dk_62 (dk_at dksX25_readFrom_0 1 rfl rfl)
theorem dX25_readFrom_2 : decode cX25_readFrom 2 = .ok (.iload_n 3, 1) := dk_29 (dk_at dksX25_readFrom_0 2 rfl rfl)
theorem dX25_readFrom_3 : decode cX25_readFrom 3 = .ok (.bipush (-4), 2) := dk_16 252 (dk_at dksX25_readFrom_0 3 rfl rfl)
theorem dX25_readFrom_5 : decode cX25_readFrom 5 = .ok (.if_icmp .eq 39, 3) := dk_159 0 39 (dk_at dksX25_readFrom_0 5 rfl rfl)
theorem dX25_readFrom_8 : decode cX25_readFrom 8 = .ok (.aload_n 0, 1) := dk_42 (dk_at dksX25_readFrom_0 8 rfl rfl)
theorem dX25_readFrom_9 : decode cX25_readFrom 9 = .ok (.getfield 105, 3) := dk_180 0 105 (dk_at dksX25_readFrom_0 9 rfl rfl)
theorem dX25_readFrom_12 : decode cX25_readFrom 12 = .ok (.bipush 16, 2) := dk_16 16 (dk_at dksX25_readFrom_0 12 rfl rfl)
theorem dX25_readFrom_14 : decode cX25_readFrom 14 = .ok (.iload_n 3, 1) := dk_29 (dk_at dksX25_readFrom_0 14 rfl rfl)
theorem dX25_readFrom_15 : decode cX25_readFrom 15 = .ok (.imul, 1) := dk_104 (dk_at dksX25_readFrom_0 15 rfl rfl)
theorem dX25_readFrom_16 : decode cX25_readFrom 16 = .ok (.iload_n 2, 1) := dk_28 (dk_at dksX25_readFrom_0 16 rfl rfl)
theorem dX25_readFrom_17 : decode cX25_readFrom 17 = .ok (.iadd, 1) := dk_96 (dk_at dksX25_readFrom_0 17 rfl rfl)
theorem dX25_readFrom_18 : decode cX25_readFrom 18 = .ok (.baload, 1) := dk_51 (dk_at dksX25_readFrom_0 18 rfl rfl)
theorem dX25_readFrom_19 : decode cX25_readFrom 19 = .ok (.ifCond .eq 15, 3) := dk_153 0 15 (dk_at dksX25_readFrom_0 19 rfl rfl)
theorem dX25_readFrom_22 : decode cX25_readFrom 22 = .ok (.aload_n 0, 1) := dk_42 (dk_at dksX25_readFrom_0 22 rfl rfl)
theorem dX25_readFrom_23 : decode cX25_readFrom 23 = .ok (.getfield 108, 3) := dk_180 0 108 (dk_at dksX25_readFrom_1 0 rfl rfl)
theorem dX25_readFrom_26 : decode cX25_readFrom 26 = .ok (.bipush 16, 2) := dk_16 16 (dk_at dksX25_readFrom_1 3 rfl rfl)
theorem dX25_readFrom_28 : decode cX25_readFrom 28 = .ok (.iload_n 3, 1) := dk_29 (dk_at dksX25_readFrom_1 5 rfl rfl)
theorem dX25_readFrom_29 : decode cX25_readFrom 29 = .ok (.imul, 1) := dk_104 (dk_at dksX25_readFrom_1 6 rfl rfl)
theorem dX25_readFrom_30 : decode cX25_readFrom 30 = .ok (.iload_n 2, 1) := dk_28 (dk_at dksX25_readFrom_1 7 rfl rfl)
theorem dX25_readFrom_31 : decode cX25_readFrom 31 = .ok (.iadd, 1) := dk_96 (dk_at dksX25_readFrom_1 8 rfl rfl)
theorem dX25_readFrom_32 : decode cX25_readFrom 32 = .ok (.laload, 1) := dk_47 (dk_at dksX25_readFrom_1 9 rfl rfl)
theorem dX25_readFrom_33 : decode cX25_readFrom 33 = .ok (.lreturn, 1) := dk_173 (dk_at dksX25_readFrom_1 10 rfl rfl)
theorem dX25_readFrom_34 : decode cX25_readFrom 34 = .ok (.aload_n 0, 1) := dk_42 (dk_at dksX25_readFrom_1 11 rfl rfl)
theorem dX25_readFrom_35 : decode cX25_readFrom 35 = .ok (.getfield 102, 3) := dk_180 0 102 (dk_at dksX25_readFrom_1 12 rfl rfl)
theorem dX25_readFrom_38 : decode cX25_readFrom 38 = .ok (.iload_n 3, 1) := dk_29 (dk_at dksX25_readFrom_1 15 rfl rfl)
theorem dX25_readFrom_39 : decode cX25_readFrom 39 = .ok (.iaload, 1) := dk_46 (dk_at dksX25_readFrom_1 16 rfl rfl)
theorem dX25_readFrom_40 : decode cX25_readFrom 40 = .ok (.istore_n 3, 1) := dk_62 (dk_at dksX25_readFrom_1 17 rfl rfl)
theorem dX25_readFrom_41 : decode cX25_readFrom 41 = .ok (.goto (-39), 3) := dk_167 255 217 (dk_at dksX25_readFrom_1 18 rfl rfl)
theorem dX25_readFrom_44 : decode cX25_readFrom 44 = .ok (.lconst 0, 1) := dk_9 (dk_at dksX25_readFrom_1 21 rfl rfl)
theorem dX25_readFrom_45 : decode cX25_readFrom 45 = .ok (.lreturn, 1) := dk_173 (dk_at dksX25_readFrom_1 22 rfl rfl)
def dkwX25_write_1 : List UInt8 := [180, 0, 62, 27, 46, 104, 28, 96, 33, 80, 177]
abbrev dktX25_write_1 : List UInt8 := dkwX25_write_1 ++ []
def dkwX25_write_0 : List UInt8 := [42, 180, 0, 105, 16, 16, 42, 180, 0, 62, 27, 46, 104, 28, 96, 4, 84, 42, 180, 0, 108, 16, 16, 42]
abbrev dktX25_write_0 : List UInt8 := dkwX25_write_0 ++ dktX25_write_1
theorem dksX25_write_0 : cX25_write.data.toList.drop 0 = dktX25_write_0 := by decide +kernel
theorem dksX25_write_1 : cX25_write.data.toList.drop 24 = dktX25_write_1 := dk_seg dksX25_write_0 24 rfl rfl
theorem dX25_write_0 : decode cX25_write 0 = .ok (.aload_n 0, 1) := dk_42 (dk_at dksX25_write_0 0 rfl rfl)
theorem dX25_write_1 : decode cX25_write 1 = .ok (.getfield 105, 3) := dk_180 0 105 (dk_at dksX25_write_0 1 rfl rfl)
theorem dX25_write_4 : decode cX25_write 4 = .ok (.bipush 16, 2) := dk_16 16 (dk_at dksX25_write_0 4 rfl rfl)
theorem dX25_write_6 : decode cX25_write 6 = .ok (.aload_n 0, 1) := dk_42 (dk_at dksX25_write_0 6 rfl rfl)
theorem dX25_write_7 : decode cX25_write 7 = .ok (.getfield 62, 3) := dk_180 0 62 (dk_at dksX25_write_0 7 rfl rfl)
theorem dX25_write_10 : decode cX25_write 10 = .ok (.iload_n 1, 1) := dk_27 (dk_at dksX25_write_0 10 rfl rfl)
theorem dX25_write_11 : decode cX25_write 11 = .ok (.iaload, 1) := dk_46 (dk_at dksX25_write_0 11 rfl rfl)
theorem dX25_write_12 : decode cX25_write 12 = .ok (.imul, 1) := dk_104 (dk_at dksX25_write_0 12 rfl rfl)
theorem dX25_write_13 : decode cX25_write 13 = .ok (.iload_n 2, 1) := dk_28 (dk_at dksX25_write_0 13 rfl rfl)
theorem dX25_write_14 : decode cX25_write 14 = .ok (.iadd, 1) := dk_96 (dk_at dksX25_write_0 14 rfl rfl)
theorem dX25_write_15 : decode cX25_write 15 = .ok (.iconst 1, 1) := dk_4 (dk_at dksX25_write_0 15 rfl rfl)
theorem dX25_write_16 : decode cX25_write 16 = .ok (.bastore, 1) := dk_84 (dk_at dksX25_write_0 16 rfl rfl)
theorem dX25_write_17 : decode cX25_write 17 = .ok (.aload_n 0, 1) := dk_42 (dk_at dksX25_write_0 17 rfl rfl)
theorem dX25_write_18 : decode cX25_write 18 = .ok (.getfield 108, 3) := dk_180 0 108 (dk_at dksX25_write_0 18 rfl rfl)
theorem dX25_write_21 : decode cX25_write 21 = .ok (.bipush 16, 2) := dk_16 16 (dk_at dksX25_write_0 21 rfl rfl)
theorem dX25_write_23 : decode cX25_write 23 = .ok (.aload_n 0, 1) := dk_42 (dk_at dksX25_write_0 23 rfl rfl)
theorem dX25_write_24 : decode cX25_write 24 = .ok (.getfield 62, 3) := dk_180 0 62 (dk_at dksX25_write_1 0 rfl rfl)
theorem dX25_write_27 : decode cX25_write 27 = .ok (.iload_n 1, 1) := dk_27 (dk_at dksX25_write_1 3 rfl rfl)
theorem dX25_write_28 : decode cX25_write 28 = .ok (.iaload, 1) := dk_46 (dk_at dksX25_write_1 4 rfl rfl)
theorem dX25_write_29 : decode cX25_write 29 = .ok (.imul, 1) := dk_104 (dk_at dksX25_write_1 5 rfl rfl)
theorem dX25_write_30 : decode cX25_write 30 = .ok (.iload_n 2, 1) := dk_28 (dk_at dksX25_write_1 6 rfl rfl)
theorem dX25_write_31 : decode cX25_write 31 = .ok (.iadd, 1) := dk_96 (dk_at dksX25_write_1 7 rfl rfl)
theorem dX25_write_32 : decode cX25_write 32 = .ok (.lload_n 3, 1) := dk_33 (dk_at dksX25_write_1 8 rfl rfl)
theorem dX25_write_33 : decode cX25_write 33 = .ok (.lastore, 1) := dk_80 (dk_at dksX25_write_1 9 rfl rfl)
theorem dX25_write_34 : decode cX25_write 34 = .ok (.return_, 1) := dk_177 (dk_at dksX25_write_1 10 rfl rfl)
def dkwX25_forkAt_2 : List UInt8 := [21, 5, 21, 7, 21, 6, 182, 0, 183, 42, 27, 21, 8, 133, 4, 182, 0, 209, 177]
abbrev dktX25_forkAt_2 : List UInt8 := dkwX25_forkAt_2 ++ []
def dkwX25_forkAt_1 : List UInt8 := [21, 6, 182, 0, 179, 79, 42, 21, 6, 182, 0, 179, 54, 7, 42, 180, 0, 160, 54, 8, 42, 28, 27, 33]
abbrev dktX25_forkAt_1 : List UInt8 := dkwX25_forkAt_1 ++ dktX25_forkAt_2
def dkwX25_forkAt_0 : List UInt8 := [42, 180, 0, 62, 27, 46, 54, 6, 42, 180, 0, 50, 27, 92, 46, 4, 96, 79, 42, 180, 0, 62, 27, 42]
abbrev dktX25_forkAt_0 : List UInt8 := dkwX25_forkAt_0 ++ dktX25_forkAt_1
theorem dksX25_forkAt_0 : cX25_forkAt.data.toList.drop 0 = dktX25_forkAt_0 := by decide +kernel
theorem dksX25_forkAt_1 : cX25_forkAt.data.toList.drop 24 = dktX25_forkAt_1 := dk_seg dksX25_forkAt_0 24 rfl rfl
theorem dksX25_forkAt_2 : cX25_forkAt.data.toList.drop 48 = dktX25_forkAt_2 := dk_seg dksX25_forkAt_1 24 rfl rfl
theorem dX25_forkAt_0 : decode cX25_forkAt 0 = .ok (.aload_n 0, 1) := dk_42 (dk_at dksX25_forkAt_0 0 rfl rfl)
theorem dX25_forkAt_1 : decode cX25_forkAt 1 = .ok (.getfield 62, 3) := dk_180 0 62 (dk_at dksX25_forkAt_0 1 rfl rfl)
theorem dX25_forkAt_4 : decode cX25_forkAt 4 = .ok (.iload_n 1, 1) := dk_27 (dk_at dksX25_forkAt_0 4 rfl rfl)
theorem dX25_forkAt_5 : decode cX25_forkAt 5 = .ok (.iaload, 1) := dk_46 (dk_at dksX25_forkAt_0 5 rfl rfl)
theorem dX25_forkAt_6 : decode cX25_forkAt 6 = .ok (.istore 6, 2) := dk_54 6 (dk_at dksX25_forkAt_0 6 rfl rfl)
theorem dX25_forkAt_8 : decode cX25_forkAt 8 = .ok (.aload_n 0, 1) := dk_42 (dk_at dksX25_forkAt_0 8 rfl rfl)
theorem dX25_forkAt_9 : decode cX25_forkAt 9 = .ok (.getfield 50, 3) := dk_180 0 50 (dk_at dksX25_forkAt_0 9 rfl rfl)
theorem dX25_forkAt_12 : decode cX25_forkAt 12 = .ok (.iload_n 1, 1) := dk_27 (dk_at dksX25_forkAt_0 12 rfl rfl)
theorem dX25_forkAt_13 : decode cX25_forkAt 13 = .ok (.dup2, 1) := dk_92 (dk_at dksX25_forkAt_0 13 rfl rfl)
theorem dX25_forkAt_14 : decode cX25_forkAt 14 = .ok (.iaload, 1) := dk_46 (dk_at dksX25_forkAt_0 14 rfl rfl)
theorem dX25_forkAt_15 : decode cX25_forkAt 15 = .ok (.iconst 1, 1) := dk_4 (dk_at dksX25_forkAt_0 15 rfl rfl)
theorem dX25_forkAt_16 : decode cX25_forkAt 16 = .ok (.iadd, 1) := dk_96 (dk_at dksX25_forkAt_0 16 rfl rfl)
theorem dX25_forkAt_17 : decode cX25_forkAt 17 = .ok (.iastore, 1) := dk_79 (dk_at dksX25_forkAt_0 17 rfl rfl)
theorem dX25_forkAt_18 : decode cX25_forkAt 18 = .ok (.aload_n 0, 1) := dk_42 (dk_at dksX25_forkAt_0 18 rfl rfl)
theorem dX25_forkAt_19 : decode cX25_forkAt 19 = .ok (.getfield 62, 3) := dk_180 0 62 (dk_at dksX25_forkAt_0 19 rfl rfl)
theorem dX25_forkAt_22 : decode cX25_forkAt 22 = .ok (.iload_n 1, 1) := dk_27 (dk_at dksX25_forkAt_0 22 rfl rfl)
theorem dX25_forkAt_23 : decode cX25_forkAt 23 = .ok (.aload_n 0, 1) := dk_42 (dk_at dksX25_forkAt_0 23 rfl rfl)
theorem dX25_forkAt_24 : decode cX25_forkAt 24 = .ok (.iload 6, 2) := dk_21 6 (dk_at dksX25_forkAt_1 0 rfl rfl)
theorem dX25_forkAt_26 : decode cX25_forkAt 26 = .ok (.invokevirtual 179, 3) := dk_182 0 179 (dk_at dksX25_forkAt_1 2 rfl rfl)
theorem dX25_forkAt_29 : decode cX25_forkAt 29 = .ok (.iastore, 1) := dk_79 (dk_at dksX25_forkAt_1 5 rfl rfl)
theorem dX25_forkAt_30 : decode cX25_forkAt 30 = .ok (.aload_n 0, 1) := dk_42 (dk_at dksX25_forkAt_1 6 rfl rfl)
theorem dX25_forkAt_31 : decode cX25_forkAt 31 = .ok (.iload 6, 2) := dk_21 6 (dk_at dksX25_forkAt_1 7 rfl rfl)
theorem dX25_forkAt_33 : decode cX25_forkAt 33 = .ok (.invokevirtual 179, 3) := dk_182 0 179 (dk_at dksX25_forkAt_1 9 rfl rfl)
theorem dX25_forkAt_36 : decode cX25_forkAt 36 = .ok (.istore 7, 2) := dk_54 7 (dk_at dksX25_forkAt_1 12 rfl rfl)
theorem dX25_forkAt_38 : decode cX25_forkAt 38 = .ok (.aload_n 0, 1) := dk_42 (dk_at dksX25_forkAt_1 14 rfl rfl)
theorem dX25_forkAt_39 : decode cX25_forkAt 39 = .ok (.getfield 160, 3) := dk_180 0 160 (dk_at dksX25_forkAt_1 15 rfl rfl)
theorem dX25_forkAt_42 : decode cX25_forkAt 42 = .ok (.istore 8, 2) := dk_54 8 (dk_at dksX25_forkAt_1 18 rfl rfl)
theorem dX25_forkAt_44 : decode cX25_forkAt 44 = .ok (.aload_n 0, 1) := dk_42 (dk_at dksX25_forkAt_1 20 rfl rfl)
theorem dX25_forkAt_45 : decode cX25_forkAt 45 = .ok (.iload_n 2, 1) := dk_28 (dk_at dksX25_forkAt_1 21 rfl rfl)
theorem dX25_forkAt_46 : decode cX25_forkAt 46 = .ok (.iload_n 1, 1) := dk_27 (dk_at dksX25_forkAt_1 22 rfl rfl)
theorem dX25_forkAt_47 : decode cX25_forkAt 47 = .ok (.lload_n 3, 1) := dk_33 (dk_at dksX25_forkAt_1 23 rfl rfl)
theorem dX25_forkAt_48 : decode cX25_forkAt 48 = .ok (.iload 5, 2) := dk_21 5 (dk_at dksX25_forkAt_2 0 rfl rfl)
theorem dX25_forkAt_50 : decode cX25_forkAt 50 = .ok (.iload 7, 2) := dk_21 7 (dk_at dksX25_forkAt_2 2 rfl rfl)
theorem dX25_forkAt_52 : decode cX25_forkAt 52 = .ok (.iload 6, 2) := dk_21 6 (dk_at dksX25_forkAt_2 4 rfl rfl)
theorem dX25_forkAt_54 : decode cX25_forkAt 54 = .ok (.invokevirtual 183, 3) := dk_182 0 183 (dk_at dksX25_forkAt_2 6 rfl rfl)
theorem dX25_forkAt_57 : decode cX25_forkAt 57 = .ok (.aload_n 0, 1) := dk_42 (dk_at dksX25_forkAt_2 9 rfl rfl)
theorem dX25_forkAt_58 : decode cX25_forkAt 58 = .ok (.iload_n 1, 1) := dk_27 (dk_at dksX25_forkAt_2 10 rfl rfl)
theorem dX25_forkAt_59 : decode cX25_forkAt 59 = .ok (.iload 8, 2) := dk_21 8 (dk_at dksX25_forkAt_2 11 rfl rfl)
theorem dX25_forkAt_61 : decode cX25_forkAt 61 = .ok (.i2l, 1) := dk_133 (dk_at dksX25_forkAt_2 13 rfl rfl)
theorem dX25_forkAt_62 : decode cX25_forkAt 62 = .ok (.iconst 1, 1) := dk_4 (dk_at dksX25_forkAt_2 14 rfl rfl)
theorem dX25_forkAt_63 : decode cX25_forkAt 63 = .ok (.invokevirtual 209, 3) := dk_182 0 209 (dk_at dksX25_forkAt_2 15 rfl rfl)
theorem dX25_forkAt_66 : decode cX25_forkAt 66 = .ok (.return_, 1) := dk_177 (dk_at dksX25_forkAt_2 18 rfl rfl)
def dkwX25_joins_11 : List UInt8 := [42, 180, 0, 75, 28, 47, 42, 180, 0, 78, 28, 51, 182, 0, 209, 177]
abbrev dktX25_joins_11 : List UInt8 := dkwX25_joins_11 ++ []
def dkwX25_joins_10 : List UInt8 := [182, 0, 231, 182, 0, 216, 42, 89, 180, 0, 176, 4, 96, 181, 0, 176, 132, 4, 1, 167, 255, 103, 42, 27]
abbrev dktX25_joins_10 : List UInt8 := dkwX25_joins_10 ++ dktX25_joins_11
def dkwX25_joins_9 : List UInt8 := [182, 0, 212, 55, 10, 42, 27, 21, 4, 42, 42, 180, 0, 28, 21, 4, 46, 22, 6, 22, 10, 22, 8]
abbrev dktX25_joins_9 : List UInt8 := dkwX25_joins_9 ++ dktX25_joins_10
def dkwX25_joins_8 : List UInt8 := [42, 42, 180, 0, 62, 28, 46, 21, 4, 182, 0, 212, 55, 8, 42, 42, 180, 0, 62, 27, 46, 21, 4]
abbrev dktX25_joins_8 : List UInt8 := dkwX25_joins_8 ++ dktX25_joins_9
def dkwX25_joins_7 : List UInt8 := [54, 6, 167, 255, 208, 21, 5, 153, 0, 79, 42, 42, 180, 0, 65, 28, 46, 21, 4, 182, 0, 212, 55, 6]
abbrev dktX25_joins_7 : List UInt8 := dkwX25_joins_7 ++ dktX25_joins_8
def dkwX25_joins_6 : List UInt8 := [21, 6, 104, 21, 4, 96, 51, 153, 0, 7, 4, 167, 0, 4, 3, 54, 5, 42, 180, 0, 102, 21, 6, 46]
abbrev dktX25_joins_6 : List UInt8 := dkwX25_joins_6 ++ dktX25_joins_7
def dkwX25_joins_5 : List UInt8 := [54, 6, 21, 6, 42, 180, 0, 65, 28, 46, 159, 0, 43, 21, 5, 154, 0, 19, 42, 180, 0, 105, 16, 16]
abbrev dktX25_joins_5 : List UInt8 := dkwX25_joins_5 ++ dktX25_joins_6
def dkwX25_joins_4 : List UInt8 := [46, 182, 0, 192, 177, 3, 54, 4, 21, 4, 16, 16, 162, 0, 152, 3, 54, 5, 42, 180, 0, 62, 28, 46]
abbrev dktX25_joins_4 : List UInt8 := dkwX25_joins_4 ++ dktX25_joins_5
def dkwX25_joins_3 : List UInt8 := [21, 4, 96, 47, 182, 0, 227, 132, 4, 1, 167, 255, 225, 29, 153, 0, 15, 42, 27, 42, 180, 0, 44, 28]
abbrev dktX25_joins_3 : List UInt8 := dkwX25_joins_3 ++ dktX25_joins_4
def dkwX25_joins_2 : List UInt8 := [54, 4, 21, 4, 42, 180, 0, 99, 28, 46, 162, 0, 26, 42, 27, 42, 180, 0, 96, 16, 60, 28, 104]
abbrev dktX25_joins_2 : List UInt8 := dkwX25_joins_2 ++ dktX25_joins_3
def dkwX25_joins_1 : List UInt8 := [180, 0, 68, 27, 20, 0, 190, 42, 180, 0, 68, 27, 47, 105, 42, 180, 0, 68, 28, 47, 97, 80, 3]
abbrev dktX25_joins_1 : List UInt8 := dkwX25_joins_1 ++ dktX25_joins_2
def dkwX25_joins_0 : List UInt8 := [42, 180, 0, 41, 28, 46, 6, 160, 0, 7, 4, 167, 0, 4, 3, 62, 42, 180, 0, 41, 28, 7, 79, 42]
abbrev dktX25_joins_0 : List UInt8 := dkwX25_joins_0 ++ dktX25_joins_1
theorem dksX25_joins_0 : cX25_joins.data.toList.drop 0 = dktX25_joins_0 := by decide +kernel
theorem dksX25_joins_1 : cX25_joins.data.toList.drop 24 = dktX25_joins_1 := dk_seg dksX25_joins_0 24 rfl rfl
theorem dksX25_joins_2 : cX25_joins.data.toList.drop 47 = dktX25_joins_2 := dk_seg dksX25_joins_1 23 rfl rfl
theorem dksX25_joins_3 : cX25_joins.data.toList.drop 70 = dktX25_joins_3 := dk_seg dksX25_joins_2 23 rfl rfl
theorem dksX25_joins_4 : cX25_joins.data.toList.drop 94 = dktX25_joins_4 := dk_seg dksX25_joins_3 24 rfl rfl
theorem dksX25_joins_5 : cX25_joins.data.toList.drop 118 = dktX25_joins_5 := dk_seg dksX25_joins_4 24 rfl rfl
theorem dksX25_joins_6 : cX25_joins.data.toList.drop 142 = dktX25_joins_6 := dk_seg dksX25_joins_5 24 rfl rfl
theorem dksX25_joins_7 : cX25_joins.data.toList.drop 166 = dktX25_joins_7 := dk_seg dksX25_joins_6 24 rfl rfl
theorem dksX25_joins_8 : cX25_joins.data.toList.drop 190 = dktX25_joins_8 := dk_seg dksX25_joins_7 24 rfl rfl
theorem dksX25_joins_9 : cX25_joins.data.toList.drop 213 = dktX25_joins_9 := dk_seg dksX25_joins_8 23 rfl rfl
theorem dksX25_joins_10 : cX25_joins.data.toList.drop 236 = dktX25_joins_10 := dk_seg dksX25_joins_9 23 rfl rfl
theorem dksX25_joins_11 : cX25_joins.data.toList.drop 260 = dktX25_joins_11 := dk_seg dksX25_joins_10 24 rfl rfl
theorem dX25_joins_0 : decode cX25_joins 0 = .ok (.aload_n 0, 1) := dk_42 (dk_at dksX25_joins_0 0 rfl rfl)
theorem dX25_joins_1 : decode cX25_joins 1 = .ok (.getfield 41, 3) := dk_180 0 41 (dk_at dksX25_joins_0 1 rfl rfl)
theorem dX25_joins_4 : decode cX25_joins 4 = .ok (.iload_n 2, 1) := dk_28 (dk_at dksX25_joins_0 4 rfl rfl)
theorem dX25_joins_5 : decode cX25_joins 5 = .ok (.iaload, 1) := dk_46 (dk_at dksX25_joins_0 5 rfl rfl)
theorem dX25_joins_6 : decode cX25_joins 6 = .ok (.iconst 3, 1) := dk_6 (dk_at dksX25_joins_0 6 rfl rfl)
theorem dX25_joins_7 : decode cX25_joins 7 = .ok (.if_icmp .ne 7, 3) := dk_160 0 7 (dk_at dksX25_joins_0 7 rfl rfl)
theorem dX25_joins_10 : decode cX25_joins 10 = .ok (.iconst 1, 1) := dk_4 (dk_at dksX25_joins_0 10 rfl rfl)
theorem dX25_joins_11 : decode cX25_joins 11 = .ok (.goto 4, 3) := dk_167 0 4 (dk_at dksX25_joins_0 11 rfl rfl)
theorem dX25_joins_14 : decode cX25_joins 14 = .ok (.iconst 0, 1) := dk_3 (dk_at dksX25_joins_0 14 rfl rfl)
theorem dX25_joins_15 : decode cX25_joins 15 = .ok (.istore_n 3, 1) := dk_62 (dk_at dksX25_joins_0 15 rfl rfl)
theorem dX25_joins_16 : decode cX25_joins 16 = .ok (.aload_n 0, 1) := dk_42 (dk_at dksX25_joins_0 16 rfl rfl)
theorem dX25_joins_17 : decode cX25_joins 17 = .ok (.getfield 41, 3) := dk_180 0 41 (dk_at dksX25_joins_0 17 rfl rfl)
theorem dX25_joins_20 : decode cX25_joins 20 = .ok (.iload_n 2, 1) := dk_28 (dk_at dksX25_joins_0 20 rfl rfl)
theorem dX25_joins_21 : decode cX25_joins 21 = .ok (.iconst 4, 1) := dk_7 (dk_at dksX25_joins_0 21 rfl rfl)
theorem dX25_joins_22 : decode cX25_joins 22 = .ok (.iastore, 1) := dk_79 (dk_at dksX25_joins_0 22 rfl rfl)
theorem dX25_joins_23 : decode cX25_joins 23 = .ok (.aload_n 0, 1) := dk_42 (dk_at dksX25_joins_0 23 rfl rfl)
theorem dX25_joins_24 : decode cX25_joins 24 = .ok (.getfield 68, 3) := dk_180 0 68 (dk_at dksX25_joins_1 0 rfl rfl)
theorem dX25_joins_27 : decode cX25_joins 27 = .ok (.iload_n 1, 1) := dk_27 (dk_at dksX25_joins_1 3 rfl rfl)
theorem dX25_joins_28 : decode cX25_joins 28 = .ok (.ldc2_w 190, 3) := dk_20 0 190 (dk_at dksX25_joins_1 4 rfl rfl)
theorem dX25_joins_31 : decode cX25_joins 31 = .ok (.aload_n 0, 1) := dk_42 (dk_at dksX25_joins_1 7 rfl rfl)
theorem dX25_joins_32 : decode cX25_joins 32 = .ok (.getfield 68, 3) := dk_180 0 68 (dk_at dksX25_joins_1 8 rfl rfl)
theorem dX25_joins_35 : decode cX25_joins 35 = .ok (.iload_n 1, 1) := dk_27 (dk_at dksX25_joins_1 11 rfl rfl)
theorem dX25_joins_36 : decode cX25_joins 36 = .ok (.laload, 1) := dk_47 (dk_at dksX25_joins_1 12 rfl rfl)
theorem dX25_joins_37 : decode cX25_joins 37 = .ok (.lmul, 1) := dk_105 (dk_at dksX25_joins_1 13 rfl rfl)
theorem dX25_joins_38 : decode cX25_joins 38 = .ok (.aload_n 0, 1) := dk_42 (dk_at dksX25_joins_1 14 rfl rfl)
theorem dX25_joins_39 : decode cX25_joins 39 = .ok (.getfield 68, 3) := dk_180 0 68 (dk_at dksX25_joins_1 15 rfl rfl)
theorem dX25_joins_42 : decode cX25_joins 42 = .ok (.iload_n 2, 1) := dk_28 (dk_at dksX25_joins_1 18 rfl rfl)
theorem dX25_joins_43 : decode cX25_joins 43 = .ok (.laload, 1) := dk_47 (dk_at dksX25_joins_1 19 rfl rfl)
theorem dX25_joins_44 : decode cX25_joins 44 = .ok (.ladd, 1) := dk_97 (dk_at dksX25_joins_1 20 rfl rfl)
theorem dX25_joins_45 : decode cX25_joins 45 = .ok (.lastore, 1) := dk_80 (dk_at dksX25_joins_1 21 rfl rfl)
theorem dX25_joins_46 : decode cX25_joins 46 = .ok (.iconst 0, 1) := dk_3 (dk_at dksX25_joins_1 22 rfl rfl)
theorem dX25_joins_47 : decode cX25_joins 47 = .ok (.istore 4, 2) := dk_54 4 (dk_at dksX25_joins_2 0 rfl rfl)
theorem dX25_joins_49 : decode cX25_joins 49 = .ok (.iload 4, 2) := dk_21 4 (dk_at dksX25_joins_2 2 rfl rfl)
theorem dX25_joins_51 : decode cX25_joins 51 = .ok (.aload_n 0, 1) := dk_42 (dk_at dksX25_joins_2 4 rfl rfl)
theorem dX25_joins_52 : decode cX25_joins 52 = .ok (.getfield 99, 3) := dk_180 0 99 (dk_at dksX25_joins_2 5 rfl rfl)
theorem dX25_joins_55 : decode cX25_joins 55 = .ok (.iload_n 2, 1) := dk_28 (dk_at dksX25_joins_2 8 rfl rfl)
theorem dX25_joins_56 : decode cX25_joins 56 = .ok (.iaload, 1) := dk_46 (dk_at dksX25_joins_2 9 rfl rfl)
theorem dX25_joins_57 : decode cX25_joins 57 = .ok (.if_icmp .ge 26, 3) := dk_162 0 26 (dk_at dksX25_joins_2 10 rfl rfl)
theorem dX25_joins_60 : decode cX25_joins 60 = .ok (.aload_n 0, 1) := dk_42 (dk_at dksX25_joins_2 13 rfl rfl)
theorem dX25_joins_61 : decode cX25_joins 61 = .ok (.iload_n 1, 1) := dk_27 (dk_at dksX25_joins_2 14 rfl rfl)
theorem dX25_joins_62 : decode cX25_joins 62 = .ok (.aload_n 0, 1) := dk_42 (dk_at dksX25_joins_2 15 rfl rfl)
theorem dX25_joins_63 : decode cX25_joins 63 = .ok (.getfield 96, 3) := dk_180 0 96 (dk_at dksX25_joins_2 16 rfl rfl)
theorem dX25_joins_66 : decode cX25_joins 66 = .ok (.bipush 60, 2) := dk_16 60 (dk_at dksX25_joins_2 19 rfl rfl)
theorem dX25_joins_68 : decode cX25_joins 68 = .ok (.iload_n 2, 1) := dk_28 (dk_at dksX25_joins_2 21 rfl rfl)
theorem dX25_joins_69 : decode cX25_joins 69 = .ok (.imul, 1) := dk_104 (dk_at dksX25_joins_2 22 rfl rfl)
theorem dX25_joins_70 : decode cX25_joins 70 = .ok (.iload 4, 2) := dk_21 4 (dk_at dksX25_joins_3 0 rfl rfl)
theorem dX25_joins_72 : decode cX25_joins 72 = .ok (.iadd, 1) := dk_96 (dk_at dksX25_joins_3 2 rfl rfl)
theorem dX25_joins_73 : decode cX25_joins 73 = .ok (.laload, 1) := dk_47 (dk_at dksX25_joins_3 3 rfl rfl)
theorem dX25_joins_74 : decode cX25_joins 74 = .ok (.invokevirtual 227, 3) := dk_182 0 227 (dk_at dksX25_joins_3 4 rfl rfl)
theorem dX25_joins_77 : decode cX25_joins 77 = .ok (.iinc 4 1, 3) := dk_132 4 1 (dk_at dksX25_joins_3 7 rfl rfl)
theorem dX25_joins_80 : decode cX25_joins 80 = .ok (.goto (-31), 3) := dk_167 255 225 (dk_at dksX25_joins_3 10 rfl rfl)
theorem dX25_joins_83 : decode cX25_joins 83 = .ok (.iload_n 3, 1) := dk_29 (dk_at dksX25_joins_3 13 rfl rfl)
theorem dX25_joins_84 : decode cX25_joins 84 = .ok (.ifCond .eq 15, 3) := dk_153 0 15 (dk_at dksX25_joins_3 14 rfl rfl)
theorem dX25_joins_87 : decode cX25_joins 87 = .ok (.aload_n 0, 1) := dk_42 (dk_at dksX25_joins_3 17 rfl rfl)
theorem dX25_joins_88 : decode cX25_joins 88 = .ok (.iload_n 1, 1) := dk_27 (dk_at dksX25_joins_3 18 rfl rfl)
theorem dX25_joins_89 : decode cX25_joins 89 = .ok (.aload_n 0, 1) := dk_42 (dk_at dksX25_joins_3 19 rfl rfl)
theorem dX25_joins_90 : decode cX25_joins 90 = .ok (.getfield 44, 3) := dk_180 0 44 (dk_at dksX25_joins_3 20 rfl rfl)
theorem dX25_joins_93 : decode cX25_joins 93 = .ok (.iload_n 2, 1) := dk_28 (dk_at dksX25_joins_3 23 rfl rfl)
theorem dX25_joins_94 : decode cX25_joins 94 = .ok (.iaload, 1) := dk_46 (dk_at dksX25_joins_4 0 rfl rfl)
theorem dX25_joins_95 : decode cX25_joins 95 = .ok (.invokevirtual 192, 3) := dk_182 0 192 (dk_at dksX25_joins_4 1 rfl rfl)
theorem dX25_joins_98 : decode cX25_joins 98 = .ok (.return_, 1) := dk_177 (dk_at dksX25_joins_4 4 rfl rfl)
theorem dX25_joins_99 : decode cX25_joins 99 = .ok (.iconst 0, 1) := dk_3 (dk_at dksX25_joins_4 5 rfl rfl)
theorem dX25_joins_100 : decode cX25_joins 100 = .ok (.istore 4, 2) := dk_54 4 (dk_at dksX25_joins_4 6 rfl rfl)
theorem dX25_joins_102 : decode cX25_joins 102 = .ok (.iload 4, 2) := dk_21 4 (dk_at dksX25_joins_4 8 rfl rfl)
theorem dX25_joins_104 : decode cX25_joins 104 = .ok (.bipush 16, 2) := dk_16 16 (dk_at dksX25_joins_4 10 rfl rfl)
theorem dX25_joins_106 : decode cX25_joins 106 = .ok (.if_icmp .ge 152, 3) := dk_162 0 152 (dk_at dksX25_joins_4 12 rfl rfl)
theorem dX25_joins_109 : decode cX25_joins 109 = .ok (.iconst 0, 1) := dk_3 (dk_at dksX25_joins_4 15 rfl rfl)
theorem dX25_joins_110 : decode cX25_joins 110 = .ok (.istore 5, 2) := dk_54 5 (dk_at dksX25_joins_4 16 rfl rfl)
theorem dX25_joins_112 : decode cX25_joins 112 = .ok (.aload_n 0, 1) := dk_42 (dk_at dksX25_joins_4 18 rfl rfl)
theorem dX25_joins_113 : decode cX25_joins 113 = .ok (.getfield 62, 3) := dk_180 0 62 (dk_at dksX25_joins_4 19 rfl rfl)
theorem dX25_joins_116 : decode cX25_joins 116 = .ok (.iload_n 2, 1) := dk_28 (dk_at dksX25_joins_4 22 rfl rfl)
theorem dX25_joins_117 : decode cX25_joins 117 = .ok (.iaload, 1) := dk_46 (dk_at dksX25_joins_4 23 rfl rfl)
theorem dX25_joins_118 : decode cX25_joins 118 = .ok (.istore 6, 2) := dk_54 6 (dk_at dksX25_joins_5 0 rfl rfl)
theorem dX25_joins_120 : decode cX25_joins 120 = .ok (.iload 6, 2) := dk_21 6 (dk_at dksX25_joins_5 2 rfl rfl)
theorem dX25_joins_122 : decode cX25_joins 122 = .ok (.aload_n 0, 1) := dk_42 (dk_at dksX25_joins_5 4 rfl rfl)
theorem dX25_joins_123 : decode cX25_joins 123 = .ok (.getfield 65, 3) := dk_180 0 65 (dk_at dksX25_joins_5 5 rfl rfl)
theorem dX25_joins_126 : decode cX25_joins 126 = .ok (.iload_n 2, 1) := dk_28 (dk_at dksX25_joins_5 8 rfl rfl)
theorem dX25_joins_127 : decode cX25_joins 127 = .ok (.iaload, 1) := dk_46 (dk_at dksX25_joins_5 9 rfl rfl)
theorem dX25_joins_128 : decode cX25_joins 128 = .ok (.if_icmp .eq 43, 3) := dk_159 0 43 (dk_at dksX25_joins_5 10 rfl rfl)
theorem dX25_joins_131 : decode cX25_joins 131 = .ok (.iload 5, 2) := dk_21 5 (dk_at dksX25_joins_5 13 rfl rfl)
theorem dX25_joins_133 : decode cX25_joins 133 = .ok (.ifCond .ne 19, 3) := dk_154 0 19 (dk_at dksX25_joins_5 15 rfl rfl)
theorem dX25_joins_136 : decode cX25_joins 136 = .ok (.aload_n 0, 1) := dk_42 (dk_at dksX25_joins_5 18 rfl rfl)
theorem dX25_joins_137 : decode cX25_joins 137 = .ok (.getfield 105, 3) := dk_180 0 105 (dk_at dksX25_joins_5 19 rfl rfl)
theorem dX25_joins_140 : decode cX25_joins 140 = .ok (.bipush 16, 2) := dk_16 16 (dk_at dksX25_joins_5 22 rfl rfl)
theorem dX25_joins_142 : decode cX25_joins 142 = .ok (.iload 6, 2) := dk_21 6 (dk_at dksX25_joins_6 0 rfl rfl)
theorem dX25_joins_144 : decode cX25_joins 144 = .ok (.imul, 1) := dk_104 (dk_at dksX25_joins_6 2 rfl rfl)
theorem dX25_joins_145 : decode cX25_joins 145 = .ok (.iload 4, 2) := dk_21 4 (dk_at dksX25_joins_6 3 rfl rfl)
theorem dX25_joins_147 : decode cX25_joins 147 = .ok (.iadd, 1) := dk_96 (dk_at dksX25_joins_6 5 rfl rfl)
theorem dX25_joins_148 : decode cX25_joins 148 = .ok (.baload, 1) := dk_51 (dk_at dksX25_joins_6 6 rfl rfl)
theorem dX25_joins_149 : decode cX25_joins 149 = .ok (.ifCond .eq 7, 3) := dk_153 0 7 (dk_at dksX25_joins_6 7 rfl rfl)
theorem dX25_joins_152 : decode cX25_joins 152 = .ok (.iconst 1, 1) := dk_4 (dk_at dksX25_joins_6 10 rfl rfl)
theorem dX25_joins_153 : decode cX25_joins 153 = .ok (.goto 4, 3) := dk_167 0 4 (dk_at dksX25_joins_6 11 rfl rfl)
theorem dX25_joins_156 : decode cX25_joins 156 = .ok (.iconst 0, 1) := dk_3 (dk_at dksX25_joins_6 14 rfl rfl)
theorem dX25_joins_157 : decode cX25_joins 157 = .ok (.istore 5, 2) := dk_54 5 (dk_at dksX25_joins_6 15 rfl rfl)
theorem dX25_joins_159 : decode cX25_joins 159 = .ok (.aload_n 0, 1) := dk_42 (dk_at dksX25_joins_6 17 rfl rfl)
theorem dX25_joins_160 : decode cX25_joins 160 = .ok (.getfield 102, 3) := dk_180 0 102 (dk_at dksX25_joins_6 18 rfl rfl)
theorem dX25_joins_163 : decode cX25_joins 163 = .ok (.iload 6, 2) := dk_21 6 (dk_at dksX25_joins_6 21 rfl rfl)
theorem dX25_joins_165 : decode cX25_joins 165 = .ok (.iaload, 1) := dk_46 (dk_at dksX25_joins_6 23 rfl rfl)
theorem dX25_joins_166 : decode cX25_joins 166 = .ok (.istore 6, 2) := dk_54 6 (dk_at dksX25_joins_7 0 rfl rfl)
theorem dX25_joins_168 : decode cX25_joins 168 = .ok (.goto (-48), 3) := dk_167 255 208 (dk_at dksX25_joins_7 2 rfl rfl)
theorem dX25_joins_171 : decode cX25_joins 171 = .ok (.iload 5, 2) := dk_21 5 (dk_at dksX25_joins_7 5 rfl rfl)
theorem dX25_joins_173 : decode cX25_joins 173 = .ok (.ifCond .eq 79, 3) := dk_153 0 79 (dk_at dksX25_joins_7 7 rfl rfl)
theorem dX25_joins_176 : decode cX25_joins 176 = .ok (.aload_n 0, 1) := dk_42 (dk_at dksX25_joins_7 10 rfl rfl)
theorem dX25_joins_177 : decode cX25_joins 177 = .ok (.aload_n 0, 1) := dk_42 (dk_at dksX25_joins_7 11 rfl rfl)
theorem dX25_joins_178 : decode cX25_joins 178 = .ok (.getfield 65, 3) := dk_180 0 65 (dk_at dksX25_joins_7 12 rfl rfl)
theorem dX25_joins_181 : decode cX25_joins 181 = .ok (.iload_n 2, 1) := dk_28 (dk_at dksX25_joins_7 15 rfl rfl)
theorem dX25_joins_182 : decode cX25_joins 182 = .ok (.iaload, 1) := dk_46 (dk_at dksX25_joins_7 16 rfl rfl)
theorem dX25_joins_183 : decode cX25_joins 183 = .ok (.iload 4, 2) := dk_21 4 (dk_at dksX25_joins_7 17 rfl rfl)
theorem dX25_joins_185 : decode cX25_joins 185 = .ok (.invokevirtual 212, 3) := dk_182 0 212 (dk_at dksX25_joins_7 19 rfl rfl)
theorem dX25_joins_188 : decode cX25_joins 188 = .ok (.lstore 6, 2) := dk_55 6 (dk_at dksX25_joins_7 22 rfl rfl)
theorem dX25_joins_190 : decode cX25_joins 190 = .ok (.aload_n 0, 1) := dk_42 (dk_at dksX25_joins_8 0 rfl rfl)
theorem dX25_joins_191 : decode cX25_joins 191 = .ok (.aload_n 0, 1) := dk_42 (dk_at dksX25_joins_8 1 rfl rfl)
theorem dX25_joins_192 : decode cX25_joins 192 = .ok (.getfield 62, 3) := dk_180 0 62 (dk_at dksX25_joins_8 2 rfl rfl)
theorem dX25_joins_195 : decode cX25_joins 195 = .ok (.iload_n 2, 1) := dk_28 (dk_at dksX25_joins_8 5 rfl rfl)
theorem dX25_joins_196 : decode cX25_joins 196 = .ok (.iaload, 1) := dk_46 (dk_at dksX25_joins_8 6 rfl rfl)
theorem dX25_joins_197 : decode cX25_joins 197 = .ok (.iload 4, 2) := dk_21 4 (dk_at dksX25_joins_8 7 rfl rfl)
theorem dX25_joins_199 : decode cX25_joins 199 = .ok (.invokevirtual 212, 3) := dk_182 0 212 (dk_at dksX25_joins_8 9 rfl rfl)
theorem dX25_joins_202 : decode cX25_joins 202 = .ok (.lstore 8, 2) := dk_55 8 (dk_at dksX25_joins_8 12 rfl rfl)
theorem dX25_joins_204 : decode cX25_joins 204 = .ok (.aload_n 0, 1) := dk_42 (dk_at dksX25_joins_8 14 rfl rfl)
theorem dX25_joins_205 : decode cX25_joins 205 = .ok (.aload_n 0, 1) := dk_42 (dk_at dksX25_joins_8 15 rfl rfl)
theorem dX25_joins_206 : decode cX25_joins 206 = .ok (.getfield 62, 3) := dk_180 0 62 (dk_at dksX25_joins_8 16 rfl rfl)
theorem dX25_joins_209 : decode cX25_joins 209 = .ok (.iload_n 1, 1) := dk_27 (dk_at dksX25_joins_8 19 rfl rfl)
theorem dX25_joins_210 : decode cX25_joins 210 = .ok (.iaload, 1) := dk_46 (dk_at dksX25_joins_8 20 rfl rfl)
theorem dX25_joins_211 : decode cX25_joins 211 = .ok (.iload 4, 2) := dk_21 4 (dk_at dksX25_joins_8 21 rfl rfl)
theorem dX25_joins_213 : decode cX25_joins 213 = .ok (.invokevirtual 212, 3) := dk_182 0 212 (dk_at dksX25_joins_9 0 rfl rfl)
theorem dX25_joins_216 : decode cX25_joins 216 = .ok (.lstore 10, 2) := dk_55 10 (dk_at dksX25_joins_9 3 rfl rfl)
theorem dX25_joins_218 : decode cX25_joins 218 = .ok (.aload_n 0, 1) := dk_42 (dk_at dksX25_joins_9 5 rfl rfl)
theorem dX25_joins_219 : decode cX25_joins 219 = .ok (.iload_n 1, 1) := dk_27 (dk_at dksX25_joins_9 6 rfl rfl)
theorem dX25_joins_220 : decode cX25_joins 220 = .ok (.iload 4, 2) := dk_21 4 (dk_at dksX25_joins_9 7 rfl rfl)
theorem dX25_joins_222 : decode cX25_joins 222 = .ok (.aload_n 0, 1) := dk_42 (dk_at dksX25_joins_9 9 rfl rfl)
theorem dX25_joins_223 : decode cX25_joins 223 = .ok (.aload_n 0, 1) := dk_42 (dk_at dksX25_joins_9 10 rfl rfl)
theorem dX25_joins_224 : decode cX25_joins 224 = .ok (.getfield 28, 3) := dk_180 0 28 (dk_at dksX25_joins_9 11 rfl rfl)
theorem dX25_joins_227 : decode cX25_joins 227 = .ok (.iload 4, 2) := dk_21 4 (dk_at dksX25_joins_9 14 rfl rfl)
theorem dX25_joins_229 : decode cX25_joins 229 = .ok (.iaload, 1) := dk_46 (dk_at dksX25_joins_9 16 rfl rfl)
theorem dX25_joins_230 : decode cX25_joins 230 = .ok (.lload 6, 2) := dk_22 6 (dk_at dksX25_joins_9 17 rfl rfl)
theorem dX25_joins_232 : decode cX25_joins 232 = .ok (.lload 10, 2) := dk_22 10 (dk_at dksX25_joins_9 19 rfl rfl)
theorem dX25_joins_234 : decode cX25_joins 234 = .ok (.lload 8, 2) := dk_22 8 (dk_at dksX25_joins_9 21 rfl rfl)
theorem dX25_joins_236 : decode cX25_joins 236 = .ok (.invokevirtual 231, 3) := dk_182 0 231 (dk_at dksX25_joins_10 0 rfl rfl)
theorem dX25_joins_239 : decode cX25_joins 239 = .ok (.invokevirtual 216, 3) := dk_182 0 216 (dk_at dksX25_joins_10 3 rfl rfl)
theorem dX25_joins_242 : decode cX25_joins 242 = .ok (.aload_n 0, 1) := dk_42 (dk_at dksX25_joins_10 6 rfl rfl)
theorem dX25_joins_243 : decode cX25_joins 243 = .ok (.dup, 1) := dk_89 (dk_at dksX25_joins_10 7 rfl rfl)
theorem dX25_joins_244 : decode cX25_joins 244 = .ok (.getfield 176, 3) := dk_180 0 176 (dk_at dksX25_joins_10 8 rfl rfl)
theorem dX25_joins_247 : decode cX25_joins 247 = .ok (.iconst 1, 1) := dk_4 (dk_at dksX25_joins_10 11 rfl rfl)
theorem dX25_joins_248 : decode cX25_joins 248 = .ok (.iadd, 1) := dk_96 (dk_at dksX25_joins_10 12 rfl rfl)
theorem dX25_joins_249 : decode cX25_joins 249 = .ok (.putfield 176, 3) := dk_181 0 176 (dk_at dksX25_joins_10 13 rfl rfl)
theorem dX25_joins_252 : decode cX25_joins 252 = .ok (.iinc 4 1, 3) := dk_132 4 1 (dk_at dksX25_joins_10 16 rfl rfl)
theorem dX25_joins_255 : decode cX25_joins 255 = .ok (.goto (-153), 3) := dk_167 255 103 (dk_at dksX25_joins_10 19 rfl rfl)
theorem dX25_joins_258 : decode cX25_joins 258 = .ok (.aload_n 0, 1) := dk_42 (dk_at dksX25_joins_10 22 rfl rfl)
theorem dX25_joins_259 : decode cX25_joins 259 = .ok (.iload_n 1, 1) := dk_27 (dk_at dksX25_joins_10 23 rfl rfl)
theorem dX25_joins_260 : decode cX25_joins 260 = .ok (.aload_n 0, 1) := dk_42 (dk_at dksX25_joins_11 0 rfl rfl)
theorem dX25_joins_261 : decode cX25_joins 261 = .ok (.getfield 75, 3) := dk_180 0 75 (dk_at dksX25_joins_11 1 rfl rfl)
theorem dX25_joins_264 : decode cX25_joins 264 = .ok (.iload_n 2, 1) := dk_28 (dk_at dksX25_joins_11 4 rfl rfl)
theorem dX25_joins_265 : decode cX25_joins 265 = .ok (.laload, 1) := dk_47 (dk_at dksX25_joins_11 5 rfl rfl)
theorem dX25_joins_266 : decode cX25_joins 266 = .ok (.aload_n 0, 1) := dk_42 (dk_at dksX25_joins_11 6 rfl rfl)
theorem dX25_joins_267 : decode cX25_joins 267 = .ok (.getfield 78, 3) := dk_180 0 78 (dk_at dksX25_joins_11 7 rfl rfl)
theorem dX25_joins_270 : decode cX25_joins 270 = .ok (.iload_n 2, 1) := dk_28 (dk_at dksX25_joins_11 10 rfl rfl)
theorem dX25_joins_271 : decode cX25_joins 271 = .ok (.baload, 1) := dk_51 (dk_at dksX25_joins_11 11 rfl rfl)
theorem dX25_joins_272 : decode cX25_joins 272 = .ok (.invokevirtual 209, 3) := dk_182 0 209 (dk_at dksX25_joins_11 12 rfl rfl)
theorem dX25_joins_275 : decode cX25_joins 275 = .ok (.return_, 1) := dk_177 (dk_at dksX25_joins_11 15 rfl rfl)
def dkwX25_tellOut_1 : List UInt8 := [46, 96, 32, 80, 42, 180, 0, 99, 27, 92, 46, 4, 96, 79, 177]
abbrev dktX25_tellOut_1 : List UInt8 := dkwX25_tellOut_1 ++ []
def dkwX25_tellOut_0 : List UInt8 := [42, 180, 0, 99, 27, 46, 16, 60, 162, 0, 30, 42, 180, 0, 96, 16, 60, 27, 104, 42, 180, 0, 99, 27]
abbrev dktX25_tellOut_0 : List UInt8 := dkwX25_tellOut_0 ++ dktX25_tellOut_1
theorem dksX25_tellOut_0 : cX25_tellOut.data.toList.drop 0 = dktX25_tellOut_0 := by decide +kernel
theorem dksX25_tellOut_1 : cX25_tellOut.data.toList.drop 24 = dktX25_tellOut_1 := dk_seg dksX25_tellOut_0 24 rfl rfl
theorem dX25_tellOut_0 : decode cX25_tellOut 0 = .ok (.aload_n 0, 1) := dk_42 (dk_at dksX25_tellOut_0 0 rfl rfl)
theorem dX25_tellOut_1 : decode cX25_tellOut 1 = .ok (.getfield 99, 3) := dk_180 0 99 (dk_at dksX25_tellOut_0 1 rfl rfl)
theorem dX25_tellOut_4 : decode cX25_tellOut 4 = .ok (.iload_n 1, 1) := dk_27 (dk_at dksX25_tellOut_0 4 rfl rfl)
theorem dX25_tellOut_5 : decode cX25_tellOut 5 = .ok (.iaload, 1) := dk_46 (dk_at dksX25_tellOut_0 5 rfl rfl)
theorem dX25_tellOut_6 : decode cX25_tellOut 6 = .ok (.bipush 60, 2) := dk_16 60 (dk_at dksX25_tellOut_0 6 rfl rfl)
theorem dX25_tellOut_8 : decode cX25_tellOut 8 = .ok (.if_icmp .ge 30, 3) := dk_162 0 30 (dk_at dksX25_tellOut_0 8 rfl rfl)
theorem dX25_tellOut_11 : decode cX25_tellOut 11 = .ok (.aload_n 0, 1) := dk_42 (dk_at dksX25_tellOut_0 11 rfl rfl)
theorem dX25_tellOut_12 : decode cX25_tellOut 12 = .ok (.getfield 96, 3) := dk_180 0 96 (dk_at dksX25_tellOut_0 12 rfl rfl)
theorem dX25_tellOut_15 : decode cX25_tellOut 15 = .ok (.bipush 60, 2) := dk_16 60 (dk_at dksX25_tellOut_0 15 rfl rfl)
theorem dX25_tellOut_17 : decode cX25_tellOut 17 = .ok (.iload_n 1, 1) := dk_27 (dk_at dksX25_tellOut_0 17 rfl rfl)
theorem dX25_tellOut_18 : decode cX25_tellOut 18 = .ok (.imul, 1) := dk_104 (dk_at dksX25_tellOut_0 18 rfl rfl)
theorem dX25_tellOut_19 : decode cX25_tellOut 19 = .ok (.aload_n 0, 1) := dk_42 (dk_at dksX25_tellOut_0 19 rfl rfl)
theorem dX25_tellOut_20 : decode cX25_tellOut 20 = .ok (.getfield 99, 3) := dk_180 0 99 (dk_at dksX25_tellOut_0 20 rfl rfl)
theorem dX25_tellOut_23 : decode cX25_tellOut 23 = .ok (.iload_n 1, 1) := dk_27 (dk_at dksX25_tellOut_0 23 rfl rfl)
theorem dX25_tellOut_24 : decode cX25_tellOut 24 = .ok (.iaload, 1) := dk_46 (dk_at dksX25_tellOut_1 0 rfl rfl)
theorem dX25_tellOut_25 : decode cX25_tellOut 25 = .ok (.iadd, 1) := dk_96 (dk_at dksX25_tellOut_1 1 rfl rfl)
theorem dX25_tellOut_26 : decode cX25_tellOut 26 = .ok (.lload_n 2, 1) := dk_32 (dk_at dksX25_tellOut_1 2 rfl rfl)
theorem dX25_tellOut_27 : decode cX25_tellOut 27 = .ok (.lastore, 1) := dk_80 (dk_at dksX25_tellOut_1 3 rfl rfl)
theorem dX25_tellOut_28 : decode cX25_tellOut 28 = .ok (.aload_n 0, 1) := dk_42 (dk_at dksX25_tellOut_1 4 rfl rfl)
theorem dX25_tellOut_29 : decode cX25_tellOut 29 = .ok (.getfield 99, 3) := dk_180 0 99 (dk_at dksX25_tellOut_1 5 rfl rfl)
theorem dX25_tellOut_32 : decode cX25_tellOut 32 = .ok (.iload_n 1, 1) := dk_27 (dk_at dksX25_tellOut_1 8 rfl rfl)
theorem dX25_tellOut_33 : decode cX25_tellOut 33 = .ok (.dup2, 1) := dk_92 (dk_at dksX25_tellOut_1 9 rfl rfl)
theorem dX25_tellOut_34 : decode cX25_tellOut 34 = .ok (.iaload, 1) := dk_46 (dk_at dksX25_tellOut_1 10 rfl rfl)
theorem dX25_tellOut_35 : decode cX25_tellOut 35 = .ok (.iconst 1, 1) := dk_4 (dk_at dksX25_tellOut_1 11 rfl rfl)
theorem dX25_tellOut_36 : decode cX25_tellOut 36 = .ok (.iadd, 1) := dk_96 (dk_at dksX25_tellOut_1 12 rfl rfl)
theorem dX25_tellOut_37 : decode cX25_tellOut 37 = .ok (.iastore, 1) := dk_79 (dk_at dksX25_tellOut_1 13 rfl rfl)
theorem dX25_tellOut_38 : decode cX25_tellOut 38 = .ok (.return_, 1) := dk_177 (dk_at dksX25_tellOut_1 14 rfl rfl)
def dkwX25_mergedOf_4 : List UInt8 := [182, 0, 149, 173]
abbrev dktX25_mergedOf_4 : List UInt8 := dkwX25_mergedOf_4 ++ []
def dkwX25_mergedOf_3 : List UInt8 := [22, 6, 20, 0, 147, 131, 127, 20, 0, 147, 131, 127, 173, 42, 27, 6, 100, 32, 22, 4, 22, 6]
abbrev dktX25_mergedOf_3 : List UInt8 := dkwX25_mergedOf_3 ++ dktX25_mergedOf_4
def dkwX25_mergedOf_2 : List UInt8 := [22, 6, 173, 22, 4, 22, 6, 97, 32, 101, 173, 22, 4, 22, 6, 32, 20, 0, 147, 131, 127, 129, 32]
abbrev dktX25_mergedOf_2 : List UInt8 := dkwX25_mergedOf_2 ++ dktX25_mergedOf_3
def dkwX25_mergedOf_1 : List UInt8 := [170, 0, 0, 0, 0, 0, 63, 0, 0, 0, 0, 0, 0, 0, 2, 0, 0, 0, 27, 0, 0, 0, 30, 0, 0, 0, 38]
abbrev dktX25_mergedOf_1 : List UInt8 := dkwX25_mergedOf_1 ++ dktX25_mergedOf_2
def dkwX25_mergedOf_0 : List UInt8 := [27]
abbrev dktX25_mergedOf_0 : List UInt8 := dkwX25_mergedOf_0 ++ dktX25_mergedOf_1
theorem dksX25_mergedOf_0 : cX25_mergedOf.data.toList.drop 0 = dktX25_mergedOf_0 := by decide +kernel
theorem dksX25_mergedOf_1 : cX25_mergedOf.data.toList.drop 1 = dktX25_mergedOf_1 := dk_seg dksX25_mergedOf_0 1 rfl rfl
theorem dksX25_mergedOf_2 : cX25_mergedOf.data.toList.drop 28 = dktX25_mergedOf_2 := dk_seg dksX25_mergedOf_1 27 rfl rfl
theorem dksX25_mergedOf_3 : cX25_mergedOf.data.toList.drop 51 = dktX25_mergedOf_3 := dk_seg dksX25_mergedOf_2 23 rfl rfl
theorem dksX25_mergedOf_4 : cX25_mergedOf.data.toList.drop 73 = dktX25_mergedOf_4 := dk_seg dksX25_mergedOf_3 22 rfl rfl
theorem dX25_mergedOf_0 : decode cX25_mergedOf 0 = .ok (.iload_n 1, 1) := dk_27 (dk_at dksX25_mergedOf_0 0 rfl rfl)
theorem dX25_mergedOf_1 : decode cX25_mergedOf 1 = .ok (.tableswitch 63 0 2 #[27, 30, 38], 27) := by decide +kernel
theorem dX25_mergedOf_28 : decode cX25_mergedOf 28 = .ok (.lload 6, 2) := dk_22 6 (dk_at dksX25_mergedOf_2 0 rfl rfl)
theorem dX25_mergedOf_30 : decode cX25_mergedOf 30 = .ok (.lreturn, 1) := dk_173 (dk_at dksX25_mergedOf_2 2 rfl rfl)
theorem dX25_mergedOf_31 : decode cX25_mergedOf 31 = .ok (.lload 4, 2) := dk_22 4 (dk_at dksX25_mergedOf_2 3 rfl rfl)
theorem dX25_mergedOf_33 : decode cX25_mergedOf 33 = .ok (.lload 6, 2) := dk_22 6 (dk_at dksX25_mergedOf_2 5 rfl rfl)
theorem dX25_mergedOf_35 : decode cX25_mergedOf 35 = .ok (.ladd, 1) := dk_97 (dk_at dksX25_mergedOf_2 7 rfl rfl)
theorem dX25_mergedOf_36 : decode cX25_mergedOf 36 = .ok (.lload_n 2, 1) := dk_32 (dk_at dksX25_mergedOf_2 8 rfl rfl)
theorem dX25_mergedOf_37 : decode cX25_mergedOf 37 = .ok (.lsub, 1) := dk_101 (dk_at dksX25_mergedOf_2 9 rfl rfl)
theorem dX25_mergedOf_38 : decode cX25_mergedOf 38 = .ok (.lreturn, 1) := dk_173 (dk_at dksX25_mergedOf_2 10 rfl rfl)
theorem dX25_mergedOf_39 : decode cX25_mergedOf 39 = .ok (.lload 4, 2) := dk_22 4 (dk_at dksX25_mergedOf_2 11 rfl rfl)
theorem dX25_mergedOf_41 : decode cX25_mergedOf 41 = .ok (.lload 6, 2) := dk_22 6 (dk_at dksX25_mergedOf_2 13 rfl rfl)
theorem dX25_mergedOf_43 : decode cX25_mergedOf 43 = .ok (.lload_n 2, 1) := dk_32 (dk_at dksX25_mergedOf_2 15 rfl rfl)
theorem dX25_mergedOf_44 : decode cX25_mergedOf 44 = .ok (.ldc2_w 147, 3) := dk_20 0 147 (dk_at dksX25_mergedOf_2 16 rfl rfl)
theorem dX25_mergedOf_47 : decode cX25_mergedOf 47 = .ok (.lxor, 1) := dk_131 (dk_at dksX25_mergedOf_2 19 rfl rfl)
theorem dX25_mergedOf_48 : decode cX25_mergedOf 48 = .ok (.land, 1) := dk_127 (dk_at dksX25_mergedOf_2 20 rfl rfl)
theorem dX25_mergedOf_49 : decode cX25_mergedOf 49 = .ok (.lor, 1) := dk_129 (dk_at dksX25_mergedOf_2 21 rfl rfl)
theorem dX25_mergedOf_50 : decode cX25_mergedOf 50 = .ok (.lload_n 2, 1) := dk_32 (dk_at dksX25_mergedOf_2 22 rfl rfl)
theorem dX25_mergedOf_51 : decode cX25_mergedOf 51 = .ok (.lload 6, 2) := dk_22 6 (dk_at dksX25_mergedOf_3 0 rfl rfl)
theorem dX25_mergedOf_53 : decode cX25_mergedOf 53 = .ok (.ldc2_w 147, 3) := dk_20 0 147 (dk_at dksX25_mergedOf_3 2 rfl rfl)
theorem dX25_mergedOf_56 : decode cX25_mergedOf 56 = .ok (.lxor, 1) := dk_131 (dk_at dksX25_mergedOf_3 5 rfl rfl)
theorem dX25_mergedOf_57 : decode cX25_mergedOf 57 = .ok (.land, 1) := dk_127 (dk_at dksX25_mergedOf_3 6 rfl rfl)
theorem dX25_mergedOf_58 : decode cX25_mergedOf 58 = .ok (.ldc2_w 147, 3) := dk_20 0 147 (dk_at dksX25_mergedOf_3 7 rfl rfl)
theorem dX25_mergedOf_61 : decode cX25_mergedOf 61 = .ok (.lxor, 1) := dk_131 (dk_at dksX25_mergedOf_3 10 rfl rfl)
theorem dX25_mergedOf_62 : decode cX25_mergedOf 62 = .ok (.land, 1) := dk_127 (dk_at dksX25_mergedOf_3 11 rfl rfl)
theorem dX25_mergedOf_63 : decode cX25_mergedOf 63 = .ok (.lreturn, 1) := dk_173 (dk_at dksX25_mergedOf_3 12 rfl rfl)
theorem dX25_mergedOf_64 : decode cX25_mergedOf 64 = .ok (.aload_n 0, 1) := dk_42 (dk_at dksX25_mergedOf_3 13 rfl rfl)
theorem dX25_mergedOf_65 : decode cX25_mergedOf 65 = .ok (.iload_n 1, 1) := dk_27 (dk_at dksX25_mergedOf_3 14 rfl rfl)
theorem dX25_mergedOf_66 : decode cX25_mergedOf 66 = .ok (.iconst 3, 1) := dk_6 (dk_at dksX25_mergedOf_3 15 rfl rfl)
theorem dX25_mergedOf_67 : decode cX25_mergedOf 67 = .ok (.isub, 1) := dk_100 (dk_at dksX25_mergedOf_3 16 rfl rfl)
theorem dX25_mergedOf_68 : decode cX25_mergedOf 68 = .ok (.lload_n 2, 1) := dk_32 (dk_at dksX25_mergedOf_3 17 rfl rfl)
theorem dX25_mergedOf_69 : decode cX25_mergedOf 69 = .ok (.lload 4, 2) := dk_22 4 (dk_at dksX25_mergedOf_3 18 rfl rfl)
theorem dX25_mergedOf_71 : decode cX25_mergedOf 71 = .ok (.lload 6, 2) := dk_22 6 (dk_at dksX25_mergedOf_3 20 rfl rfl)
theorem dX25_mergedOf_73 : decode cX25_mergedOf 73 = .ok (.invokevirtual 149, 3) := dk_182 0 149 (dk_at dksX25_mergedOf_4 0 rfl rfl)
theorem dX25_mergedOf_76 : decode cX25_mergedOf 76 = .ok (.lreturn, 1) := dk_173 (dk_at dksX25_mergedOf_4 3 rfl rfl)
def dkwX25_ready_1 : List UInt8 := [160, 0, 5, 29, 172, 132, 2, 1, 132, 3, 1, 167, 255, 227, 16, 252, 172]
abbrev dktX25_ready_1 : List UInt8 := dkwX25_ready_1 ++ []
def dkwX25_ready_0 : List UInt8 := [3, 61, 3, 62, 29, 42, 180, 0, 160, 162, 0, 27, 42, 29, 182, 0, 239, 154, 0, 13, 28, 27]
abbrev dktX25_ready_0 : List UInt8 := dkwX25_ready_0 ++ dktX25_ready_1
theorem dksX25_ready_0 : cX25_ready.data.toList.drop 0 = dktX25_ready_0 := by decide +kernel
theorem dksX25_ready_1 : cX25_ready.data.toList.drop 22 = dktX25_ready_1 := dk_seg dksX25_ready_0 22 rfl rfl
theorem dX25_ready_0 : decode cX25_ready 0 = .ok (.iconst 0, 1) := dk_3 (dk_at dksX25_ready_0 0 rfl rfl)
theorem dX25_ready_1 : decode cX25_ready 1 = .ok (.istore_n 2, 1) := dk_61 (dk_at dksX25_ready_0 1 rfl rfl)
theorem dX25_ready_2 : decode cX25_ready 2 = .ok (.iconst 0, 1) := dk_3 (dk_at dksX25_ready_0 2 rfl rfl)
theorem dX25_ready_3 : decode cX25_ready 3 = .ok (.istore_n 3, 1) := dk_62 (dk_at dksX25_ready_0 3 rfl rfl)
theorem dX25_ready_4 : decode cX25_ready 4 = .ok (.iload_n 3, 1) := dk_29 (dk_at dksX25_ready_0 4 rfl rfl)
theorem dX25_ready_5 : decode cX25_ready 5 = .ok (.aload_n 0, 1) := dk_42 (dk_at dksX25_ready_0 5 rfl rfl)
theorem dX25_ready_6 : decode cX25_ready 6 = .ok (.getfield 160, 3) := dk_180 0 160 (dk_at dksX25_ready_0 6 rfl rfl)
theorem dX25_ready_9 : decode cX25_ready 9 = .ok (.if_icmp .ge 27, 3) := dk_162 0 27 (dk_at dksX25_ready_0 9 rfl rfl)
theorem dX25_ready_12 : decode cX25_ready 12 = .ok (.aload_n 0, 1) := dk_42 (dk_at dksX25_ready_0 12 rfl rfl)
theorem dX25_ready_13 : decode cX25_ready 13 = .ok (.iload_n 3, 1) := dk_29 (dk_at dksX25_ready_0 13 rfl rfl)
theorem dX25_ready_14 : decode cX25_ready 14 = .ok (.invokevirtual 239, 3) := dk_182 0 239 (dk_at dksX25_ready_0 14 rfl rfl)
theorem dX25_ready_17 : decode cX25_ready 17 = .ok (.ifCond .ne 13, 3) := dk_154 0 13 (dk_at dksX25_ready_0 17 rfl rfl)
theorem dX25_ready_20 : decode cX25_ready 20 = .ok (.iload_n 2, 1) := dk_28 (dk_at dksX25_ready_0 20 rfl rfl)
theorem dX25_ready_21 : decode cX25_ready 21 = .ok (.iload_n 1, 1) := dk_27 (dk_at dksX25_ready_0 21 rfl rfl)
theorem dX25_ready_22 : decode cX25_ready 22 = .ok (.if_icmp .ne 5, 3) := dk_160 0 5 (dk_at dksX25_ready_1 0 rfl rfl)
theorem dX25_ready_25 : decode cX25_ready 25 = .ok (.iload_n 3, 1) := dk_29 (dk_at dksX25_ready_1 3 rfl rfl)
theorem dX25_ready_26 : decode cX25_ready 26 = .ok (.ireturn, 1) := dk_172 (dk_at dksX25_ready_1 4 rfl rfl)
theorem dX25_ready_27 : decode cX25_ready 27 = .ok (.iinc 2 1, 3) := dk_132 2 1 (dk_at dksX25_ready_1 5 rfl rfl)
theorem dX25_ready_30 : decode cX25_ready 30 = .ok (.iinc 3 1, 3) := dk_132 3 1 (dk_at dksX25_ready_1 8 rfl rfl)
theorem dX25_ready_33 : decode cX25_ready 33 = .ok (.goto (-29), 3) := dk_167 255 227 (dk_at dksX25_ready_1 11 rfl rfl)
theorem dX25_ready_36 : decode cX25_ready 36 = .ok (.bipush (-4), 2) := dk_16 252 (dk_at dksX25_ready_1 14 rfl rfl)
theorem dX25_ready_38 : decode cX25_ready 38 = .ok (.ireturn, 1) := dk_172 (dk_at dksX25_ready_1 16 rfl rfl)
def dkwX25_deep_2 : List UInt8 := [182, 0, 242, 132, 2, 1, 42, 182, 0, 247, 62, 167, 255, 228, 28, 172]
abbrev dktX25_deep_2 : List UInt8 := dkwX25_deep_2 ++ []
def dkwX25_deep_1 : List UInt8 := [3, 61, 42, 182, 0, 247, 62, 28, 27, 162, 0, 29, 29, 158, 0, 25, 42, 42, 29, 4, 100, 182, 0, 251]
abbrev dktX25_deep_1 : List UInt8 := dkwX25_deep_1 ++ dktX25_deep_2
def dkwX25_deep_0 : List UInt8 := [27, 133, 10, 20, 0, 245, 184, 0, 118, 154, 0, 5, 2, 172, 42, 180, 0, 130, 154, 0, 6, 16, 254, 172]
abbrev dktX25_deep_0 : List UInt8 := dkwX25_deep_0 ++ dktX25_deep_1
theorem dksX25_deep_0 : cX25_deep.data.toList.drop 0 = dktX25_deep_0 := by decide +kernel
theorem dksX25_deep_1 : cX25_deep.data.toList.drop 24 = dktX25_deep_1 := dk_seg dksX25_deep_0 24 rfl rfl
theorem dksX25_deep_2 : cX25_deep.data.toList.drop 48 = dktX25_deep_2 := dk_seg dksX25_deep_1 24 rfl rfl
theorem dX25_deep_0 : decode cX25_deep 0 = .ok (.iload_n 1, 1) := dk_27 (dk_at dksX25_deep_0 0 rfl rfl)
theorem dX25_deep_1 : decode cX25_deep 1 = .ok (.i2l, 1) := dk_133 (dk_at dksX25_deep_0 1 rfl rfl)
theorem dX25_deep_2 : decode cX25_deep 2 = .ok (.lconst 1, 1) := dk_10 (dk_at dksX25_deep_0 2 rfl rfl)
theorem dX25_deep_3 : decode cX25_deep 3 = .ok (.ldc2_w 245, 3) := dk_20 0 245 (dk_at dksX25_deep_0 3 rfl rfl)
theorem dX25_deep_6 : decode cX25_deep 6 = .ok (.invokestatic 118, 3) := dk_184 0 118 (dk_at dksX25_deep_0 6 rfl rfl)
theorem dX25_deep_9 : decode cX25_deep 9 = .ok (.ifCond .ne 5, 3) := dk_154 0 5 (dk_at dksX25_deep_0 9 rfl rfl)
theorem dX25_deep_12 : decode cX25_deep 12 = .ok (.iconst (-1), 1) := dk_2 (dk_at dksX25_deep_0 12 rfl rfl)
theorem dX25_deep_13 : decode cX25_deep 13 = .ok (.ireturn, 1) := dk_172 (dk_at dksX25_deep_0 13 rfl rfl)
theorem dX25_deep_14 : decode cX25_deep 14 = .ok (.aload_n 0, 1) := dk_42 (dk_at dksX25_deep_0 14 rfl rfl)
theorem dX25_deep_15 : decode cX25_deep 15 = .ok (.getfield 130, 3) := dk_180 0 130 (dk_at dksX25_deep_0 15 rfl rfl)
theorem dX25_deep_18 : decode cX25_deep 18 = .ok (.ifCond .ne 6, 3) := dk_154 0 6 (dk_at dksX25_deep_0 18 rfl rfl)
theorem dX25_deep_21 : decode cX25_deep 21 = .ok (.bipush (-2), 2) := dk_16 254 (dk_at dksX25_deep_0 21 rfl rfl)
theorem dX25_deep_23 : decode cX25_deep 23 = .ok (.ireturn, 1) := dk_172 (dk_at dksX25_deep_0 23 rfl rfl)
theorem dX25_deep_24 : decode cX25_deep 24 = .ok (.iconst 0, 1) := dk_3 (dk_at dksX25_deep_1 0 rfl rfl)
theorem dX25_deep_25 : decode cX25_deep 25 = .ok (.istore_n 2, 1) := dk_61 (dk_at dksX25_deep_1 1 rfl rfl)
theorem dX25_deep_26 : decode cX25_deep 26 = .ok (.aload_n 0, 1) := dk_42 (dk_at dksX25_deep_1 2 rfl rfl)
theorem dX25_deep_27 : decode cX25_deep 27 = .ok (.invokevirtual 247, 3) := dk_182 0 247 (dk_at dksX25_deep_1 3 rfl rfl)
theorem dX25_deep_30 : decode cX25_deep 30 = .ok (.istore_n 3, 1) := dk_62 (dk_at dksX25_deep_1 6 rfl rfl)
theorem dX25_deep_31 : decode cX25_deep 31 = .ok (.iload_n 2, 1) := dk_28 (dk_at dksX25_deep_1 7 rfl rfl)
theorem dX25_deep_32 : decode cX25_deep 32 = .ok (.iload_n 1, 1) := dk_27 (dk_at dksX25_deep_1 8 rfl rfl)
theorem dX25_deep_33 : decode cX25_deep 33 = .ok (.if_icmp .ge 29, 3) := dk_162 0 29 (dk_at dksX25_deep_1 9 rfl rfl)
theorem dX25_deep_36 : decode cX25_deep 36 = .ok (.iload_n 3, 1) := dk_29 (dk_at dksX25_deep_1 12 rfl rfl)
theorem dX25_deep_37 : decode cX25_deep 37 = .ok (.ifCond .le 25, 3) := dk_158 0 25 (dk_at dksX25_deep_1 13 rfl rfl)
theorem dX25_deep_40 : decode cX25_deep 40 = .ok (.aload_n 0, 1) := dk_42 (dk_at dksX25_deep_1 16 rfl rfl)
theorem dX25_deep_41 : decode cX25_deep 41 = .ok (.aload_n 0, 1) := dk_42 (dk_at dksX25_deep_1 17 rfl rfl)
theorem dX25_deep_42 : decode cX25_deep 42 = .ok (.iload_n 3, 1) := dk_29 (dk_at dksX25_deep_1 18 rfl rfl)
theorem dX25_deep_43 : decode cX25_deep 43 = .ok (.iconst 1, 1) := dk_4 (dk_at dksX25_deep_1 19 rfl rfl)
theorem dX25_deep_44 : decode cX25_deep 44 = .ok (.isub, 1) := dk_100 (dk_at dksX25_deep_1 20 rfl rfl)
theorem dX25_deep_45 : decode cX25_deep 45 = .ok (.invokevirtual 251, 3) := dk_182 0 251 (dk_at dksX25_deep_1 21 rfl rfl)
theorem dX25_deep_48 : decode cX25_deep 48 = .ok (.invokevirtual 242, 3) := dk_182 0 242 (dk_at dksX25_deep_2 0 rfl rfl)
theorem dX25_deep_51 : decode cX25_deep 51 = .ok (.iinc 2 1, 3) := dk_132 2 1 (dk_at dksX25_deep_2 3 rfl rfl)
theorem dX25_deep_54 : decode cX25_deep 54 = .ok (.aload_n 0, 1) := dk_42 (dk_at dksX25_deep_2 6 rfl rfl)
theorem dX25_deep_55 : decode cX25_deep 55 = .ok (.invokevirtual 247, 3) := dk_182 0 247 (dk_at dksX25_deep_2 7 rfl rfl)
theorem dX25_deep_58 : decode cX25_deep 58 = .ok (.istore_n 3, 1) := dk_62 (dk_at dksX25_deep_2 10 rfl rfl)
theorem dX25_deep_59 : decode cX25_deep 59 = .ok (.goto (-28), 3) := dk_167 255 228 (dk_at dksX25_deep_2 11 rfl rfl)
theorem dX25_deep_62 : decode cX25_deep 62 = .ok (.iload_n 2, 1) := dk_28 (dk_at dksX25_deep_2 14 rfl rfl)
theorem dX25_deep_63 : decode cX25_deep 63 = .ok (.ireturn, 1) := dk_172 (dk_at dksX25_deep_2 15 rfl rfl)
def dkwX25_readyMany_1 : List UInt8 := [167, 0, 4, 3, 96, 60, 132, 2, 1, 167, 255, 229, 27, 172]
abbrev dktX25_readyMany_1 : List UInt8 := dkwX25_readyMany_1 ++ []
def dkwX25_readyMany_0 : List UInt8 := [3, 60, 3, 61, 28, 42, 180, 0, 160, 162, 0, 25, 27, 42, 28, 182, 0, 239, 154, 0, 7, 4]
abbrev dktX25_readyMany_0 : List UInt8 := dkwX25_readyMany_0 ++ dktX25_readyMany_1
theorem dksX25_readyMany_0 : cX25_readyMany.data.toList.drop 0 = dktX25_readyMany_0 := by decide +kernel
theorem dksX25_readyMany_1 : cX25_readyMany.data.toList.drop 22 = dktX25_readyMany_1 := dk_seg dksX25_readyMany_0 22 rfl rfl
theorem dX25_readyMany_0 : decode cX25_readyMany 0 = .ok (.iconst 0, 1) := dk_3 (dk_at dksX25_readyMany_0 0 rfl rfl)
theorem dX25_readyMany_1 : decode cX25_readyMany 1 = .ok (.istore_n 1, 1) := dk_60 (dk_at dksX25_readyMany_0 1 rfl rfl)
theorem dX25_readyMany_2 : decode cX25_readyMany 2 = .ok (.iconst 0, 1) := dk_3 (dk_at dksX25_readyMany_0 2 rfl rfl)
theorem dX25_readyMany_3 : decode cX25_readyMany 3 = .ok (.istore_n 2, 1) := dk_61 (dk_at dksX25_readyMany_0 3 rfl rfl)
theorem dX25_readyMany_4 : decode cX25_readyMany 4 = .ok (.iload_n 2, 1) := dk_28 (dk_at dksX25_readyMany_0 4 rfl rfl)
theorem dX25_readyMany_5 : decode cX25_readyMany 5 = .ok (.aload_n 0, 1) := dk_42 (dk_at dksX25_readyMany_0 5 rfl rfl)
theorem dX25_readyMany_6 : decode cX25_readyMany 6 = .ok (.getfield 160, 3) := dk_180 0 160 (dk_at dksX25_readyMany_0 6 rfl rfl)
theorem dX25_readyMany_9 : decode cX25_readyMany 9 = .ok (.if_icmp .ge 25, 3) := dk_162 0 25 (dk_at dksX25_readyMany_0 9 rfl rfl)
theorem dX25_readyMany_12 : decode cX25_readyMany 12 = .ok (.iload_n 1, 1) := dk_27 (dk_at dksX25_readyMany_0 12 rfl rfl)
theorem dX25_readyMany_13 : decode cX25_readyMany 13 = .ok (.aload_n 0, 1) := dk_42 (dk_at dksX25_readyMany_0 13 rfl rfl)
theorem dX25_readyMany_14 : decode cX25_readyMany 14 = .ok (.iload_n 2, 1) := dk_28 (dk_at dksX25_readyMany_0 14 rfl rfl)
theorem dX25_readyMany_15 : decode cX25_readyMany 15 = .ok (.invokevirtual 239, 3) := dk_182 0 239 (dk_at dksX25_readyMany_0 15 rfl rfl)
theorem dX25_readyMany_18 : decode cX25_readyMany 18 = .ok (.ifCond .ne 7, 3) := dk_154 0 7 (dk_at dksX25_readyMany_0 18 rfl rfl)
theorem dX25_readyMany_21 : decode cX25_readyMany 21 = .ok (.iconst 1, 1) := dk_4 (dk_at dksX25_readyMany_0 21 rfl rfl)
theorem dX25_readyMany_22 : decode cX25_readyMany 22 = .ok (.goto 4, 3) := dk_167 0 4 (dk_at dksX25_readyMany_1 0 rfl rfl)
theorem dX25_readyMany_25 : decode cX25_readyMany 25 = .ok (.iconst 0, 1) := dk_3 (dk_at dksX25_readyMany_1 3 rfl rfl)
theorem dX25_readyMany_26 : decode cX25_readyMany 26 = .ok (.iadd, 1) := dk_96 (dk_at dksX25_readyMany_1 4 rfl rfl)
theorem dX25_readyMany_27 : decode cX25_readyMany 27 = .ok (.istore_n 1, 1) := dk_60 (dk_at dksX25_readyMany_1 5 rfl rfl)
theorem dX25_readyMany_28 : decode cX25_readyMany 28 = .ok (.iinc 2 1, 3) := dk_132 2 1 (dk_at dksX25_readyMany_1 6 rfl rfl)
theorem dX25_readyMany_31 : decode cX25_readyMany 31 = .ok (.goto (-27), 3) := dk_167 255 229 (dk_at dksX25_readyMany_1 9 rfl rfl)
theorem dX25_readyMany_34 : decode cX25_readyMany 34 = .ok (.iload_n 1, 1) := dk_27 (dk_at dksX25_readyMany_1 12 rfl rfl)
theorem dX25_readyMany_35 : decode cX25_readyMany 35 = .ok (.ireturn, 1) := dk_172 (dk_at dksX25_readyMany_1 13 rfl rfl)
def dkwX25_drawn_4 : List UInt8 := [54, 6, 167, 255, 202, 29, 172]
abbrev dktX25_drawn_4 : List UInt8 := dkwX25_drawn_4 ++ []
def dkwX25_drawn_3 : List UInt8 := [22, 4, 20, 1, 4, 109, 21, 6, 133, 113, 136, 182, 0, 251, 182, 0, 242, 132, 3, 1, 42, 182, 0, 247]
abbrev dktX25_drawn_3 : List UInt8 := dkwX25_drawn_3 ++ dktX25_drawn_4
def dkwX25_drawn_2 : List UInt8 := [21, 6, 158, 0, 50, 22, 4, 20, 0, 254, 105, 20, 1, 0, 97, 20, 1, 2, 127, 55, 4, 42, 42]
abbrev dktX25_drawn_2 : List UInt8 := dkwX25_drawn_2 ++ dktX25_drawn_3
def dkwX25_drawn_1 : List UInt8 := [154, 0, 6, 16, 254, 172, 3, 62, 27, 133, 55, 4, 42, 182, 0, 247, 54, 6, 29, 28, 162, 0, 55]
abbrev dktX25_drawn_1 : List UInt8 := dkwX25_drawn_1 ++ dktX25_drawn_2
def dkwX25_drawn_0 : List UInt8 := [27, 155, 0, 15, 28, 133, 10, 20, 0, 245, 184, 0, 118, 154, 0, 5, 2, 172, 42, 180, 0, 130]
abbrev dktX25_drawn_0 : List UInt8 := dkwX25_drawn_0 ++ dktX25_drawn_1
theorem dksX25_drawn_0 : cX25_drawn.data.toList.drop 0 = dktX25_drawn_0 := by decide +kernel
theorem dksX25_drawn_1 : cX25_drawn.data.toList.drop 22 = dktX25_drawn_1 := dk_seg dksX25_drawn_0 22 rfl rfl
theorem dksX25_drawn_2 : cX25_drawn.data.toList.drop 45 = dktX25_drawn_2 := dk_seg dksX25_drawn_1 23 rfl rfl
theorem dksX25_drawn_3 : cX25_drawn.data.toList.drop 68 = dktX25_drawn_3 := dk_seg dksX25_drawn_2 23 rfl rfl
theorem dksX25_drawn_4 : cX25_drawn.data.toList.drop 92 = dktX25_drawn_4 := dk_seg dksX25_drawn_3 24 rfl rfl
theorem dX25_drawn_0 : decode cX25_drawn 0 = .ok (.iload_n 1, 1) := dk_27 (dk_at dksX25_drawn_0 0 rfl rfl)
theorem dX25_drawn_1 : decode cX25_drawn 1 = .ok (.ifCond .lt 15, 3) := dk_155 0 15 (dk_at dksX25_drawn_0 1 rfl rfl)
theorem dX25_drawn_4 : decode cX25_drawn 4 = .ok (.iload_n 2, 1) := dk_28 (dk_at dksX25_drawn_0 4 rfl rfl)
theorem dX25_drawn_5 : decode cX25_drawn 5 = .ok (.i2l, 1) := dk_133 (dk_at dksX25_drawn_0 5 rfl rfl)
theorem dX25_drawn_6 : decode cX25_drawn 6 = .ok (.lconst 1, 1) := dk_10 (dk_at dksX25_drawn_0 6 rfl rfl)
theorem dX25_drawn_7 : decode cX25_drawn 7 = .ok (.ldc2_w 245, 3) := dk_20 0 245 (dk_at dksX25_drawn_0 7 rfl rfl)
theorem dX25_drawn_10 : decode cX25_drawn 10 = .ok (.invokestatic 118, 3) := dk_184 0 118 (dk_at dksX25_drawn_0 10 rfl rfl)
theorem dX25_drawn_13 : decode cX25_drawn 13 = .ok (.ifCond .ne 5, 3) := dk_154 0 5 (dk_at dksX25_drawn_0 13 rfl rfl)
theorem dX25_drawn_16 : decode cX25_drawn 16 = .ok (.iconst (-1), 1) := dk_2 (dk_at dksX25_drawn_0 16 rfl rfl)
theorem dX25_drawn_17 : decode cX25_drawn 17 = .ok (.ireturn, 1) := dk_172 (dk_at dksX25_drawn_0 17 rfl rfl)
theorem dX25_drawn_18 : decode cX25_drawn 18 = .ok (.aload_n 0, 1) := dk_42 (dk_at dksX25_drawn_0 18 rfl rfl)
theorem dX25_drawn_19 : decode cX25_drawn 19 = .ok (.getfield 130, 3) := dk_180 0 130 (dk_at dksX25_drawn_0 19 rfl rfl)
theorem dX25_drawn_22 : decode cX25_drawn 22 = .ok (.ifCond .ne 6, 3) := dk_154 0 6 (dk_at dksX25_drawn_1 0 rfl rfl)
theorem dX25_drawn_25 : decode cX25_drawn 25 = .ok (.bipush (-2), 2) := dk_16 254 (dk_at dksX25_drawn_1 3 rfl rfl)
theorem dX25_drawn_27 : decode cX25_drawn 27 = .ok (.ireturn, 1) := dk_172 (dk_at dksX25_drawn_1 5 rfl rfl)
theorem dX25_drawn_28 : decode cX25_drawn 28 = .ok (.iconst 0, 1) := dk_3 (dk_at dksX25_drawn_1 6 rfl rfl)
theorem dX25_drawn_29 : decode cX25_drawn 29 = .ok (.istore_n 3, 1) := dk_62 (dk_at dksX25_drawn_1 7 rfl rfl)
theorem dX25_drawn_30 : decode cX25_drawn 30 = .ok (.iload_n 1, 1) := dk_27 (dk_at dksX25_drawn_1 8 rfl rfl)
theorem dX25_drawn_31 : decode cX25_drawn 31 = .ok (.i2l, 1) := dk_133 (dk_at dksX25_drawn_1 9 rfl rfl)
theorem dX25_drawn_32 : decode cX25_drawn 32 = .ok (.lstore 4, 2) := dk_55 4 (dk_at dksX25_drawn_1 10 rfl rfl)
theorem dX25_drawn_34 : decode cX25_drawn 34 = .ok (.aload_n 0, 1) := dk_42 (dk_at dksX25_drawn_1 12 rfl rfl)
theorem dX25_drawn_35 : decode cX25_drawn 35 = .ok (.invokevirtual 247, 3) := dk_182 0 247 (dk_at dksX25_drawn_1 13 rfl rfl)
theorem dX25_drawn_38 : decode cX25_drawn 38 = .ok (.istore 6, 2) := dk_54 6 (dk_at dksX25_drawn_1 16 rfl rfl)
theorem dX25_drawn_40 : decode cX25_drawn 40 = .ok (.iload_n 3, 1) := dk_29 (dk_at dksX25_drawn_1 18 rfl rfl)
theorem dX25_drawn_41 : decode cX25_drawn 41 = .ok (.iload_n 2, 1) := dk_28 (dk_at dksX25_drawn_1 19 rfl rfl)
theorem dX25_drawn_42 : decode cX25_drawn 42 = .ok (.if_icmp .ge 55, 3) := dk_162 0 55 (dk_at dksX25_drawn_1 20 rfl rfl)
theorem dX25_drawn_45 : decode cX25_drawn 45 = .ok (.iload 6, 2) := dk_21 6 (dk_at dksX25_drawn_2 0 rfl rfl)
theorem dX25_drawn_47 : decode cX25_drawn 47 = .ok (.ifCond .le 50, 3) := dk_158 0 50 (dk_at dksX25_drawn_2 2 rfl rfl)
theorem dX25_drawn_50 : decode cX25_drawn 50 = .ok (.lload 4, 2) := dk_22 4 (dk_at dksX25_drawn_2 5 rfl rfl)
theorem dX25_drawn_52 : decode cX25_drawn 52 = .ok (.ldc2_w 254, 3) := dk_20 0 254 (dk_at dksX25_drawn_2 7 rfl rfl)
theorem dX25_drawn_55 : decode cX25_drawn 55 = .ok (.lmul, 1) := dk_105 (dk_at dksX25_drawn_2 10 rfl rfl)
theorem dX25_drawn_56 : decode cX25_drawn 56 = .ok (.ldc2_w 256, 3) := dk_20 1 0 (dk_at dksX25_drawn_2 11 rfl rfl)
theorem dX25_drawn_59 : decode cX25_drawn 59 = .ok (.ladd, 1) := dk_97 (dk_at dksX25_drawn_2 14 rfl rfl)
theorem dX25_drawn_60 : decode cX25_drawn 60 = .ok (.ldc2_w 258, 3) := dk_20 1 2 (dk_at dksX25_drawn_2 15 rfl rfl)
theorem dX25_drawn_63 : decode cX25_drawn 63 = .ok (.land, 1) := dk_127 (dk_at dksX25_drawn_2 18 rfl rfl)
theorem dX25_drawn_64 : decode cX25_drawn 64 = .ok (.lstore 4, 2) := dk_55 4 (dk_at dksX25_drawn_2 19 rfl rfl)
theorem dX25_drawn_66 : decode cX25_drawn 66 = .ok (.aload_n 0, 1) := dk_42 (dk_at dksX25_drawn_2 21 rfl rfl)
theorem dX25_drawn_67 : decode cX25_drawn 67 = .ok (.aload_n 0, 1) := dk_42 (dk_at dksX25_drawn_2 22 rfl rfl)
theorem dX25_drawn_68 : decode cX25_drawn 68 = .ok (.lload 4, 2) := dk_22 4 (dk_at dksX25_drawn_3 0 rfl rfl)
theorem dX25_drawn_70 : decode cX25_drawn 70 = .ok (.ldc2_w 260, 3) := dk_20 1 4 (dk_at dksX25_drawn_3 2 rfl rfl)
theorem dX25_drawn_73 : decode cX25_drawn 73 = .ok (.ldiv, 1) := dk_109 (dk_at dksX25_drawn_3 5 rfl rfl)
theorem dX25_drawn_74 : decode cX25_drawn 74 = .ok (.iload 6, 2) := dk_21 6 (dk_at dksX25_drawn_3 6 rfl rfl)
theorem dX25_drawn_76 : decode cX25_drawn 76 = .ok (.i2l, 1) := dk_133 (dk_at dksX25_drawn_3 8 rfl rfl)
theorem dX25_drawn_77 : decode cX25_drawn 77 = .ok (.lrem, 1) := dk_113 (dk_at dksX25_drawn_3 9 rfl rfl)
theorem dX25_drawn_78 : decode cX25_drawn 78 = .ok (.l2i, 1) := dk_136 (dk_at dksX25_drawn_3 10 rfl rfl)
theorem dX25_drawn_79 : decode cX25_drawn 79 = .ok (.invokevirtual 251, 3) := dk_182 0 251 (dk_at dksX25_drawn_3 11 rfl rfl)
theorem dX25_drawn_82 : decode cX25_drawn 82 = .ok (.invokevirtual 242, 3) := dk_182 0 242 (dk_at dksX25_drawn_3 14 rfl rfl)
theorem dX25_drawn_85 : decode cX25_drawn 85 = .ok (.iinc 3 1, 3) := dk_132 3 1 (dk_at dksX25_drawn_3 17 rfl rfl)
theorem dX25_drawn_88 : decode cX25_drawn 88 = .ok (.aload_n 0, 1) := dk_42 (dk_at dksX25_drawn_3 20 rfl rfl)
theorem dX25_drawn_89 : decode cX25_drawn 89 = .ok (.invokevirtual 247, 3) := dk_182 0 247 (dk_at dksX25_drawn_3 21 rfl rfl)
theorem dX25_drawn_92 : decode cX25_drawn 92 = .ok (.istore 6, 2) := dk_54 6 (dk_at dksX25_drawn_4 0 rfl rfl)
theorem dX25_drawn_94 : decode cX25_drawn 94 = .ok (.goto (-54), 3) := dk_167 255 202 (dk_at dksX25_drawn_4 2 rfl rfl)
theorem dX25_drawn_97 : decode cX25_drawn 97 = .ok (.iload_n 3, 1) := dk_29 (dk_at dksX25_drawn_4 5 rfl rfl)
theorem dX25_drawn_98 : decode cX25_drawn 98 = .ok (.ireturn, 1) := dk_172 (dk_at dksX25_drawn_4 6 rfl rfl)
def dkwX25_about_6 : List UInt8 := [167, 0, 9, 42, 180, 0, 62, 27, 46, 172, 42, 180, 0, 65, 27, 46, 172, 2, 172]
abbrev dktX25_about_6 : List UInt8 := dkwX25_about_6 ++ []
def dkwX25_about_5 : List UInt8 := [180, 0, 99, 27, 46, 172, 42, 27, 182, 0, 187, 172, 42, 180, 0, 41, 27, 46, 7, 160, 0, 8, 16, 252]
abbrev dktX25_about_5 : List UInt8 := dkwX25_about_5 ++ dktX25_about_6
def dkwX25_about_4 : List UInt8 := [42, 180, 0, 53, 27, 46, 172, 42, 180, 0, 50, 27, 46, 172, 42, 180, 0, 93, 27, 46, 172, 42]
abbrev dktX25_about_4 : List UInt8 := dkwX25_about_4 ++ dktX25_about_5
def dkwX25_about_3 : List UInt8 := [27, 46, 172, 42, 180, 0, 44, 27, 46, 172, 42, 180, 0, 35, 27, 46, 172, 42, 180, 0, 38, 27, 46, 172]
abbrev dktX25_about_3 : List UInt8 := dkwX25_about_3 ++ dktX25_about_4
def dkwX25_about_2 : List UInt8 := [42, 27, 182, 0, 239, 172, 42, 180, 0, 56, 27, 46, 172, 42, 180, 0, 59, 27, 46, 172, 42, 180, 0, 47]
abbrev dktX25_about_2 : List UInt8 := dkwX25_about_2 ++ dktX25_about_3
def dkwX25_about_1 : List UInt8 := [170, 0, 0, 0, 180, 0, 0, 0, 0, 0, 0, 0, 13, 0, 0, 0, 69, 0, 0, 0, 75, 0, 0, 0, 82, 0, 0, 0, 89, 0, 0, 0, 96, 0, 0, 0, 103, 0, 0, 0, 110, 0, 0, 0, 117, 0, 0, 0, 124, 0, 0, 0, 131, 0, 0, 0, 138, 0, 0, 0, 145, 0, 0, 0, 151, 0, 0, 0, 173]
abbrev dktX25_about_1 : List UInt8 := dkwX25_about_1 ++ dktX25_about_2
def dkwX25_about_0 : List UInt8 := [42, 27, 182, 0, 234, 154, 0, 5, 2, 172, 28]
abbrev dktX25_about_0 : List UInt8 := dkwX25_about_0 ++ dktX25_about_1
theorem dksX25_about_0 : cX25_about.data.toList.drop 0 = dktX25_about_0 := by decide +kernel
theorem dksX25_about_1 : cX25_about.data.toList.drop 11 = dktX25_about_1 := dk_seg dksX25_about_0 11 rfl rfl
theorem dksX25_about_2 : cX25_about.data.toList.drop 80 = dktX25_about_2 := dk_seg dksX25_about_1 69 rfl rfl
theorem dksX25_about_3 : cX25_about.data.toList.drop 104 = dktX25_about_3 := dk_seg dksX25_about_2 24 rfl rfl
theorem dksX25_about_4 : cX25_about.data.toList.drop 128 = dktX25_about_4 := dk_seg dksX25_about_3 24 rfl rfl
theorem dksX25_about_5 : cX25_about.data.toList.drop 150 = dktX25_about_5 := dk_seg dksX25_about_4 22 rfl rfl
theorem dksX25_about_6 : cX25_about.data.toList.drop 174 = dktX25_about_6 := dk_seg dksX25_about_5 24 rfl rfl
theorem dX25_about_0 : decode cX25_about 0 = .ok (.aload_n 0, 1) := dk_42 (dk_at dksX25_about_0 0 rfl rfl)
theorem dX25_about_1 : decode cX25_about 1 = .ok (.iload_n 1, 1) := dk_27 (dk_at dksX25_about_0 1 rfl rfl)
theorem dX25_about_2 : decode cX25_about 2 = .ok (.invokevirtual 234, 3) := dk_182 0 234 (dk_at dksX25_about_0 2 rfl rfl)
theorem dX25_about_5 : decode cX25_about 5 = .ok (.ifCond .ne 5, 3) := dk_154 0 5 (dk_at dksX25_about_0 5 rfl rfl)
theorem dX25_about_8 : decode cX25_about 8 = .ok (.iconst (-1), 1) := dk_2 (dk_at dksX25_about_0 8 rfl rfl)
theorem dX25_about_9 : decode cX25_about 9 = .ok (.ireturn, 1) := dk_172 (dk_at dksX25_about_0 9 rfl rfl)
theorem dX25_about_10 : decode cX25_about 10 = .ok (.iload_n 2, 1) := dk_28 (dk_at dksX25_about_0 10 rfl rfl)
theorem dX25_about_11 : decode cX25_about 11 = .ok (.tableswitch 180 0 13 #[69, 75, 82, 89, 96, 103, 110, 117, 124, 131, 138, 145, 151, 173], 69) := by decide +kernel
theorem dX25_about_80 : decode cX25_about 80 = .ok (.aload_n 0, 1) := dk_42 (dk_at dksX25_about_2 0 rfl rfl)
theorem dX25_about_81 : decode cX25_about 81 = .ok (.iload_n 1, 1) := dk_27 (dk_at dksX25_about_2 1 rfl rfl)
theorem dX25_about_82 : decode cX25_about 82 = .ok (.invokevirtual 239, 3) := dk_182 0 239 (dk_at dksX25_about_2 2 rfl rfl)
theorem dX25_about_85 : decode cX25_about 85 = .ok (.ireturn, 1) := dk_172 (dk_at dksX25_about_2 5 rfl rfl)
theorem dX25_about_86 : decode cX25_about 86 = .ok (.aload_n 0, 1) := dk_42 (dk_at dksX25_about_2 6 rfl rfl)
theorem dX25_about_87 : decode cX25_about 87 = .ok (.getfield 56, 3) := dk_180 0 56 (dk_at dksX25_about_2 7 rfl rfl)
theorem dX25_about_90 : decode cX25_about 90 = .ok (.iload_n 1, 1) := dk_27 (dk_at dksX25_about_2 10 rfl rfl)
theorem dX25_about_91 : decode cX25_about 91 = .ok (.iaload, 1) := dk_46 (dk_at dksX25_about_2 11 rfl rfl)
theorem dX25_about_92 : decode cX25_about 92 = .ok (.ireturn, 1) := dk_172 (dk_at dksX25_about_2 12 rfl rfl)
theorem dX25_about_93 : decode cX25_about 93 = .ok (.aload_n 0, 1) := dk_42 (dk_at dksX25_about_2 13 rfl rfl)
theorem dX25_about_94 : decode cX25_about 94 = .ok (.getfield 59, 3) := dk_180 0 59 (dk_at dksX25_about_2 14 rfl rfl)
theorem dX25_about_97 : decode cX25_about 97 = .ok (.iload_n 1, 1) := dk_27 (dk_at dksX25_about_2 17 rfl rfl)
theorem dX25_about_98 : decode cX25_about 98 = .ok (.iaload, 1) := dk_46 (dk_at dksX25_about_2 18 rfl rfl)
theorem dX25_about_99 : decode cX25_about 99 = .ok (.ireturn, 1) := dk_172 (dk_at dksX25_about_2 19 rfl rfl)
theorem dX25_about_100 : decode cX25_about 100 = .ok (.aload_n 0, 1) := dk_42 (dk_at dksX25_about_2 20 rfl rfl)
theorem dX25_about_101 : decode cX25_about 101 = .ok (.getfield 47, 3) := dk_180 0 47 (dk_at dksX25_about_2 21 rfl rfl)
theorem dX25_about_104 : decode cX25_about 104 = .ok (.iload_n 1, 1) := dk_27 (dk_at dksX25_about_3 0 rfl rfl)
theorem dX25_about_105 : decode cX25_about 105 = .ok (.iaload, 1) := dk_46 (dk_at dksX25_about_3 1 rfl rfl)
theorem dX25_about_106 : decode cX25_about 106 = .ok (.ireturn, 1) := dk_172 (dk_at dksX25_about_3 2 rfl rfl)
theorem dX25_about_107 : decode cX25_about 107 = .ok (.aload_n 0, 1) := dk_42 (dk_at dksX25_about_3 3 rfl rfl)
theorem dX25_about_108 : decode cX25_about 108 = .ok (.getfield 44, 3) := dk_180 0 44 (dk_at dksX25_about_3 4 rfl rfl)
theorem dX25_about_111 : decode cX25_about 111 = .ok (.iload_n 1, 1) := dk_27 (dk_at dksX25_about_3 7 rfl rfl)
theorem dX25_about_112 : decode cX25_about 112 = .ok (.iaload, 1) := dk_46 (dk_at dksX25_about_3 8 rfl rfl)
theorem dX25_about_113 : decode cX25_about 113 = .ok (.ireturn, 1) := dk_172 (dk_at dksX25_about_3 9 rfl rfl)
theorem dX25_about_114 : decode cX25_about 114 = .ok (.aload_n 0, 1) := dk_42 (dk_at dksX25_about_3 10 rfl rfl)
theorem dX25_about_115 : decode cX25_about 115 = .ok (.getfield 35, 3) := dk_180 0 35 (dk_at dksX25_about_3 11 rfl rfl)
theorem dX25_about_118 : decode cX25_about 118 = .ok (.iload_n 1, 1) := dk_27 (dk_at dksX25_about_3 14 rfl rfl)
theorem dX25_about_119 : decode cX25_about 119 = .ok (.iaload, 1) := dk_46 (dk_at dksX25_about_3 15 rfl rfl)
theorem dX25_about_120 : decode cX25_about 120 = .ok (.ireturn, 1) := dk_172 (dk_at dksX25_about_3 16 rfl rfl)
theorem dX25_about_121 : decode cX25_about 121 = .ok (.aload_n 0, 1) := dk_42 (dk_at dksX25_about_3 17 rfl rfl)
theorem dX25_about_122 : decode cX25_about 122 = .ok (.getfield 38, 3) := dk_180 0 38 (dk_at dksX25_about_3 18 rfl rfl)
theorem dX25_about_125 : decode cX25_about 125 = .ok (.iload_n 1, 1) := dk_27 (dk_at dksX25_about_3 21 rfl rfl)
theorem dX25_about_126 : decode cX25_about 126 = .ok (.iaload, 1) := dk_46 (dk_at dksX25_about_3 22 rfl rfl)
theorem dX25_about_127 : decode cX25_about 127 = .ok (.ireturn, 1) := dk_172 (dk_at dksX25_about_3 23 rfl rfl)
theorem dX25_about_128 : decode cX25_about 128 = .ok (.aload_n 0, 1) := dk_42 (dk_at dksX25_about_4 0 rfl rfl)
theorem dX25_about_129 : decode cX25_about 129 = .ok (.getfield 53, 3) := dk_180 0 53 (dk_at dksX25_about_4 1 rfl rfl)
theorem dX25_about_132 : decode cX25_about 132 = .ok (.iload_n 1, 1) := dk_27 (dk_at dksX25_about_4 4 rfl rfl)
theorem dX25_about_133 : decode cX25_about 133 = .ok (.iaload, 1) := dk_46 (dk_at dksX25_about_4 5 rfl rfl)
theorem dX25_about_134 : decode cX25_about 134 = .ok (.ireturn, 1) := dk_172 (dk_at dksX25_about_4 6 rfl rfl)
theorem dX25_about_135 : decode cX25_about 135 = .ok (.aload_n 0, 1) := dk_42 (dk_at dksX25_about_4 7 rfl rfl)
theorem dX25_about_136 : decode cX25_about 136 = .ok (.getfield 50, 3) := dk_180 0 50 (dk_at dksX25_about_4 8 rfl rfl)
theorem dX25_about_139 : decode cX25_about 139 = .ok (.iload_n 1, 1) := dk_27 (dk_at dksX25_about_4 11 rfl rfl)
theorem dX25_about_140 : decode cX25_about 140 = .ok (.iaload, 1) := dk_46 (dk_at dksX25_about_4 12 rfl rfl)
theorem dX25_about_141 : decode cX25_about 141 = .ok (.ireturn, 1) := dk_172 (dk_at dksX25_about_4 13 rfl rfl)
theorem dX25_about_142 : decode cX25_about 142 = .ok (.aload_n 0, 1) := dk_42 (dk_at dksX25_about_4 14 rfl rfl)
theorem dX25_about_143 : decode cX25_about 143 = .ok (.getfield 93, 3) := dk_180 0 93 (dk_at dksX25_about_4 15 rfl rfl)
theorem dX25_about_146 : decode cX25_about 146 = .ok (.iload_n 1, 1) := dk_27 (dk_at dksX25_about_4 18 rfl rfl)
theorem dX25_about_147 : decode cX25_about 147 = .ok (.iaload, 1) := dk_46 (dk_at dksX25_about_4 19 rfl rfl)
theorem dX25_about_148 : decode cX25_about 148 = .ok (.ireturn, 1) := dk_172 (dk_at dksX25_about_4 20 rfl rfl)
theorem dX25_about_149 : decode cX25_about 149 = .ok (.aload_n 0, 1) := dk_42 (dk_at dksX25_about_4 21 rfl rfl)
theorem dX25_about_150 : decode cX25_about 150 = .ok (.getfield 99, 3) := dk_180 0 99 (dk_at dksX25_about_5 0 rfl rfl)
theorem dX25_about_153 : decode cX25_about 153 = .ok (.iload_n 1, 1) := dk_27 (dk_at dksX25_about_5 3 rfl rfl)
theorem dX25_about_154 : decode cX25_about 154 = .ok (.iaload, 1) := dk_46 (dk_at dksX25_about_5 4 rfl rfl)
theorem dX25_about_155 : decode cX25_about 155 = .ok (.ireturn, 1) := dk_172 (dk_at dksX25_about_5 5 rfl rfl)
theorem dX25_about_156 : decode cX25_about 156 = .ok (.aload_n 0, 1) := dk_42 (dk_at dksX25_about_5 6 rfl rfl)
theorem dX25_about_157 : decode cX25_about 157 = .ok (.iload_n 1, 1) := dk_27 (dk_at dksX25_about_5 7 rfl rfl)
theorem dX25_about_158 : decode cX25_about 158 = .ok (.invokevirtual 187, 3) := dk_182 0 187 (dk_at dksX25_about_5 8 rfl rfl)
theorem dX25_about_161 : decode cX25_about 161 = .ok (.ireturn, 1) := dk_172 (dk_at dksX25_about_5 11 rfl rfl)
theorem dX25_about_162 : decode cX25_about 162 = .ok (.aload_n 0, 1) := dk_42 (dk_at dksX25_about_5 12 rfl rfl)
theorem dX25_about_163 : decode cX25_about 163 = .ok (.getfield 41, 3) := dk_180 0 41 (dk_at dksX25_about_5 13 rfl rfl)
theorem dX25_about_166 : decode cX25_about 166 = .ok (.iload_n 1, 1) := dk_27 (dk_at dksX25_about_5 16 rfl rfl)
theorem dX25_about_167 : decode cX25_about 167 = .ok (.iaload, 1) := dk_46 (dk_at dksX25_about_5 17 rfl rfl)
theorem dX25_about_168 : decode cX25_about 168 = .ok (.iconst 4, 1) := dk_7 (dk_at dksX25_about_5 18 rfl rfl)
theorem dX25_about_169 : decode cX25_about 169 = .ok (.if_icmp .ne 8, 3) := dk_160 0 8 (dk_at dksX25_about_5 19 rfl rfl)
theorem dX25_about_172 : decode cX25_about 172 = .ok (.bipush (-4), 2) := dk_16 252 (dk_at dksX25_about_5 22 rfl rfl)
theorem dX25_about_174 : decode cX25_about 174 = .ok (.goto 9, 3) := dk_167 0 9 (dk_at dksX25_about_6 0 rfl rfl)
theorem dX25_about_177 : decode cX25_about 177 = .ok (.aload_n 0, 1) := dk_42 (dk_at dksX25_about_6 3 rfl rfl)
theorem dX25_about_178 : decode cX25_about 178 = .ok (.getfield 62, 3) := dk_180 0 62 (dk_at dksX25_about_6 4 rfl rfl)
theorem dX25_about_181 : decode cX25_about 181 = .ok (.iload_n 1, 1) := dk_27 (dk_at dksX25_about_6 7 rfl rfl)
theorem dX25_about_182 : decode cX25_about 182 = .ok (.iaload, 1) := dk_46 (dk_at dksX25_about_6 8 rfl rfl)
theorem dX25_about_183 : decode cX25_about 183 = .ok (.ireturn, 1) := dk_172 (dk_at dksX25_about_6 9 rfl rfl)
theorem dX25_about_184 : decode cX25_about 184 = .ok (.aload_n 0, 1) := dk_42 (dk_at dksX25_about_6 10 rfl rfl)
theorem dX25_about_185 : decode cX25_about 185 = .ok (.getfield 65, 3) := dk_180 0 65 (dk_at dksX25_about_6 11 rfl rfl)
theorem dX25_about_188 : decode cX25_about 188 = .ok (.iload_n 1, 1) := dk_27 (dk_at dksX25_about_6 14 rfl rfl)
theorem dX25_about_189 : decode cX25_about 189 = .ok (.iaload, 1) := dk_46 (dk_at dksX25_about_6 15 rfl rfl)
theorem dX25_about_190 : decode cX25_about 190 = .ok (.ireturn, 1) := dk_172 (dk_at dksX25_about_6 16 rfl rfl)
theorem dX25_about_191 : decode cX25_about 191 = .ok (.iconst (-1), 1) := dk_2 (dk_at dksX25_about_6 17 rfl rfl)
theorem dX25_about_192 : decode cX25_about 192 = .ok (.ireturn, 1) := dk_172 (dk_at dksX25_about_6 18 rfl rfl)
def dkwX25_result_1 : List UInt8 := [154, 0, 12, 42, 180, 0, 75, 27, 47, 167, 0, 4, 9, 173]
abbrev dktX25_result_1 : List UInt8 := dkwX25_result_1 ++ []
def dkwX25_result_0 : List UInt8 := [42, 27, 182, 0, 234, 153, 0, 30, 42, 180, 0, 71, 27, 51, 153, 0, 21, 42, 180, 0, 78, 27, 51]
abbrev dktX25_result_0 : List UInt8 := dkwX25_result_0 ++ dktX25_result_1
theorem dksX25_result_0 : cX25_result.data.toList.drop 0 = dktX25_result_0 := by decide +kernel
theorem dksX25_result_1 : cX25_result.data.toList.drop 23 = dktX25_result_1 := dk_seg dksX25_result_0 23 rfl rfl
theorem dX25_result_0 : decode cX25_result 0 = .ok (.aload_n 0, 1) := dk_42 (dk_at dksX25_result_0 0 rfl rfl)
theorem dX25_result_1 : decode cX25_result 1 = .ok (.iload_n 1, 1) := dk_27 (dk_at dksX25_result_0 1 rfl rfl)
theorem dX25_result_2 : decode cX25_result 2 = .ok (.invokevirtual 234, 3) := dk_182 0 234 (dk_at dksX25_result_0 2 rfl rfl)
theorem dX25_result_5 : decode cX25_result 5 = .ok (.ifCond .eq 30, 3) := dk_153 0 30 (dk_at dksX25_result_0 5 rfl rfl)
theorem dX25_result_8 : decode cX25_result 8 = .ok (.aload_n 0, 1) := dk_42 (dk_at dksX25_result_0 8 rfl rfl)
theorem dX25_result_9 : decode cX25_result 9 = .ok (.getfield 71, 3) := dk_180 0 71 (dk_at dksX25_result_0 9 rfl rfl)
theorem dX25_result_12 : decode cX25_result 12 = .ok (.iload_n 1, 1) := dk_27 (dk_at dksX25_result_0 12 rfl rfl)
theorem dX25_result_13 : decode cX25_result 13 = .ok (.baload, 1) := dk_51 (dk_at dksX25_result_0 13 rfl rfl)
theorem dX25_result_14 : decode cX25_result 14 = .ok (.ifCond .eq 21, 3) := dk_153 0 21 (dk_at dksX25_result_0 14 rfl rfl)
theorem dX25_result_17 : decode cX25_result 17 = .ok (.aload_n 0, 1) := dk_42 (dk_at dksX25_result_0 17 rfl rfl)
theorem dX25_result_18 : decode cX25_result 18 = .ok (.getfield 78, 3) := dk_180 0 78 (dk_at dksX25_result_0 18 rfl rfl)
theorem dX25_result_21 : decode cX25_result 21 = .ok (.iload_n 1, 1) := dk_27 (dk_at dksX25_result_0 21 rfl rfl)
theorem dX25_result_22 : decode cX25_result 22 = .ok (.baload, 1) := dk_51 (dk_at dksX25_result_0 22 rfl rfl)
theorem dX25_result_23 : decode cX25_result 23 = .ok (.ifCond .ne 12, 3) := dk_154 0 12 (dk_at dksX25_result_1 0 rfl rfl)
theorem dX25_result_26 : decode cX25_result 26 = .ok (.aload_n 0, 1) := dk_42 (dk_at dksX25_result_1 3 rfl rfl)
theorem dX25_result_27 : decode cX25_result 27 = .ok (.getfield 75, 3) := dk_180 0 75 (dk_at dksX25_result_1 4 rfl rfl)
theorem dX25_result_30 : decode cX25_result 30 = .ok (.iload_n 1, 1) := dk_27 (dk_at dksX25_result_1 7 rfl rfl)
theorem dX25_result_31 : decode cX25_result 31 = .ok (.laload, 1) := dk_47 (dk_at dksX25_result_1 8 rfl rfl)
theorem dX25_result_32 : decode cX25_result 32 = .ok (.goto 4, 3) := dk_167 0 4 (dk_at dksX25_result_1 9 rfl rfl)
theorem dX25_result_35 : decode cX25_result 35 = .ok (.lconst 0, 1) := dk_9 (dk_at dksX25_result_1 12 rfl rfl)
theorem dX25_result_36 : decode cX25_result 36 = .ok (.lreturn, 1) := dk_173 (dk_at dksX25_result_1 13 rfl rfl)
def dkwX25_out_1 : List UInt8 := [153, 0, 17, 42, 180, 0, 96, 16, 60, 27, 104, 28, 96, 47, 167, 0, 4, 9, 173]
abbrev dktX25_out_1 : List UInt8 := dkwX25_out_1 ++ []
def dkwX25_out_0 : List UInt8 := [42, 27, 182, 0, 234, 153, 0, 35, 28, 133, 9, 42, 180, 0, 99, 27, 46, 4, 100, 133, 184, 0, 118]
abbrev dktX25_out_0 : List UInt8 := dkwX25_out_0 ++ dktX25_out_1
theorem dksX25_out_0 : cX25_out.data.toList.drop 0 = dktX25_out_0 := by decide +kernel
theorem dksX25_out_1 : cX25_out.data.toList.drop 23 = dktX25_out_1 := dk_seg dksX25_out_0 23 rfl rfl
theorem dX25_out_0 : decode cX25_out 0 = .ok (.aload_n 0, 1) := dk_42 (dk_at dksX25_out_0 0 rfl rfl)
theorem dX25_out_1 : decode cX25_out 1 = .ok (.iload_n 1, 1) := dk_27 (dk_at dksX25_out_0 1 rfl rfl)
theorem dX25_out_2 : decode cX25_out 2 = .ok (.invokevirtual 234, 3) := dk_182 0 234 (dk_at dksX25_out_0 2 rfl rfl)
theorem dX25_out_5 : decode cX25_out 5 = .ok (.ifCond .eq 35, 3) := dk_153 0 35 (dk_at dksX25_out_0 5 rfl rfl)
theorem dX25_out_8 : decode cX25_out 8 = .ok (.iload_n 2, 1) := dk_28 (dk_at dksX25_out_0 8 rfl rfl)
theorem dX25_out_9 : decode cX25_out 9 = .ok (.i2l, 1) := dk_133 (dk_at dksX25_out_0 9 rfl rfl)
theorem dX25_out_10 : decode cX25_out 10 = .ok (.lconst 0, 1) := dk_9 (dk_at dksX25_out_0 10 rfl rfl)
theorem dX25_out_11 : decode cX25_out 11 = .ok (.aload_n 0, 1) := dk_42 (dk_at dksX25_out_0 11 rfl rfl)
theorem dX25_out_12 : decode cX25_out 12 = .ok (.getfield 99, 3) := dk_180 0 99 (dk_at dksX25_out_0 12 rfl rfl)
theorem dX25_out_15 : decode cX25_out 15 = .ok (.iload_n 1, 1) := dk_27 (dk_at dksX25_out_0 15 rfl rfl)
theorem dX25_out_16 : decode cX25_out 16 = .ok (.iaload, 1) := dk_46 (dk_at dksX25_out_0 16 rfl rfl)
theorem dX25_out_17 : decode cX25_out 17 = .ok (.iconst 1, 1) := dk_4 (dk_at dksX25_out_0 17 rfl rfl)
theorem dX25_out_18 : decode cX25_out 18 = .ok (.isub, 1) := dk_100 (dk_at dksX25_out_0 18 rfl rfl)
theorem dX25_out_19 : decode cX25_out 19 = .ok (.i2l, 1) := dk_133 (dk_at dksX25_out_0 19 rfl rfl)
theorem dX25_out_20 : decode cX25_out 20 = .ok (.invokestatic 118, 3) := dk_184 0 118 (dk_at dksX25_out_0 20 rfl rfl)
theorem dX25_out_23 : decode cX25_out 23 = .ok (.ifCond .eq 17, 3) := dk_153 0 17 (dk_at dksX25_out_1 0 rfl rfl)
theorem dX25_out_26 : decode cX25_out 26 = .ok (.aload_n 0, 1) := dk_42 (dk_at dksX25_out_1 3 rfl rfl)
theorem dX25_out_27 : decode cX25_out 27 = .ok (.getfield 96, 3) := dk_180 0 96 (dk_at dksX25_out_1 4 rfl rfl)
theorem dX25_out_30 : decode cX25_out 30 = .ok (.bipush 60, 2) := dk_16 60 (dk_at dksX25_out_1 7 rfl rfl)
theorem dX25_out_32 : decode cX25_out 32 = .ok (.iload_n 1, 1) := dk_27 (dk_at dksX25_out_1 9 rfl rfl)
theorem dX25_out_33 : decode cX25_out 33 = .ok (.imul, 1) := dk_104 (dk_at dksX25_out_1 10 rfl rfl)
theorem dX25_out_34 : decode cX25_out 34 = .ok (.iload_n 2, 1) := dk_28 (dk_at dksX25_out_1 11 rfl rfl)
theorem dX25_out_35 : decode cX25_out 35 = .ok (.iadd, 1) := dk_96 (dk_at dksX25_out_1 12 rfl rfl)
theorem dX25_out_36 : decode cX25_out 36 = .ok (.laload, 1) := dk_47 (dk_at dksX25_out_1 13 rfl rfl)
theorem dX25_out_37 : decode cX25_out 37 = .ok (.goto 4, 3) := dk_167 0 4 (dk_at dksX25_out_1 14 rfl rfl)
theorem dX25_out_40 : decode cX25_out 40 = .ok (.lconst 0, 1) := dk_9 (dk_at dksX25_out_1 17 rfl rfl)
theorem dX25_out_41 : decode cX25_out 41 = .ok (.lreturn, 1) := dk_173 (dk_at dksX25_out_1 18 rfl rfl)
def dkwX25_read_1 : List UInt8 := [27, 46, 7, 159, 0, 17, 42, 42, 180, 0, 62, 27, 46, 28, 182, 0, 212, 167, 0, 4, 9, 173]
abbrev dktX25_read_1 : List UInt8 := dkwX25_read_1 ++ []
def dkwX25_read_0 : List UInt8 := [42, 27, 182, 0, 234, 153, 0, 39, 28, 133, 9, 20, 0, 124, 184, 0, 118, 153, 0, 27, 42, 180, 0, 41]
abbrev dktX25_read_0 : List UInt8 := dkwX25_read_0 ++ dktX25_read_1
theorem dksX25_read_0 : cX25_read.data.toList.drop 0 = dktX25_read_0 := by decide +kernel
theorem dksX25_read_1 : cX25_read.data.toList.drop 24 = dktX25_read_1 := dk_seg dksX25_read_0 24 rfl rfl
theorem dX25_read_0 : decode cX25_read 0 = .ok (.aload_n 0, 1) := dk_42 (dk_at dksX25_read_0 0 rfl rfl)
theorem dX25_read_1 : decode cX25_read 1 = .ok (.iload_n 1, 1) := dk_27 (dk_at dksX25_read_0 1 rfl rfl)
theorem dX25_read_2 : decode cX25_read 2 = .ok (.invokevirtual 234, 3) := dk_182 0 234 (dk_at dksX25_read_0 2 rfl rfl)
theorem dX25_read_5 : decode cX25_read 5 = .ok (.ifCond .eq 39, 3) := dk_153 0 39 (dk_at dksX25_read_0 5 rfl rfl)
theorem dX25_read_8 : decode cX25_read 8 = .ok (.iload_n 2, 1) := dk_28 (dk_at dksX25_read_0 8 rfl rfl)
theorem dX25_read_9 : decode cX25_read 9 = .ok (.i2l, 1) := dk_133 (dk_at dksX25_read_0 9 rfl rfl)
theorem dX25_read_10 : decode cX25_read 10 = .ok (.lconst 0, 1) := dk_9 (dk_at dksX25_read_0 10 rfl rfl)
theorem dX25_read_11 : decode cX25_read 11 = .ok (.ldc2_w 124, 3) := dk_20 0 124 (dk_at dksX25_read_0 11 rfl rfl)
theorem dX25_read_14 : decode cX25_read 14 = .ok (.invokestatic 118, 3) := dk_184 0 118 (dk_at dksX25_read_0 14 rfl rfl)
theorem dX25_read_17 : decode cX25_read 17 = .ok (.ifCond .eq 27, 3) := dk_153 0 27 (dk_at dksX25_read_0 17 rfl rfl)
theorem dX25_read_20 : decode cX25_read 20 = .ok (.aload_n 0, 1) := dk_42 (dk_at dksX25_read_0 20 rfl rfl)
theorem dX25_read_21 : decode cX25_read 21 = .ok (.getfield 41, 3) := dk_180 0 41 (dk_at dksX25_read_0 21 rfl rfl)
theorem dX25_read_24 : decode cX25_read 24 = .ok (.iload_n 1, 1) := dk_27 (dk_at dksX25_read_1 0 rfl rfl)
theorem dX25_read_25 : decode cX25_read 25 = .ok (.iaload, 1) := dk_46 (dk_at dksX25_read_1 1 rfl rfl)
theorem dX25_read_26 : decode cX25_read 26 = .ok (.iconst 4, 1) := dk_7 (dk_at dksX25_read_1 2 rfl rfl)
theorem dX25_read_27 : decode cX25_read 27 = .ok (.if_icmp .eq 17, 3) := dk_159 0 17 (dk_at dksX25_read_1 3 rfl rfl)
theorem dX25_read_30 : decode cX25_read 30 = .ok (.aload_n 0, 1) := dk_42 (dk_at dksX25_read_1 6 rfl rfl)
theorem dX25_read_31 : decode cX25_read 31 = .ok (.aload_n 0, 1) := dk_42 (dk_at dksX25_read_1 7 rfl rfl)
theorem dX25_read_32 : decode cX25_read 32 = .ok (.getfield 62, 3) := dk_180 0 62 (dk_at dksX25_read_1 8 rfl rfl)
theorem dX25_read_35 : decode cX25_read 35 = .ok (.iload_n 1, 1) := dk_27 (dk_at dksX25_read_1 11 rfl rfl)
theorem dX25_read_36 : decode cX25_read 36 = .ok (.iaload, 1) := dk_46 (dk_at dksX25_read_1 12 rfl rfl)
theorem dX25_read_37 : decode cX25_read 37 = .ok (.iload_n 2, 1) := dk_28 (dk_at dksX25_read_1 13 rfl rfl)
theorem dX25_read_38 : decode cX25_read 38 = .ok (.invokevirtual 212, 3) := dk_182 0 212 (dk_at dksX25_read_1 14 rfl rfl)
theorem dX25_read_41 : decode cX25_read 41 = .ok (.goto 4, 3) := dk_167 0 4 (dk_at dksX25_read_1 17 rfl rfl)
theorem dX25_read_44 : decode cX25_read 44 = .ok (.lconst 0, 1) := dk_9 (dk_at dksX25_read_1 20 rfl rfl)
theorem dX25_read_45 : decode cX25_read 45 = .ok (.lreturn, 1) := dk_173 (dk_at dksX25_read_1 21 rfl rfl)
def dkwX25_mark_0 : List UInt8 := [42, 27, 182, 0, 234, 153, 0, 12, 42, 180, 0, 68, 27, 47, 167, 0, 4, 9, 173]
abbrev dktX25_mark_0 : List UInt8 := dkwX25_mark_0 ++ []
theorem dksX25_mark_0 : cX25_mark.data.toList.drop 0 = dktX25_mark_0 := by decide +kernel
theorem dX25_mark_0 : decode cX25_mark 0 = .ok (.aload_n 0, 1) := dk_42 (dk_at dksX25_mark_0 0 rfl rfl)
theorem dX25_mark_1 : decode cX25_mark 1 = .ok (.iload_n 1, 1) := dk_27 (dk_at dksX25_mark_0 1 rfl rfl)
theorem dX25_mark_2 : decode cX25_mark 2 = .ok (.invokevirtual 234, 3) := dk_182 0 234 (dk_at dksX25_mark_0 2 rfl rfl)
theorem dX25_mark_5 : decode cX25_mark 5 = .ok (.ifCond .eq 12, 3) := dk_153 0 12 (dk_at dksX25_mark_0 5 rfl rfl)
theorem dX25_mark_8 : decode cX25_mark 8 = .ok (.aload_n 0, 1) := dk_42 (dk_at dksX25_mark_0 8 rfl rfl)
theorem dX25_mark_9 : decode cX25_mark 9 = .ok (.getfield 68, 3) := dk_180 0 68 (dk_at dksX25_mark_0 9 rfl rfl)
theorem dX25_mark_12 : decode cX25_mark 12 = .ok (.iload_n 1, 1) := dk_27 (dk_at dksX25_mark_0 12 rfl rfl)
theorem dX25_mark_13 : decode cX25_mark 13 = .ok (.laload, 1) := dk_47 (dk_at dksX25_mark_0 13 rfl rfl)
theorem dX25_mark_14 : decode cX25_mark 14 = .ok (.goto 4, 3) := dk_167 0 4 (dk_at dksX25_mark_0 14 rfl rfl)
theorem dX25_mark_17 : decode cX25_mark 17 = .ok (.lconst 0, 1) := dk_9 (dk_at dksX25_mark_0 17 rfl rfl)
theorem dX25_mark_18 : decode cX25_mark 18 = .ok (.lreturn, 1) := dk_173 (dk_at dksX25_mark_0 18 rfl rfl)
def dkwX25_gather_8 : List UInt8 := [167, 255, 85, 27, 42, 182, 1, 9, 100, 172]
abbrev dktX25_gather_8 : List UInt8 := dkwX25_gather_8 ++ []
def dkwX25_gather_7 : List UInt8 := [180, 0, 102, 21, 4, 42, 180, 0, 102, 28, 46, 79, 132, 4, 1, 167, 255, 220, 42, 182, 1, 6, 3, 61]
abbrev dktX25_gather_7 : List UInt8 := dkwX25_gather_7 ++ dktX25_gather_8
def dkwX25_gather_6 : List UInt8 := [3, 54, 4, 21, 4, 42, 180, 0, 157, 162, 0, 33, 42, 180, 0, 102, 21, 4, 46, 28, 160, 0, 16, 42]
abbrev dktX25_gather_6 : List UInt8 := dkwX25_gather_6 ++ dktX25_gather_7
def dkwX25_gather_5 : List UInt8 := [29, 104, 21, 4, 96, 42, 180, 0, 108, 16, 16, 28, 104, 21, 4, 96, 47, 80, 132, 4, 1, 167, 255, 179]
abbrev dktX25_gather_5 : List UInt8 := dkwX25_gather_5 ++ dktX25_gather_6
def dkwX25_gather_4 : List UInt8 := [96, 51, 154, 0, 40, 42, 180, 0, 105, 16, 16, 29, 104, 21, 4, 96, 4, 84, 42, 180, 0, 108, 16, 16]
abbrev dktX25_gather_4 : List UInt8 := dkwX25_gather_4 ++ dktX25_gather_5
def dkwX25_gather_3 : List UInt8 := [180, 0, 105, 16, 16, 28, 104, 21, 4, 96, 51, 153, 0, 55, 42, 180, 0, 105, 16, 16, 29, 104, 21, 4]
abbrev dktX25_gather_3 : List UInt8 := dkwX25_gather_3 ++ dktX25_gather_4
def dkwX25_gather_2 : List UInt8 := [16, 252, 160, 0, 9, 132, 2, 1, 167, 0, 134, 3, 54, 4, 21, 4, 16, 16, 162, 0, 76, 42]
abbrev dktX25_gather_2 : List UInt8 := dkwX25_gather_2 ++ dktX25_gather_3
def dkwX25_gather_1 : List UInt8 := [162, 0, 169, 42, 180, 0, 111, 28, 51, 153, 0, 11, 42, 28, 182, 1, 12, 167, 0, 5, 16, 252, 62, 29]
abbrev dktX25_gather_1 : List UInt8 := dkwX25_gather_1 ++ dktX25_gather_2
def dkwX25_gather_0 : List UInt8 := [42, 180, 0, 130, 154, 0, 6, 16, 254, 172, 42, 182, 1, 9, 60, 3, 61, 28, 42, 180, 0, 157]
abbrev dktX25_gather_0 : List UInt8 := dkwX25_gather_0 ++ dktX25_gather_1
theorem dksX25_gather_0 : cX25_gather.data.toList.drop 0 = dktX25_gather_0 := by decide +kernel
theorem dksX25_gather_1 : cX25_gather.data.toList.drop 22 = dktX25_gather_1 := dk_seg dksX25_gather_0 22 rfl rfl
theorem dksX25_gather_2 : cX25_gather.data.toList.drop 46 = dktX25_gather_2 := dk_seg dksX25_gather_1 24 rfl rfl
theorem dksX25_gather_3 : cX25_gather.data.toList.drop 68 = dktX25_gather_3 := dk_seg dksX25_gather_2 22 rfl rfl
theorem dksX25_gather_4 : cX25_gather.data.toList.drop 92 = dktX25_gather_4 := dk_seg dksX25_gather_3 24 rfl rfl
theorem dksX25_gather_5 : cX25_gather.data.toList.drop 116 = dktX25_gather_5 := dk_seg dksX25_gather_4 24 rfl rfl
theorem dksX25_gather_6 : cX25_gather.data.toList.drop 140 = dktX25_gather_6 := dk_seg dksX25_gather_5 24 rfl rfl
theorem dksX25_gather_7 : cX25_gather.data.toList.drop 164 = dktX25_gather_7 := dk_seg dksX25_gather_6 24 rfl rfl
theorem dksX25_gather_8 : cX25_gather.data.toList.drop 188 = dktX25_gather_8 := dk_seg dksX25_gather_7 24 rfl rfl
theorem dX25_gather_0 : decode cX25_gather 0 = .ok (.aload_n 0, 1) := dk_42 (dk_at dksX25_gather_0 0 rfl rfl)
theorem dX25_gather_1 : decode cX25_gather 1 = .ok (.getfield 130, 3) := dk_180 0 130 (dk_at dksX25_gather_0 1 rfl rfl)
theorem dX25_gather_4 : decode cX25_gather 4 = .ok (.ifCond .ne 6, 3) := dk_154 0 6 (dk_at dksX25_gather_0 4 rfl rfl)
theorem dX25_gather_7 : decode cX25_gather 7 = .ok (.bipush (-2), 2) := dk_16 254 (dk_at dksX25_gather_0 7 rfl rfl)
theorem dX25_gather_9 : decode cX25_gather 9 = .ok (.ireturn, 1) := dk_172 (dk_at dksX25_gather_0 9 rfl rfl)
theorem dX25_gather_10 : decode cX25_gather 10 = .ok (.aload_n 0, 1) := dk_42 (dk_at dksX25_gather_0 10 rfl rfl)
theorem dX25_gather_11 : decode cX25_gather 11 = .ok (.invokevirtual 265, 3) := dk_182 1 9 (dk_at dksX25_gather_0 11 rfl rfl)
theorem dX25_gather_14 : decode cX25_gather 14 = .ok (.istore_n 1, 1) := dk_60 (dk_at dksX25_gather_0 14 rfl rfl)
theorem dX25_gather_15 : decode cX25_gather 15 = .ok (.iconst 0, 1) := dk_3 (dk_at dksX25_gather_0 15 rfl rfl)
theorem dX25_gather_16 : decode cX25_gather 16 = .ok (.istore_n 2, 1) := dk_61 (dk_at dksX25_gather_0 16 rfl rfl)
theorem dX25_gather_17 : decode cX25_gather 17 = .ok (.iload_n 2, 1) := dk_28 (dk_at dksX25_gather_0 17 rfl rfl)
theorem dX25_gather_18 : decode cX25_gather 18 = .ok (.aload_n 0, 1) := dk_42 (dk_at dksX25_gather_0 18 rfl rfl)
theorem dX25_gather_19 : decode cX25_gather 19 = .ok (.getfield 157, 3) := dk_180 0 157 (dk_at dksX25_gather_0 19 rfl rfl)
theorem dX25_gather_22 : decode cX25_gather 22 = .ok (.if_icmp .ge 169, 3) := dk_162 0 169 (dk_at dksX25_gather_1 0 rfl rfl)
theorem dX25_gather_25 : decode cX25_gather 25 = .ok (.aload_n 0, 1) := dk_42 (dk_at dksX25_gather_1 3 rfl rfl)
theorem dX25_gather_26 : decode cX25_gather 26 = .ok (.getfield 111, 3) := dk_180 0 111 (dk_at dksX25_gather_1 4 rfl rfl)
theorem dX25_gather_29 : decode cX25_gather 29 = .ok (.iload_n 2, 1) := dk_28 (dk_at dksX25_gather_1 7 rfl rfl)
theorem dX25_gather_30 : decode cX25_gather 30 = .ok (.baload, 1) := dk_51 (dk_at dksX25_gather_1 8 rfl rfl)
theorem dX25_gather_31 : decode cX25_gather 31 = .ok (.ifCond .eq 11, 3) := dk_153 0 11 (dk_at dksX25_gather_1 9 rfl rfl)
theorem dX25_gather_34 : decode cX25_gather 34 = .ok (.aload_n 0, 1) := dk_42 (dk_at dksX25_gather_1 12 rfl rfl)
theorem dX25_gather_35 : decode cX25_gather 35 = .ok (.iload_n 2, 1) := dk_28 (dk_at dksX25_gather_1 13 rfl rfl)
theorem dX25_gather_36 : decode cX25_gather 36 = .ok (.invokevirtual 268, 3) := dk_182 1 12 (dk_at dksX25_gather_1 14 rfl rfl)
theorem dX25_gather_39 : decode cX25_gather 39 = .ok (.goto 5, 3) := dk_167 0 5 (dk_at dksX25_gather_1 17 rfl rfl)
theorem dX25_gather_42 : decode cX25_gather 42 = .ok (.bipush (-4), 2) := dk_16 252 (dk_at dksX25_gather_1 20 rfl rfl)
theorem dX25_gather_44 : decode cX25_gather 44 = .ok (.istore_n 3, 1) := dk_62 (dk_at dksX25_gather_1 22 rfl rfl)
theorem dX25_gather_45 : decode cX25_gather 45 = .ok (.iload_n 3, 1) := dk_29 (dk_at dksX25_gather_1 23 rfl rfl)
theorem dX25_gather_46 : decode cX25_gather 46 = .ok (.bipush (-4), 2) := dk_16 252 (dk_at dksX25_gather_2 0 rfl rfl)
theorem dX25_gather_48 : decode cX25_gather 48 = .ok (.if_icmp .ne 9, 3) := dk_160 0 9 (dk_at dksX25_gather_2 2 rfl rfl)
theorem dX25_gather_51 : decode cX25_gather 51 = .ok (.iinc 2 1, 3) := dk_132 2 1 (dk_at dksX25_gather_2 5 rfl rfl)
theorem dX25_gather_54 : decode cX25_gather 54 = .ok (.goto 134, 3) := dk_167 0 134 (dk_at dksX25_gather_2 8 rfl rfl)
theorem dX25_gather_57 : decode cX25_gather 57 = .ok (.iconst 0, 1) := dk_3 (dk_at dksX25_gather_2 11 rfl rfl)
theorem dX25_gather_58 : decode cX25_gather 58 = .ok (.istore 4, 2) := dk_54 4 (dk_at dksX25_gather_2 12 rfl rfl)
theorem dX25_gather_60 : decode cX25_gather 60 = .ok (.iload 4, 2) := dk_21 4 (dk_at dksX25_gather_2 14 rfl rfl)
theorem dX25_gather_62 : decode cX25_gather 62 = .ok (.bipush 16, 2) := dk_16 16 (dk_at dksX25_gather_2 16 rfl rfl)
theorem dX25_gather_64 : decode cX25_gather 64 = .ok (.if_icmp .ge 76, 3) := dk_162 0 76 (dk_at dksX25_gather_2 18 rfl rfl)
theorem dX25_gather_67 : decode cX25_gather 67 = .ok (.aload_n 0, 1) := dk_42 (dk_at dksX25_gather_2 21 rfl rfl)
theorem dX25_gather_68 : decode cX25_gather 68 = .ok (.getfield 105, 3) := dk_180 0 105 (dk_at dksX25_gather_3 0 rfl rfl)
theorem dX25_gather_71 : decode cX25_gather 71 = .ok (.bipush 16, 2) := dk_16 16 (dk_at dksX25_gather_3 3 rfl rfl)
theorem dX25_gather_73 : decode cX25_gather 73 = .ok (.iload_n 2, 1) := dk_28 (dk_at dksX25_gather_3 5 rfl rfl)
theorem dX25_gather_74 : decode cX25_gather 74 = .ok (.imul, 1) := dk_104 (dk_at dksX25_gather_3 6 rfl rfl)
theorem dX25_gather_75 : decode cX25_gather 75 = .ok (.iload 4, 2) := dk_21 4 (dk_at dksX25_gather_3 7 rfl rfl)
theorem dX25_gather_77 : decode cX25_gather 77 = .ok (.iadd, 1) := dk_96 (dk_at dksX25_gather_3 9 rfl rfl)
theorem dX25_gather_78 : decode cX25_gather 78 = .ok (.baload, 1) := dk_51 (dk_at dksX25_gather_3 10 rfl rfl)
theorem dX25_gather_79 : decode cX25_gather 79 = .ok (.ifCond .eq 55, 3) := dk_153 0 55 (dk_at dksX25_gather_3 11 rfl rfl)
theorem dX25_gather_82 : decode cX25_gather 82 = .ok (.aload_n 0, 1) := dk_42 (dk_at dksX25_gather_3 14 rfl rfl)
theorem dX25_gather_83 : decode cX25_gather 83 = .ok (.getfield 105, 3) := dk_180 0 105 (dk_at dksX25_gather_3 15 rfl rfl)
theorem dX25_gather_86 : decode cX25_gather 86 = .ok (.bipush 16, 2) := dk_16 16 (dk_at dksX25_gather_3 18 rfl rfl)
theorem dX25_gather_88 : decode cX25_gather 88 = .ok (.iload_n 3, 1) := dk_29 (dk_at dksX25_gather_3 20 rfl rfl)
theorem dX25_gather_89 : decode cX25_gather 89 = .ok (.imul, 1) := dk_104 (dk_at dksX25_gather_3 21 rfl rfl)
theorem dX25_gather_90 : decode cX25_gather 90 = .ok (.iload 4, 2) := dk_21 4 (dk_at dksX25_gather_3 22 rfl rfl)
theorem dX25_gather_92 : decode cX25_gather 92 = .ok (.iadd, 1) := dk_96 (dk_at dksX25_gather_4 0 rfl rfl)
theorem dX25_gather_93 : decode cX25_gather 93 = .ok (.baload, 1) := dk_51 (dk_at dksX25_gather_4 1 rfl rfl)
theorem dX25_gather_94 : decode cX25_gather 94 = .ok (.ifCond .ne 40, 3) := dk_154 0 40 (dk_at dksX25_gather_4 2 rfl rfl)
theorem dX25_gather_97 : decode cX25_gather 97 = .ok (.aload_n 0, 1) := dk_42 (dk_at dksX25_gather_4 5 rfl rfl)
theorem dX25_gather_98 : decode cX25_gather 98 = .ok (.getfield 105, 3) := dk_180 0 105 (dk_at dksX25_gather_4 6 rfl rfl)
theorem dX25_gather_101 : decode cX25_gather 101 = .ok (.bipush 16, 2) := dk_16 16 (dk_at dksX25_gather_4 9 rfl rfl)
theorem dX25_gather_103 : decode cX25_gather 103 = .ok (.iload_n 3, 1) := dk_29 (dk_at dksX25_gather_4 11 rfl rfl)
theorem dX25_gather_104 : decode cX25_gather 104 = .ok (.imul, 1) := dk_104 (dk_at dksX25_gather_4 12 rfl rfl)
theorem dX25_gather_105 : decode cX25_gather 105 = .ok (.iload 4, 2) := dk_21 4 (dk_at dksX25_gather_4 13 rfl rfl)
theorem dX25_gather_107 : decode cX25_gather 107 = .ok (.iadd, 1) := dk_96 (dk_at dksX25_gather_4 15 rfl rfl)
theorem dX25_gather_108 : decode cX25_gather 108 = .ok (.iconst 1, 1) := dk_4 (dk_at dksX25_gather_4 16 rfl rfl)
theorem dX25_gather_109 : decode cX25_gather 109 = .ok (.bastore, 1) := dk_84 (dk_at dksX25_gather_4 17 rfl rfl)
theorem dX25_gather_110 : decode cX25_gather 110 = .ok (.aload_n 0, 1) := dk_42 (dk_at dksX25_gather_4 18 rfl rfl)
theorem dX25_gather_111 : decode cX25_gather 111 = .ok (.getfield 108, 3) := dk_180 0 108 (dk_at dksX25_gather_4 19 rfl rfl)
theorem dX25_gather_114 : decode cX25_gather 114 = .ok (.bipush 16, 2) := dk_16 16 (dk_at dksX25_gather_4 22 rfl rfl)
theorem dX25_gather_116 : decode cX25_gather 116 = .ok (.iload_n 3, 1) := dk_29 (dk_at dksX25_gather_5 0 rfl rfl)
theorem dX25_gather_117 : decode cX25_gather 117 = .ok (.imul, 1) := dk_104 (dk_at dksX25_gather_5 1 rfl rfl)
theorem dX25_gather_118 : decode cX25_gather 118 = .ok (.iload 4, 2) := dk_21 4 (dk_at dksX25_gather_5 2 rfl rfl)
theorem dX25_gather_120 : decode cX25_gather 120 = .ok (.iadd, 1) := dk_96 (dk_at dksX25_gather_5 4 rfl rfl)
theorem dX25_gather_121 : decode cX25_gather 121 = .ok (.aload_n 0, 1) := dk_42 (dk_at dksX25_gather_5 5 rfl rfl)
theorem dX25_gather_122 : decode cX25_gather 122 = .ok (.getfield 108, 3) := dk_180 0 108 (dk_at dksX25_gather_5 6 rfl rfl)
theorem dX25_gather_125 : decode cX25_gather 125 = .ok (.bipush 16, 2) := dk_16 16 (dk_at dksX25_gather_5 9 rfl rfl)
theorem dX25_gather_127 : decode cX25_gather 127 = .ok (.iload_n 2, 1) := dk_28 (dk_at dksX25_gather_5 11 rfl rfl)
theorem dX25_gather_128 : decode cX25_gather 128 = .ok (.imul, 1) := dk_104 (dk_at dksX25_gather_5 12 rfl rfl)
theorem dX25_gather_129 : decode cX25_gather 129 = .ok (.iload 4, 2) := dk_21 4 (dk_at dksX25_gather_5 13 rfl rfl)
theorem dX25_gather_131 : decode cX25_gather 131 = .ok (.iadd, 1) := dk_96 (dk_at dksX25_gather_5 15 rfl rfl)
theorem dX25_gather_132 : decode cX25_gather 132 = .ok (.laload, 1) := dk_47 (dk_at dksX25_gather_5 16 rfl rfl)
theorem dX25_gather_133 : decode cX25_gather 133 = .ok (.lastore, 1) := dk_80 (dk_at dksX25_gather_5 17 rfl rfl)
theorem dX25_gather_134 : decode cX25_gather 134 = .ok (.iinc 4 1, 3) := dk_132 4 1 (dk_at dksX25_gather_5 18 rfl rfl)
theorem dX25_gather_137 : decode cX25_gather 137 = .ok (.goto (-77), 3) := dk_167 255 179 (dk_at dksX25_gather_5 21 rfl rfl)
theorem dX25_gather_140 : decode cX25_gather 140 = .ok (.iconst 0, 1) := dk_3 (dk_at dksX25_gather_6 0 rfl rfl)
theorem dX25_gather_141 : decode cX25_gather 141 = .ok (.istore 4, 2) := dk_54 4 (dk_at dksX25_gather_6 1 rfl rfl)
theorem dX25_gather_143 : decode cX25_gather 143 = .ok (.iload 4, 2) := dk_21 4 (dk_at dksX25_gather_6 3 rfl rfl)
theorem dX25_gather_145 : decode cX25_gather 145 = .ok (.aload_n 0, 1) := dk_42 (dk_at dksX25_gather_6 5 rfl rfl)
theorem dX25_gather_146 : decode cX25_gather 146 = .ok (.getfield 157, 3) := dk_180 0 157 (dk_at dksX25_gather_6 6 rfl rfl)
theorem dX25_gather_149 : decode cX25_gather 149 = .ok (.if_icmp .ge 33, 3) := dk_162 0 33 (dk_at dksX25_gather_6 9 rfl rfl)
theorem dX25_gather_152 : decode cX25_gather 152 = .ok (.aload_n 0, 1) := dk_42 (dk_at dksX25_gather_6 12 rfl rfl)
theorem dX25_gather_153 : decode cX25_gather 153 = .ok (.getfield 102, 3) := dk_180 0 102 (dk_at dksX25_gather_6 13 rfl rfl)
theorem dX25_gather_156 : decode cX25_gather 156 = .ok (.iload 4, 2) := dk_21 4 (dk_at dksX25_gather_6 16 rfl rfl)
theorem dX25_gather_158 : decode cX25_gather 158 = .ok (.iaload, 1) := dk_46 (dk_at dksX25_gather_6 18 rfl rfl)
theorem dX25_gather_159 : decode cX25_gather 159 = .ok (.iload_n 2, 1) := dk_28 (dk_at dksX25_gather_6 19 rfl rfl)
theorem dX25_gather_160 : decode cX25_gather 160 = .ok (.if_icmp .ne 16, 3) := dk_160 0 16 (dk_at dksX25_gather_6 20 rfl rfl)
theorem dX25_gather_163 : decode cX25_gather 163 = .ok (.aload_n 0, 1) := dk_42 (dk_at dksX25_gather_6 23 rfl rfl)
theorem dX25_gather_164 : decode cX25_gather 164 = .ok (.getfield 102, 3) := dk_180 0 102 (dk_at dksX25_gather_7 0 rfl rfl)
theorem dX25_gather_167 : decode cX25_gather 167 = .ok (.iload 4, 2) := dk_21 4 (dk_at dksX25_gather_7 3 rfl rfl)
theorem dX25_gather_169 : decode cX25_gather 169 = .ok (.aload_n 0, 1) := dk_42 (dk_at dksX25_gather_7 5 rfl rfl)
theorem dX25_gather_170 : decode cX25_gather 170 = .ok (.getfield 102, 3) := dk_180 0 102 (dk_at dksX25_gather_7 6 rfl rfl)
theorem dX25_gather_173 : decode cX25_gather 173 = .ok (.iload_n 2, 1) := dk_28 (dk_at dksX25_gather_7 9 rfl rfl)
theorem dX25_gather_174 : decode cX25_gather 174 = .ok (.iaload, 1) := dk_46 (dk_at dksX25_gather_7 10 rfl rfl)
theorem dX25_gather_175 : decode cX25_gather 175 = .ok (.iastore, 1) := dk_79 (dk_at dksX25_gather_7 11 rfl rfl)
theorem dX25_gather_176 : decode cX25_gather 176 = .ok (.iinc 4 1, 3) := dk_132 4 1 (dk_at dksX25_gather_7 12 rfl rfl)
theorem dX25_gather_179 : decode cX25_gather 179 = .ok (.goto (-36), 3) := dk_167 255 220 (dk_at dksX25_gather_7 15 rfl rfl)
theorem dX25_gather_182 : decode cX25_gather 182 = .ok (.aload_n 0, 1) := dk_42 (dk_at dksX25_gather_7 18 rfl rfl)
theorem dX25_gather_183 : decode cX25_gather 183 = .ok (.invokevirtual 262, 3) := dk_182 1 6 (dk_at dksX25_gather_7 19 rfl rfl)
theorem dX25_gather_186 : decode cX25_gather 186 = .ok (.iconst 0, 1) := dk_3 (dk_at dksX25_gather_7 22 rfl rfl)
theorem dX25_gather_187 : decode cX25_gather 187 = .ok (.istore_n 2, 1) := dk_61 (dk_at dksX25_gather_7 23 rfl rfl)
theorem dX25_gather_188 : decode cX25_gather 188 = .ok (.goto (-171), 3) := dk_167 255 85 (dk_at dksX25_gather_8 0 rfl rfl)
theorem dX25_gather_191 : decode cX25_gather 191 = .ok (.iload_n 1, 1) := dk_27 (dk_at dksX25_gather_8 3 rfl rfl)
theorem dX25_gather_192 : decode cX25_gather 192 = .ok (.aload_n 0, 1) := dk_42 (dk_at dksX25_gather_8 4 rfl rfl)
theorem dX25_gather_193 : decode cX25_gather 193 = .ok (.invokevirtual 265, 3) := dk_182 1 9 (dk_at dksX25_gather_8 5 rfl rfl)
theorem dX25_gather_196 : decode cX25_gather 196 = .ok (.isub, 1) := dk_100 (dk_at dksX25_gather_8 8 rfl rfl)
theorem dX25_gather_197 : decode cX25_gather 197 = .ok (.ireturn, 1) := dk_172 (dk_at dksX25_gather_8 9 rfl rfl)
def dkwX25_versions_2 : List UInt8 := [132, 2, 1, 167, 255, 213, 27, 172]
abbrev dktX25_versions_2 : List UInt8 := dkwX25_versions_2 ++ []
def dkwX25_versions_1 : List UInt8 := [28, 16, 16, 108, 51, 153, 0, 16, 42, 180, 0, 105, 28, 51, 153, 0, 7, 4, 167, 0, 4, 3, 96, 60]
abbrev dktX25_versions_1 : List UInt8 := dkwX25_versions_1 ++ dktX25_versions_2
def dkwX25_versions_0 : List UInt8 := [42, 182, 1, 6, 3, 60, 3, 61, 28, 16, 16, 42, 180, 0, 157, 104, 162, 0, 38, 27, 42, 180, 0, 111]
abbrev dktX25_versions_0 : List UInt8 := dkwX25_versions_0 ++ dktX25_versions_1
theorem dksX25_versions_0 : cX25_versions.data.toList.drop 0 = dktX25_versions_0 := by decide +kernel
theorem dksX25_versions_1 : cX25_versions.data.toList.drop 24 = dktX25_versions_1 := dk_seg dksX25_versions_0 24 rfl rfl
theorem dksX25_versions_2 : cX25_versions.data.toList.drop 48 = dktX25_versions_2 := dk_seg dksX25_versions_1 24 rfl rfl
theorem dX25_versions_0 : decode cX25_versions 0 = .ok (.aload_n 0, 1) := dk_42 (dk_at dksX25_versions_0 0 rfl rfl)
theorem dX25_versions_1 : decode cX25_versions 1 = .ok (.invokevirtual 262, 3) := dk_182 1 6 (dk_at dksX25_versions_0 1 rfl rfl)
theorem dX25_versions_4 : decode cX25_versions 4 = .ok (.iconst 0, 1) := dk_3 (dk_at dksX25_versions_0 4 rfl rfl)
theorem dX25_versions_5 : decode cX25_versions 5 = .ok (.istore_n 1, 1) := dk_60 (dk_at dksX25_versions_0 5 rfl rfl)
theorem dX25_versions_6 : decode cX25_versions 6 = .ok (.iconst 0, 1) := dk_3 (dk_at dksX25_versions_0 6 rfl rfl)
theorem dX25_versions_7 : decode cX25_versions 7 = .ok (.istore_n 2, 1) := dk_61 (dk_at dksX25_versions_0 7 rfl rfl)
theorem dX25_versions_8 : decode cX25_versions 8 = .ok (.iload_n 2, 1) := dk_28 (dk_at dksX25_versions_0 8 rfl rfl)
theorem dX25_versions_9 : decode cX25_versions 9 = .ok (.bipush 16, 2) := dk_16 16 (dk_at dksX25_versions_0 9 rfl rfl)
theorem dX25_versions_11 : decode cX25_versions 11 = .ok (.aload_n 0, 1) := dk_42 (dk_at dksX25_versions_0 11 rfl rfl)
theorem dX25_versions_12 : decode cX25_versions 12 = .ok (.getfield 157, 3) := dk_180 0 157 (dk_at dksX25_versions_0 12 rfl rfl)
theorem dX25_versions_15 : decode cX25_versions 15 = .ok (.imul, 1) := dk_104 (dk_at dksX25_versions_0 15 rfl rfl)
theorem dX25_versions_16 : decode cX25_versions 16 = .ok (.if_icmp .ge 38, 3) := dk_162 0 38 (dk_at dksX25_versions_0 16 rfl rfl)
theorem dX25_versions_19 : decode cX25_versions 19 = .ok (.iload_n 1, 1) := dk_27 (dk_at dksX25_versions_0 19 rfl rfl)
theorem dX25_versions_20 : decode cX25_versions 20 = .ok (.aload_n 0, 1) := dk_42 (dk_at dksX25_versions_0 20 rfl rfl)
theorem dX25_versions_21 : decode cX25_versions 21 = .ok (.getfield 111, 3) := dk_180 0 111 (dk_at dksX25_versions_0 21 rfl rfl)
theorem dX25_versions_24 : decode cX25_versions 24 = .ok (.iload_n 2, 1) := dk_28 (dk_at dksX25_versions_1 0 rfl rfl)
theorem dX25_versions_25 : decode cX25_versions 25 = .ok (.bipush 16, 2) := dk_16 16 (dk_at dksX25_versions_1 1 rfl rfl)
theorem dX25_versions_27 : decode cX25_versions 27 = .ok (.idiv, 1) := dk_108 (dk_at dksX25_versions_1 3 rfl rfl)
theorem dX25_versions_28 : decode cX25_versions 28 = .ok (.baload, 1) := dk_51 (dk_at dksX25_versions_1 4 rfl rfl)
theorem dX25_versions_29 : decode cX25_versions 29 = .ok (.ifCond .eq 16, 3) := dk_153 0 16 (dk_at dksX25_versions_1 5 rfl rfl)
theorem dX25_versions_32 : decode cX25_versions 32 = .ok (.aload_n 0, 1) := dk_42 (dk_at dksX25_versions_1 8 rfl rfl)
theorem dX25_versions_33 : decode cX25_versions 33 = .ok (.getfield 105, 3) := dk_180 0 105 (dk_at dksX25_versions_1 9 rfl rfl)
theorem dX25_versions_36 : decode cX25_versions 36 = .ok (.iload_n 2, 1) := dk_28 (dk_at dksX25_versions_1 12 rfl rfl)
theorem dX25_versions_37 : decode cX25_versions 37 = .ok (.baload, 1) := dk_51 (dk_at dksX25_versions_1 13 rfl rfl)
theorem dX25_versions_38 : decode cX25_versions 38 = .ok (.ifCond .eq 7, 3) := dk_153 0 7 (dk_at dksX25_versions_1 14 rfl rfl)
theorem dX25_versions_41 : decode cX25_versions 41 = .ok (.iconst 1, 1) := dk_4 (dk_at dksX25_versions_1 17 rfl rfl)
theorem dX25_versions_42 : decode cX25_versions 42 = .ok (.goto 4, 3) := dk_167 0 4 (dk_at dksX25_versions_1 18 rfl rfl)
theorem dX25_versions_45 : decode cX25_versions 45 = .ok (.iconst 0, 1) := dk_3 (dk_at dksX25_versions_1 21 rfl rfl)
theorem dX25_versions_46 : decode cX25_versions 46 = .ok (.iadd, 1) := dk_96 (dk_at dksX25_versions_1 22 rfl rfl)
theorem dX25_versions_47 : decode cX25_versions 47 = .ok (.istore_n 1, 1) := dk_60 (dk_at dksX25_versions_1 23 rfl rfl)
theorem dX25_versions_48 : decode cX25_versions 48 = .ok (.iinc 2 1, 3) := dk_132 2 1 (dk_at dksX25_versions_2 0 rfl rfl)
theorem dX25_versions_51 : decode cX25_versions 51 = .ok (.goto (-43), 3) := dk_167 255 213 (dk_at dksX25_versions_2 3 rfl rfl)
theorem dX25_versions_54 : decode cX25_versions 54 = .ok (.iload_n 1, 1) := dk_27 (dk_at dksX25_versions_2 6 rfl rfl)
theorem dX25_versions_55 : decode cX25_versions 55 = .ok (.ireturn, 1) := dk_172 (dk_at dksX25_versions_2 7 rfl rfl)
def dkwX25_hold_3 : List UInt8 := [28, 46, 61, 167, 255, 236, 132, 1, 1, 167, 255, 200, 177]
abbrev dktX25_hold_3 : List UInt8 := dkwX25_hold_3 ++ []
def dkwX25_hold_2 : List UInt8 := [42, 180, 0, 62, 27, 46, 61, 28, 16, 252, 159, 0, 20, 42, 180, 0, 111, 28, 4, 84, 42, 180, 0, 102]
abbrev dktX25_hold_2 : List UInt8 := dkwX25_hold_2 ++ dktX25_hold_3
def dkwX25_hold_1 : List UInt8 := [60, 27, 42, 180, 0, 160, 162, 0, 54, 42, 180, 0, 41, 27, 46, 7, 160, 0, 8, 16, 252, 167, 0, 9]
abbrev dktX25_hold_1 : List UInt8 := dkwX25_hold_1 ++ dktX25_hold_2
def dkwX25_hold_0 : List UInt8 := [3, 60, 27, 42, 180, 0, 157, 162, 0, 16, 42, 180, 0, 111, 27, 3, 84, 132, 1, 1, 167, 255, 238, 3]
abbrev dktX25_hold_0 : List UInt8 := dkwX25_hold_0 ++ dktX25_hold_1
theorem dksX25_hold_0 : cX25_hold.data.toList.drop 0 = dktX25_hold_0 := by decide +kernel
theorem dksX25_hold_1 : cX25_hold.data.toList.drop 24 = dktX25_hold_1 := dk_seg dksX25_hold_0 24 rfl rfl
theorem dksX25_hold_2 : cX25_hold.data.toList.drop 48 = dktX25_hold_2 := dk_seg dksX25_hold_1 24 rfl rfl
theorem dksX25_hold_3 : cX25_hold.data.toList.drop 72 = dktX25_hold_3 := dk_seg dksX25_hold_2 24 rfl rfl
theorem dX25_hold_0 : decode cX25_hold 0 = .ok (.iconst 0, 1) := dk_3 (dk_at dksX25_hold_0 0 rfl rfl)
theorem dX25_hold_1 : decode cX25_hold 1 = .ok (.istore_n 1, 1) := dk_60 (dk_at dksX25_hold_0 1 rfl rfl)
theorem dX25_hold_2 : decode cX25_hold 2 = .ok (.iload_n 1, 1) := dk_27 (dk_at dksX25_hold_0 2 rfl rfl)
theorem dX25_hold_3 : decode cX25_hold 3 = .ok (.aload_n 0, 1) := dk_42 (dk_at dksX25_hold_0 3 rfl rfl)
theorem dX25_hold_4 : decode cX25_hold 4 = .ok (.getfield 157, 3) := dk_180 0 157 (dk_at dksX25_hold_0 4 rfl rfl)
theorem dX25_hold_7 : decode cX25_hold 7 = .ok (.if_icmp .ge 16, 3) := dk_162 0 16 (dk_at dksX25_hold_0 7 rfl rfl)
theorem dX25_hold_10 : decode cX25_hold 10 = .ok (.aload_n 0, 1) := dk_42 (dk_at dksX25_hold_0 10 rfl rfl)
theorem dX25_hold_11 : decode cX25_hold 11 = .ok (.getfield 111, 3) := dk_180 0 111 (dk_at dksX25_hold_0 11 rfl rfl)
theorem dX25_hold_14 : decode cX25_hold 14 = .ok (.iload_n 1, 1) := dk_27 (dk_at dksX25_hold_0 14 rfl rfl)
theorem dX25_hold_15 : decode cX25_hold 15 = .ok (.iconst 0, 1) := dk_3 (dk_at dksX25_hold_0 15 rfl rfl)
theorem dX25_hold_16 : decode cX25_hold 16 = .ok (.bastore, 1) := dk_84 (dk_at dksX25_hold_0 16 rfl rfl)
theorem dX25_hold_17 : decode cX25_hold 17 = .ok (.iinc 1 1, 3) := dk_132 1 1 (dk_at dksX25_hold_0 17 rfl rfl)
theorem dX25_hold_20 : decode cX25_hold 20 = .ok (.goto (-18), 3) := dk_167 255 238 (dk_at dksX25_hold_0 20 rfl rfl)
theorem dX25_hold_23 : decode cX25_hold 23 = .ok (.iconst 0, 1) := dk_3 (dk_at dksX25_hold_0 23 rfl rfl)
theorem dX25_hold_24 : decode cX25_hold 24 = .ok (.istore_n 1, 1) := dk_60 (dk_at dksX25_hold_1 0 rfl rfl)
theorem dX25_hold_25 : decode cX25_hold 25 = .ok (.iload_n 1, 1) := dk_27 (dk_at dksX25_hold_1 1 rfl rfl)
theorem dX25_hold_26 : decode cX25_hold 26 = .ok (.aload_n 0, 1) := dk_42 (dk_at dksX25_hold_1 2 rfl rfl)
theorem dX25_hold_27 : decode cX25_hold 27 = .ok (.getfield 160, 3) := dk_180 0 160 (dk_at dksX25_hold_1 3 rfl rfl)
theorem dX25_hold_30 : decode cX25_hold 30 = .ok (.if_icmp .ge 54, 3) := dk_162 0 54 (dk_at dksX25_hold_1 6 rfl rfl)
theorem dX25_hold_33 : decode cX25_hold 33 = .ok (.aload_n 0, 1) := dk_42 (dk_at dksX25_hold_1 9 rfl rfl)
theorem dX25_hold_34 : decode cX25_hold 34 = .ok (.getfield 41, 3) := dk_180 0 41 (dk_at dksX25_hold_1 10 rfl rfl)
theorem dX25_hold_37 : decode cX25_hold 37 = .ok (.iload_n 1, 1) := dk_27 (dk_at dksX25_hold_1 13 rfl rfl)
theorem dX25_hold_38 : decode cX25_hold 38 = .ok (.iaload, 1) := dk_46 (dk_at dksX25_hold_1 14 rfl rfl)
theorem dX25_hold_39 : decode cX25_hold 39 = .ok (.iconst 4, 1) := dk_7 (dk_at dksX25_hold_1 15 rfl rfl)
theorem dX25_hold_40 : decode cX25_hold 40 = .ok (.if_icmp .ne 8, 3) := dk_160 0 8 (dk_at dksX25_hold_1 16 rfl rfl)
theorem dX25_hold_43 : decode cX25_hold 43 = .ok (.bipush (-4), 2) := dk_16 252 (dk_at dksX25_hold_1 19 rfl rfl)
theorem dX25_hold_45 : decode cX25_hold 45 = .ok (.goto 9, 3) := dk_167 0 9 (dk_at dksX25_hold_1 21 rfl rfl)
theorem dX25_hold_48 : decode cX25_hold 48 = .ok (.aload_n 0, 1) := dk_42 (dk_at dksX25_hold_2 0 rfl rfl)
theorem dX25_hold_49 : decode cX25_hold 49 = .ok (.getfield 62, 3) := dk_180 0 62 (dk_at dksX25_hold_2 1 rfl rfl)
theorem dX25_hold_52 : decode cX25_hold 52 = .ok (.iload_n 1, 1) := dk_27 (dk_at dksX25_hold_2 4 rfl rfl)
theorem dX25_hold_53 : decode cX25_hold 53 = .ok (.iaload, 1) := dk_46 (dk_at dksX25_hold_2 5 rfl rfl)
theorem dX25_hold_54 : decode cX25_hold 54 = .ok (.istore_n 2, 1) := dk_61 (dk_at dksX25_hold_2 6 rfl rfl)
theorem dX25_hold_55 : decode cX25_hold 55 = .ok (.iload_n 2, 1) := dk_28 (dk_at dksX25_hold_2 7 rfl rfl)
theorem dX25_hold_56 : decode cX25_hold 56 = .ok (.bipush (-4), 2) := dk_16 252 (dk_at dksX25_hold_2 8 rfl rfl)
theorem dX25_hold_58 : decode cX25_hold 58 = .ok (.if_icmp .eq 20, 3) := dk_159 0 20 (dk_at dksX25_hold_2 10 rfl rfl)
theorem dX25_hold_61 : decode cX25_hold 61 = .ok (.aload_n 0, 1) := dk_42 (dk_at dksX25_hold_2 13 rfl rfl)
theorem dX25_hold_62 : decode cX25_hold 62 = .ok (.getfield 111, 3) := dk_180 0 111 (dk_at dksX25_hold_2 14 rfl rfl)
theorem dX25_hold_65 : decode cX25_hold 65 = .ok (.iload_n 2, 1) := dk_28 (dk_at dksX25_hold_2 17 rfl rfl)
theorem dX25_hold_66 : decode cX25_hold 66 = .ok (.iconst 1, 1) := dk_4 (dk_at dksX25_hold_2 18 rfl rfl)
theorem dX25_hold_67 : decode cX25_hold 67 = .ok (.bastore, 1) := dk_84 (dk_at dksX25_hold_2 19 rfl rfl)
theorem dX25_hold_68 : decode cX25_hold 68 = .ok (.aload_n 0, 1) := dk_42 (dk_at dksX25_hold_2 20 rfl rfl)
theorem dX25_hold_69 : decode cX25_hold 69 = .ok (.getfield 102, 3) := dk_180 0 102 (dk_at dksX25_hold_2 21 rfl rfl)
theorem dX25_hold_72 : decode cX25_hold 72 = .ok (.iload_n 2, 1) := dk_28 (dk_at dksX25_hold_3 0 rfl rfl)
theorem dX25_hold_73 : decode cX25_hold 73 = .ok (.iaload, 1) := dk_46 (dk_at dksX25_hold_3 1 rfl rfl)
theorem dX25_hold_74 : decode cX25_hold 74 = .ok (.istore_n 2, 1) := dk_61 (dk_at dksX25_hold_3 2 rfl rfl)
theorem dX25_hold_75 : decode cX25_hold 75 = .ok (.goto (-20), 3) := dk_167 255 236 (dk_at dksX25_hold_3 3 rfl rfl)
theorem dX25_hold_78 : decode cX25_hold 78 = .ok (.iinc 1 1, 3) := dk_132 1 1 (dk_at dksX25_hold_3 6 rfl rfl)
theorem dX25_hold_81 : decode cX25_hold 81 = .ok (.goto (-56), 3) := dk_167 255 200 (dk_at dksX25_hold_3 9 rfl rfl)
theorem dX25_hold_84 : decode cX25_hold 84 = .ok (.return_, 1) := dk_177 (dk_at dksX25_hold_3 12 rfl rfl)
def dkwX25_goesTo_4 : List UInt8 := [132, 3, 1, 167, 255, 215, 28, 172]
abbrev dktX25_goesTo_4 : List UInt8 := dkwX25_goesTo_4 ++ []
def dkwX25_goesTo_3 : List UInt8 := [153, 0, 24, 42, 180, 0, 102, 29, 46, 27, 160, 0, 14, 28, 16, 252, 159, 0, 6, 16, 252, 172, 29, 61]
abbrev dktX25_goesTo_3 : List UInt8 := dkwX25_goesTo_3 ++ dktX25_goesTo_4
def dkwX25_goesTo_2 : List UInt8 := [167, 255, 212, 16, 252, 61, 3, 62, 29, 42, 180, 0, 157, 162, 0, 39, 42, 180, 0, 111, 29, 51]
abbrev dktX25_goesTo_2 : List UInt8 := dkwX25_goesTo_2 ++ dktX25_goesTo_3
def dkwX25_goesTo_1 : List UInt8 := [28, 46, 27, 159, 0, 13, 42, 180, 0, 65, 28, 46, 27, 160, 0, 6, 16, 252, 172, 132, 2, 1]
abbrev dktX25_goesTo_1 : List UInt8 := dkwX25_goesTo_1 ++ dktX25_goesTo_2
def dkwX25_goesTo_0 : List UInt8 := [3, 61, 28, 42, 180, 0, 160, 162, 0, 42, 42, 180, 0, 41, 28, 46, 7, 159, 0, 26, 42, 180, 0, 62]
abbrev dktX25_goesTo_0 : List UInt8 := dkwX25_goesTo_0 ++ dktX25_goesTo_1
theorem dksX25_goesTo_0 : cX25_goesTo.data.toList.drop 0 = dktX25_goesTo_0 := by decide +kernel
theorem dksX25_goesTo_1 : cX25_goesTo.data.toList.drop 24 = dktX25_goesTo_1 := dk_seg dksX25_goesTo_0 24 rfl rfl
theorem dksX25_goesTo_2 : cX25_goesTo.data.toList.drop 46 = dktX25_goesTo_2 := dk_seg dksX25_goesTo_1 22 rfl rfl
theorem dksX25_goesTo_3 : cX25_goesTo.data.toList.drop 68 = dktX25_goesTo_3 := dk_seg dksX25_goesTo_2 22 rfl rfl
theorem dksX25_goesTo_4 : cX25_goesTo.data.toList.drop 92 = dktX25_goesTo_4 := dk_seg dksX25_goesTo_3 24 rfl rfl
theorem dX25_goesTo_0 : decode cX25_goesTo 0 = .ok (.iconst 0, 1) := dk_3 (dk_at dksX25_goesTo_0 0 rfl rfl)
theorem dX25_goesTo_1 : decode cX25_goesTo 1 = .ok (.istore_n 2, 1) := dk_61 (dk_at dksX25_goesTo_0 1 rfl rfl)
theorem dX25_goesTo_2 : decode cX25_goesTo 2 = .ok (.iload_n 2, 1) := dk_28 (dk_at dksX25_goesTo_0 2 rfl rfl)
theorem dX25_goesTo_3 : decode cX25_goesTo 3 = .ok (.aload_n 0, 1) := dk_42 (dk_at dksX25_goesTo_0 3 rfl rfl)
theorem dX25_goesTo_4 : decode cX25_goesTo 4 = .ok (.getfield 160, 3) := dk_180 0 160 (dk_at dksX25_goesTo_0 4 rfl rfl)
theorem dX25_goesTo_7 : decode cX25_goesTo 7 = .ok (.if_icmp .ge 42, 3) := dk_162 0 42 (dk_at dksX25_goesTo_0 7 rfl rfl)
theorem dX25_goesTo_10 : decode cX25_goesTo 10 = .ok (.aload_n 0, 1) := dk_42 (dk_at dksX25_goesTo_0 10 rfl rfl)
theorem dX25_goesTo_11 : decode cX25_goesTo 11 = .ok (.getfield 41, 3) := dk_180 0 41 (dk_at dksX25_goesTo_0 11 rfl rfl)
theorem dX25_goesTo_14 : decode cX25_goesTo 14 = .ok (.iload_n 2, 1) := dk_28 (dk_at dksX25_goesTo_0 14 rfl rfl)
theorem dX25_goesTo_15 : decode cX25_goesTo 15 = .ok (.iaload, 1) := dk_46 (dk_at dksX25_goesTo_0 15 rfl rfl)
theorem dX25_goesTo_16 : decode cX25_goesTo 16 = .ok (.iconst 4, 1) := dk_7 (dk_at dksX25_goesTo_0 16 rfl rfl)
theorem dX25_goesTo_17 : decode cX25_goesTo 17 = .ok (.if_icmp .eq 26, 3) := dk_159 0 26 (dk_at dksX25_goesTo_0 17 rfl rfl)
theorem dX25_goesTo_20 : decode cX25_goesTo 20 = .ok (.aload_n 0, 1) := dk_42 (dk_at dksX25_goesTo_0 20 rfl rfl)
theorem dX25_goesTo_21 : decode cX25_goesTo 21 = .ok (.getfield 62, 3) := dk_180 0 62 (dk_at dksX25_goesTo_0 21 rfl rfl)
theorem dX25_goesTo_24 : decode cX25_goesTo 24 = .ok (.iload_n 2, 1) := dk_28 (dk_at dksX25_goesTo_1 0 rfl rfl)
theorem dX25_goesTo_25 : decode cX25_goesTo 25 = .ok (.iaload, 1) := dk_46 (dk_at dksX25_goesTo_1 1 rfl rfl)
theorem dX25_goesTo_26 : decode cX25_goesTo 26 = .ok (.iload_n 1, 1) := dk_27 (dk_at dksX25_goesTo_1 2 rfl rfl)
theorem dX25_goesTo_27 : decode cX25_goesTo 27 = .ok (.if_icmp .eq 13, 3) := dk_159 0 13 (dk_at dksX25_goesTo_1 3 rfl rfl)
theorem dX25_goesTo_30 : decode cX25_goesTo 30 = .ok (.aload_n 0, 1) := dk_42 (dk_at dksX25_goesTo_1 6 rfl rfl)
theorem dX25_goesTo_31 : decode cX25_goesTo 31 = .ok (.getfield 65, 3) := dk_180 0 65 (dk_at dksX25_goesTo_1 7 rfl rfl)
theorem dX25_goesTo_34 : decode cX25_goesTo 34 = .ok (.iload_n 2, 1) := dk_28 (dk_at dksX25_goesTo_1 10 rfl rfl)
theorem dX25_goesTo_35 : decode cX25_goesTo 35 = .ok (.iaload, 1) := dk_46 (dk_at dksX25_goesTo_1 11 rfl rfl)
theorem dX25_goesTo_36 : decode cX25_goesTo 36 = .ok (.iload_n 1, 1) := dk_27 (dk_at dksX25_goesTo_1 12 rfl rfl)
theorem dX25_goesTo_37 : decode cX25_goesTo 37 = .ok (.if_icmp .ne 6, 3) := dk_160 0 6 (dk_at dksX25_goesTo_1 13 rfl rfl)
theorem dX25_goesTo_40 : decode cX25_goesTo 40 = .ok (.bipush (-4), 2) := dk_16 252 (dk_at dksX25_goesTo_1 16 rfl rfl)
theorem dX25_goesTo_42 : decode cX25_goesTo 42 = .ok (.ireturn, 1) := dk_172 (dk_at dksX25_goesTo_1 18 rfl rfl)
theorem dX25_goesTo_43 : decode cX25_goesTo 43 = .ok (.iinc 2 1, 3) := dk_132 2 1 (dk_at dksX25_goesTo_1 19 rfl rfl)
theorem dX25_goesTo_46 : decode cX25_goesTo 46 = .ok (.goto (-44), 3) := dk_167 255 212 (dk_at dksX25_goesTo_2 0 rfl rfl)
theorem dX25_goesTo_49 : decode cX25_goesTo 49 = .ok (.bipush (-4), 2) := dk_16 252 (dk_at dksX25_goesTo_2 3 rfl rfl)
theorem dX25_goesTo_51 : decode cX25_goesTo 51 = .ok (.istore_n 2, 1) := dk_61 (dk_at dksX25_goesTo_2 5 rfl rfl)
theorem dX25_goesTo_52 : decode cX25_goesTo 52 = .ok (.iconst 0, 1) := dk_3 (dk_at dksX25_goesTo_2 6 rfl rfl)
theorem dX25_goesTo_53 : decode cX25_goesTo 53 = .ok (.istore_n 3, 1) := dk_62 (dk_at dksX25_goesTo_2 7 rfl rfl)
theorem dX25_goesTo_54 : decode cX25_goesTo 54 = .ok (.iload_n 3, 1) := dk_29 (dk_at dksX25_goesTo_2 8 rfl rfl)
theorem dX25_goesTo_55 : decode cX25_goesTo 55 = .ok (.aload_n 0, 1) := dk_42 (dk_at dksX25_goesTo_2 9 rfl rfl)
theorem dX25_goesTo_56 : decode cX25_goesTo 56 = .ok (.getfield 157, 3) := dk_180 0 157 (dk_at dksX25_goesTo_2 10 rfl rfl)
theorem dX25_goesTo_59 : decode cX25_goesTo 59 = .ok (.if_icmp .ge 39, 3) := dk_162 0 39 (dk_at dksX25_goesTo_2 13 rfl rfl)
theorem dX25_goesTo_62 : decode cX25_goesTo 62 = .ok (.aload_n 0, 1) := dk_42 (dk_at dksX25_goesTo_2 16 rfl rfl)
theorem dX25_goesTo_63 : decode cX25_goesTo 63 = .ok (.getfield 111, 3) := dk_180 0 111 (dk_at dksX25_goesTo_2 17 rfl rfl)
theorem dX25_goesTo_66 : decode cX25_goesTo 66 = .ok (.iload_n 3, 1) := dk_29 (dk_at dksX25_goesTo_2 20 rfl rfl)
theorem dX25_goesTo_67 : decode cX25_goesTo 67 = .ok (.baload, 1) := dk_51 (dk_at dksX25_goesTo_2 21 rfl rfl)
theorem dX25_goesTo_68 : decode cX25_goesTo 68 = .ok (.ifCond .eq 24, 3) := dk_153 0 24 (dk_at dksX25_goesTo_3 0 rfl rfl)
theorem dX25_goesTo_71 : decode cX25_goesTo 71 = .ok (.aload_n 0, 1) := dk_42 (dk_at dksX25_goesTo_3 3 rfl rfl)
theorem dX25_goesTo_72 : decode cX25_goesTo 72 = .ok (.getfield 102, 3) := dk_180 0 102 (dk_at dksX25_goesTo_3 4 rfl rfl)
theorem dX25_goesTo_75 : decode cX25_goesTo 75 = .ok (.iload_n 3, 1) := dk_29 (dk_at dksX25_goesTo_3 7 rfl rfl)
theorem dX25_goesTo_76 : decode cX25_goesTo 76 = .ok (.iaload, 1) := dk_46 (dk_at dksX25_goesTo_3 8 rfl rfl)
theorem dX25_goesTo_77 : decode cX25_goesTo 77 = .ok (.iload_n 1, 1) := dk_27 (dk_at dksX25_goesTo_3 9 rfl rfl)
theorem dX25_goesTo_78 : decode cX25_goesTo 78 = .ok (.if_icmp .ne 14, 3) := dk_160 0 14 (dk_at dksX25_goesTo_3 10 rfl rfl)
theorem dX25_goesTo_81 : decode cX25_goesTo 81 = .ok (.iload_n 2, 1) := dk_28 (dk_at dksX25_goesTo_3 13 rfl rfl)
theorem dX25_goesTo_82 : decode cX25_goesTo 82 = .ok (.bipush (-4), 2) := dk_16 252 (dk_at dksX25_goesTo_3 14 rfl rfl)
theorem dX25_goesTo_84 : decode cX25_goesTo 84 = .ok (.if_icmp .eq 6, 3) := dk_159 0 6 (dk_at dksX25_goesTo_3 16 rfl rfl)
theorem dX25_goesTo_87 : decode cX25_goesTo 87 = .ok (.bipush (-4), 2) := dk_16 252 (dk_at dksX25_goesTo_3 19 rfl rfl)
theorem dX25_goesTo_89 : decode cX25_goesTo 89 = .ok (.ireturn, 1) := dk_172 (dk_at dksX25_goesTo_3 21 rfl rfl)
theorem dX25_goesTo_90 : decode cX25_goesTo 90 = .ok (.iload_n 3, 1) := dk_29 (dk_at dksX25_goesTo_3 22 rfl rfl)
theorem dX25_goesTo_91 : decode cX25_goesTo 91 = .ok (.istore_n 2, 1) := dk_61 (dk_at dksX25_goesTo_3 23 rfl rfl)
theorem dX25_goesTo_92 : decode cX25_goesTo 92 = .ok (.iinc 3 1, 3) := dk_132 3 1 (dk_at dksX25_goesTo_4 0 rfl rfl)
theorem dX25_goesTo_95 : decode cX25_goesTo 95 = .ok (.goto (-41), 3) := dk_167 255 215 (dk_at dksX25_goesTo_4 3 rfl rfl)
theorem dX25_goesTo_98 : decode cX25_goesTo 98 = .ok (.iload_n 2, 1) := dk_28 (dk_at dksX25_goesTo_4 6 rfl rfl)
theorem dX25_goesTo_99 : decode cX25_goesTo 99 = .ok (.ireturn, 1) := dk_172 (dk_at dksX25_goesTo_4 7 rfl rfl)
def dkwX25_version_2 : List UInt8 := [9, 173]
abbrev dktX25_version_2 : List UInt8 := dkwX25_version_2 ++ []
def dkwX25_version_1 : List UInt8 := [16, 16, 27, 104, 28, 96, 51, 153, 0, 17, 42, 180, 0, 108, 16, 16, 27, 104, 28, 96, 47, 167, 0, 4]
abbrev dktX25_version_1 : List UInt8 := dkwX25_version_1 ++ dktX25_version_2
def dkwX25_version_0 : List UInt8 := [42, 27, 182, 1, 15, 153, 0, 43, 28, 133, 9, 20, 0, 124, 184, 0, 118, 153, 0, 31, 42, 180, 0, 105]
abbrev dktX25_version_0 : List UInt8 := dkwX25_version_0 ++ dktX25_version_1
theorem dksX25_version_0 : cX25_version.data.toList.drop 0 = dktX25_version_0 := by decide +kernel
theorem dksX25_version_1 : cX25_version.data.toList.drop 24 = dktX25_version_1 := dk_seg dksX25_version_0 24 rfl rfl
theorem dksX25_version_2 : cX25_version.data.toList.drop 48 = dktX25_version_2 := dk_seg dksX25_version_1 24 rfl rfl
theorem dX25_version_0 : decode cX25_version 0 = .ok (.aload_n 0, 1) := dk_42 (dk_at dksX25_version_0 0 rfl rfl)
theorem dX25_version_1 : decode cX25_version 1 = .ok (.iload_n 1, 1) := dk_27 (dk_at dksX25_version_0 1 rfl rfl)
theorem dX25_version_2 : decode cX25_version 2 = .ok (.invokevirtual 271, 3) := dk_182 1 15 (dk_at dksX25_version_0 2 rfl rfl)
theorem dX25_version_5 : decode cX25_version 5 = .ok (.ifCond .eq 43, 3) := dk_153 0 43 (dk_at dksX25_version_0 5 rfl rfl)
theorem dX25_version_8 : decode cX25_version 8 = .ok (.iload_n 2, 1) := dk_28 (dk_at dksX25_version_0 8 rfl rfl)
theorem dX25_version_9 : decode cX25_version 9 = .ok (.i2l, 1) := dk_133 (dk_at dksX25_version_0 9 rfl rfl)
theorem dX25_version_10 : decode cX25_version 10 = .ok (.lconst 0, 1) := dk_9 (dk_at dksX25_version_0 10 rfl rfl)
theorem dX25_version_11 : decode cX25_version 11 = .ok (.ldc2_w 124, 3) := dk_20 0 124 (dk_at dksX25_version_0 11 rfl rfl)
theorem dX25_version_14 : decode cX25_version 14 = .ok (.invokestatic 118, 3) := dk_184 0 118 (dk_at dksX25_version_0 14 rfl rfl)
theorem dX25_version_17 : decode cX25_version 17 = .ok (.ifCond .eq 31, 3) := dk_153 0 31 (dk_at dksX25_version_0 17 rfl rfl)
theorem dX25_version_20 : decode cX25_version 20 = .ok (.aload_n 0, 1) := dk_42 (dk_at dksX25_version_0 20 rfl rfl)
theorem dX25_version_21 : decode cX25_version 21 = .ok (.getfield 105, 3) := dk_180 0 105 (dk_at dksX25_version_0 21 rfl rfl)
theorem dX25_version_24 : decode cX25_version 24 = .ok (.bipush 16, 2) := dk_16 16 (dk_at dksX25_version_1 0 rfl rfl)
theorem dX25_version_26 : decode cX25_version 26 = .ok (.iload_n 1, 1) := dk_27 (dk_at dksX25_version_1 2 rfl rfl)
theorem dX25_version_27 : decode cX25_version 27 = .ok (.imul, 1) := dk_104 (dk_at dksX25_version_1 3 rfl rfl)
theorem dX25_version_28 : decode cX25_version 28 = .ok (.iload_n 2, 1) := dk_28 (dk_at dksX25_version_1 4 rfl rfl)
theorem dX25_version_29 : decode cX25_version 29 = .ok (.iadd, 1) := dk_96 (dk_at dksX25_version_1 5 rfl rfl)
theorem dX25_version_30 : decode cX25_version 30 = .ok (.baload, 1) := dk_51 (dk_at dksX25_version_1 6 rfl rfl)
theorem dX25_version_31 : decode cX25_version 31 = .ok (.ifCond .eq 17, 3) := dk_153 0 17 (dk_at dksX25_version_1 7 rfl rfl)
theorem dX25_version_34 : decode cX25_version 34 = .ok (.aload_n 0, 1) := dk_42 (dk_at dksX25_version_1 10 rfl rfl)
theorem dX25_version_35 : decode cX25_version 35 = .ok (.getfield 108, 3) := dk_180 0 108 (dk_at dksX25_version_1 11 rfl rfl)
theorem dX25_version_38 : decode cX25_version 38 = .ok (.bipush 16, 2) := dk_16 16 (dk_at dksX25_version_1 14 rfl rfl)
theorem dX25_version_40 : decode cX25_version 40 = .ok (.iload_n 1, 1) := dk_27 (dk_at dksX25_version_1 16 rfl rfl)
theorem dX25_version_41 : decode cX25_version 41 = .ok (.imul, 1) := dk_104 (dk_at dksX25_version_1 17 rfl rfl)
theorem dX25_version_42 : decode cX25_version 42 = .ok (.iload_n 2, 1) := dk_28 (dk_at dksX25_version_1 18 rfl rfl)
theorem dX25_version_43 : decode cX25_version 43 = .ok (.iadd, 1) := dk_96 (dk_at dksX25_version_1 19 rfl rfl)
theorem dX25_version_44 : decode cX25_version 44 = .ok (.laload, 1) := dk_47 (dk_at dksX25_version_1 20 rfl rfl)
theorem dX25_version_45 : decode cX25_version 45 = .ok (.goto 4, 3) := dk_167 0 4 (dk_at dksX25_version_1 21 rfl rfl)
theorem dX25_version_48 : decode cX25_version 48 = .ok (.lconst 0, 1) := dk_9 (dk_at dksX25_version_2 0 rfl rfl)
theorem dX25_version_49 : decode cX25_version 49 = .ok (.lreturn, 1) := dk_173 (dk_at dksX25_version_2 1 rfl rfl)
def dkwX25_isHeld_1 : List UInt8 := [27, 51, 153, 0, 7, 4, 167, 0, 4, 3, 172]
abbrev dktX25_isHeld_1 : List UInt8 := dkwX25_isHeld_1 ++ []
def dkwX25_isHeld_0 : List UInt8 := [42, 182, 1, 6, 27, 133, 9, 42, 180, 0, 157, 4, 100, 133, 184, 0, 118, 153, 0, 16, 42, 180, 0, 111]
abbrev dktX25_isHeld_0 : List UInt8 := dkwX25_isHeld_0 ++ dktX25_isHeld_1
theorem dksX25_isHeld_0 : cX25_isHeld.data.toList.drop 0 = dktX25_isHeld_0 := by decide +kernel
theorem dksX25_isHeld_1 : cX25_isHeld.data.toList.drop 24 = dktX25_isHeld_1 := dk_seg dksX25_isHeld_0 24 rfl rfl
theorem dX25_isHeld_0 : decode cX25_isHeld 0 = .ok (.aload_n 0, 1) := dk_42 (dk_at dksX25_isHeld_0 0 rfl rfl)
theorem dX25_isHeld_1 : decode cX25_isHeld 1 = .ok (.invokevirtual 262, 3) := dk_182 1 6 (dk_at dksX25_isHeld_0 1 rfl rfl)
theorem dX25_isHeld_4 : decode cX25_isHeld 4 = .ok (.iload_n 1, 1) := dk_27 (dk_at dksX25_isHeld_0 4 rfl rfl)
theorem dX25_isHeld_5 : decode cX25_isHeld 5 = .ok (.i2l, 1) := dk_133 (dk_at dksX25_isHeld_0 5 rfl rfl)
theorem dX25_isHeld_6 : decode cX25_isHeld 6 = .ok (.lconst 0, 1) := dk_9 (dk_at dksX25_isHeld_0 6 rfl rfl)
theorem dX25_isHeld_7 : decode cX25_isHeld 7 = .ok (.aload_n 0, 1) := dk_42 (dk_at dksX25_isHeld_0 7 rfl rfl)
theorem dX25_isHeld_8 : decode cX25_isHeld 8 = .ok (.getfield 157, 3) := dk_180 0 157 (dk_at dksX25_isHeld_0 8 rfl rfl)
theorem dX25_isHeld_11 : decode cX25_isHeld 11 = .ok (.iconst 1, 1) := dk_4 (dk_at dksX25_isHeld_0 11 rfl rfl)
theorem dX25_isHeld_12 : decode cX25_isHeld 12 = .ok (.isub, 1) := dk_100 (dk_at dksX25_isHeld_0 12 rfl rfl)
theorem dX25_isHeld_13 : decode cX25_isHeld 13 = .ok (.i2l, 1) := dk_133 (dk_at dksX25_isHeld_0 13 rfl rfl)
theorem dX25_isHeld_14 : decode cX25_isHeld 14 = .ok (.invokestatic 118, 3) := dk_184 0 118 (dk_at dksX25_isHeld_0 14 rfl rfl)
theorem dX25_isHeld_17 : decode cX25_isHeld 17 = .ok (.ifCond .eq 16, 3) := dk_153 0 16 (dk_at dksX25_isHeld_0 17 rfl rfl)
theorem dX25_isHeld_20 : decode cX25_isHeld 20 = .ok (.aload_n 0, 1) := dk_42 (dk_at dksX25_isHeld_0 20 rfl rfl)
theorem dX25_isHeld_21 : decode cX25_isHeld 21 = .ok (.getfield 111, 3) := dk_180 0 111 (dk_at dksX25_isHeld_0 21 rfl rfl)
theorem dX25_isHeld_24 : decode cX25_isHeld 24 = .ok (.iload_n 1, 1) := dk_27 (dk_at dksX25_isHeld_1 0 rfl rfl)
theorem dX25_isHeld_25 : decode cX25_isHeld 25 = .ok (.baload, 1) := dk_51 (dk_at dksX25_isHeld_1 1 rfl rfl)
theorem dX25_isHeld_26 : decode cX25_isHeld 26 = .ok (.ifCond .eq 7, 3) := dk_153 0 7 (dk_at dksX25_isHeld_1 2 rfl rfl)
theorem dX25_isHeld_29 : decode cX25_isHeld 29 = .ok (.iconst 1, 1) := dk_4 (dk_at dksX25_isHeld_1 5 rfl rfl)
theorem dX25_isHeld_30 : decode cX25_isHeld 30 = .ok (.goto 4, 3) := dk_167 0 4 (dk_at dksX25_isHeld_1 6 rfl rfl)
theorem dX25_isHeld_33 : decode cX25_isHeld 33 = .ok (.iconst 0, 1) := dk_3 (dk_at dksX25_isHeld_1 9 rfl rfl)
theorem dX25_isHeld_34 : decode cX25_isHeld 34 = .ok (.ireturn, 1) := dk_172 (dk_at dksX25_isHeld_1 10 rfl rfl)
def dkwX25_below_0 : List UInt8 := [42, 27, 182, 1, 15, 153, 0, 12, 42, 180, 0, 102, 27, 46, 167, 0, 4, 2, 172]
abbrev dktX25_below_0 : List UInt8 := dkwX25_below_0 ++ []
theorem dksX25_below_0 : cX25_below.data.toList.drop 0 = dktX25_below_0 := by decide +kernel
theorem dX25_below_0 : decode cX25_below 0 = .ok (.aload_n 0, 1) := dk_42 (dk_at dksX25_below_0 0 rfl rfl)
theorem dX25_below_1 : decode cX25_below 1 = .ok (.iload_n 1, 1) := dk_27 (dk_at dksX25_below_0 1 rfl rfl)
theorem dX25_below_2 : decode cX25_below 2 = .ok (.invokevirtual 271, 3) := dk_182 1 15 (dk_at dksX25_below_0 2 rfl rfl)
theorem dX25_below_5 : decode cX25_below 5 = .ok (.ifCond .eq 12, 3) := dk_153 0 12 (dk_at dksX25_below_0 5 rfl rfl)
theorem dX25_below_8 : decode cX25_below 8 = .ok (.aload_n 0, 1) := dk_42 (dk_at dksX25_below_0 8 rfl rfl)
theorem dX25_below_9 : decode cX25_below 9 = .ok (.getfield 102, 3) := dk_180 0 102 (dk_at dksX25_below_0 9 rfl rfl)
theorem dX25_below_12 : decode cX25_below 12 = .ok (.iload_n 1, 1) := dk_27 (dk_at dksX25_below_0 12 rfl rfl)
theorem dX25_below_13 : decode cX25_below 13 = .ok (.iaload, 1) := dk_46 (dk_at dksX25_below_0 13 rfl rfl)
theorem dX25_below_14 : decode cX25_below 14 = .ok (.goto 4, 3) := dk_167 0 4 (dk_at dksX25_below_0 14 rfl rfl)
theorem dX25_below_17 : decode cX25_below 17 = .ok (.iconst (-1), 1) := dk_2 (dk_at dksX25_below_0 17 rfl rfl)
theorem dX25_below_18 : decode cX25_below 18 = .ok (.ireturn, 1) := dk_172 (dk_at dksX25_below_0 18 rfl rfl)
def dkwX25_count_7 : List UInt8 := [167, 0, 4, 3, 172, 2, 172]
abbrev dktX25_count_7 : List UInt8 := dkwX25_count_7 ++ []
def dkwX25_count_6 : List UInt8 := [172, 42, 180, 0, 157, 172, 42, 180, 0, 173, 172, 42, 180, 0, 176, 172, 42, 180, 0, 130, 153, 0, 7, 4]
abbrev dktX25_count_6 : List UInt8 := dkwX25_count_6 ++ dktX25_count_7
def dkwX25_count_5 : List UInt8 := [29, 51, 153, 0, 7, 4, 167, 0, 4, 3, 96, 61, 132, 3, 1, 167, 255, 228, 28, 172, 42, 182, 1, 9]
abbrev dktX25_count_5 : List UInt8 := dkwX25_count_5 ++ dktX25_count_6
def dkwX25_count_4 : List UInt8 := [167, 255, 228, 28, 172, 42, 182, 1, 6, 3, 62, 29, 42, 180, 0, 157, 162, 0, 26, 28, 42, 180, 0, 111]
abbrev dktX25_count_4 : List UInt8 := dkwX25_count_4 ++ dktX25_count_5
def dkwX25_count_3 : List UInt8 := [162, 0, 26, 28, 42, 180, 0, 41, 29, 46, 154, 0, 7, 4, 167, 0, 4, 3, 96, 61, 132, 3, 1]
abbrev dktX25_count_3 : List UInt8 := dkwX25_count_3 ++ dktX25_count_4
def dkwX25_count_2 : List UInt8 := [42, 180, 0, 114, 172, 42, 180, 0, 134, 172, 42, 180, 0, 160, 172, 3, 62, 29, 42, 180, 0, 160]
abbrev dktX25_count_2 : List UInt8 := dkwX25_count_2 ++ dktX25_count_3
def dkwX25_count_1 : List UInt8 := [170, 0, 0, 0, 175, 0, 0, 0, 0, 0, 0, 0, 9, 0, 0, 0, 53, 0, 0, 0, 58, 0, 0, 0, 63, 0, 0, 0, 68, 0, 0, 0, 103, 0, 0, 0, 142, 0, 0, 0, 147, 0, 0, 0, 152, 0, 0, 0, 157, 0, 0, 0, 162]
abbrev dktX25_count_1 : List UInt8 := dkwX25_count_1 ++ dktX25_count_2
def dkwX25_count_0 : List UInt8 := [3, 61, 27]
abbrev dktX25_count_0 : List UInt8 := dkwX25_count_0 ++ dktX25_count_1
theorem dksX25_count_0 : cX25_count.data.toList.drop 0 = dktX25_count_0 := by decide +kernel
theorem dksX25_count_1 : cX25_count.data.toList.drop 3 = dktX25_count_1 := dk_seg dksX25_count_0 3 rfl rfl
theorem dksX25_count_2 : cX25_count.data.toList.drop 56 = dktX25_count_2 := dk_seg dksX25_count_1 53 rfl rfl
theorem dksX25_count_3 : cX25_count.data.toList.drop 78 = dktX25_count_3 := dk_seg dksX25_count_2 22 rfl rfl
theorem dksX25_count_4 : cX25_count.data.toList.drop 101 = dktX25_count_4 := dk_seg dksX25_count_3 23 rfl rfl
theorem dksX25_count_5 : cX25_count.data.toList.drop 125 = dktX25_count_5 := dk_seg dksX25_count_4 24 rfl rfl
theorem dksX25_count_6 : cX25_count.data.toList.drop 149 = dktX25_count_6 := dk_seg dksX25_count_5 24 rfl rfl
theorem dksX25_count_7 : cX25_count.data.toList.drop 173 = dktX25_count_7 := dk_seg dksX25_count_6 24 rfl rfl
theorem dX25_count_0 : decode cX25_count 0 = .ok (.iconst 0, 1) := dk_3 (dk_at dksX25_count_0 0 rfl rfl)
theorem dX25_count_1 : decode cX25_count 1 = .ok (.istore_n 2, 1) := dk_61 (dk_at dksX25_count_0 1 rfl rfl)
theorem dX25_count_2 : decode cX25_count 2 = .ok (.iload_n 1, 1) := dk_27 (dk_at dksX25_count_0 2 rfl rfl)
theorem dX25_count_3 : decode cX25_count 3 = .ok (.tableswitch 175 0 9 #[53, 58, 63, 68, 103, 142, 147, 152, 157, 162], 53) := by decide +kernel
theorem dX25_count_56 : decode cX25_count 56 = .ok (.aload_n 0, 1) := dk_42 (dk_at dksX25_count_2 0 rfl rfl)
theorem dX25_count_57 : decode cX25_count 57 = .ok (.getfield 114, 3) := dk_180 0 114 (dk_at dksX25_count_2 1 rfl rfl)
theorem dX25_count_60 : decode cX25_count 60 = .ok (.ireturn, 1) := dk_172 (dk_at dksX25_count_2 4 rfl rfl)
theorem dX25_count_61 : decode cX25_count 61 = .ok (.aload_n 0, 1) := dk_42 (dk_at dksX25_count_2 5 rfl rfl)
theorem dX25_count_62 : decode cX25_count 62 = .ok (.getfield 134, 3) := dk_180 0 134 (dk_at dksX25_count_2 6 rfl rfl)
theorem dX25_count_65 : decode cX25_count 65 = .ok (.ireturn, 1) := dk_172 (dk_at dksX25_count_2 9 rfl rfl)
theorem dX25_count_66 : decode cX25_count 66 = .ok (.aload_n 0, 1) := dk_42 (dk_at dksX25_count_2 10 rfl rfl)
theorem dX25_count_67 : decode cX25_count 67 = .ok (.getfield 160, 3) := dk_180 0 160 (dk_at dksX25_count_2 11 rfl rfl)
theorem dX25_count_70 : decode cX25_count 70 = .ok (.ireturn, 1) := dk_172 (dk_at dksX25_count_2 14 rfl rfl)
theorem dX25_count_71 : decode cX25_count 71 = .ok (.iconst 0, 1) := dk_3 (dk_at dksX25_count_2 15 rfl rfl)
theorem dX25_count_72 : decode cX25_count 72 = .ok (.istore_n 3, 1) := dk_62 (dk_at dksX25_count_2 16 rfl rfl)
theorem dX25_count_73 : decode cX25_count 73 = .ok (.iload_n 3, 1) := dk_29 (dk_at dksX25_count_2 17 rfl rfl)
theorem dX25_count_74 : decode cX25_count 74 = .ok (.aload_n 0, 1) := dk_42 (dk_at dksX25_count_2 18 rfl rfl)
theorem dX25_count_75 : decode cX25_count 75 = .ok (.getfield 160, 3) := dk_180 0 160 (dk_at dksX25_count_2 19 rfl rfl)
theorem dX25_count_78 : decode cX25_count 78 = .ok (.if_icmp .ge 26, 3) := dk_162 0 26 (dk_at dksX25_count_3 0 rfl rfl)
theorem dX25_count_81 : decode cX25_count 81 = .ok (.iload_n 2, 1) := dk_28 (dk_at dksX25_count_3 3 rfl rfl)
theorem dX25_count_82 : decode cX25_count 82 = .ok (.aload_n 0, 1) := dk_42 (dk_at dksX25_count_3 4 rfl rfl)
theorem dX25_count_83 : decode cX25_count 83 = .ok (.getfield 41, 3) := dk_180 0 41 (dk_at dksX25_count_3 5 rfl rfl)
theorem dX25_count_86 : decode cX25_count 86 = .ok (.iload_n 3, 1) := dk_29 (dk_at dksX25_count_3 8 rfl rfl)
theorem dX25_count_87 : decode cX25_count 87 = .ok (.iaload, 1) := dk_46 (dk_at dksX25_count_3 9 rfl rfl)
theorem dX25_count_88 : decode cX25_count 88 = .ok (.ifCond .ne 7, 3) := dk_154 0 7 (dk_at dksX25_count_3 10 rfl rfl)
theorem dX25_count_91 : decode cX25_count 91 = .ok (.iconst 1, 1) := dk_4 (dk_at dksX25_count_3 13 rfl rfl)
theorem dX25_count_92 : decode cX25_count 92 = .ok (.goto 4, 3) := dk_167 0 4 (dk_at dksX25_count_3 14 rfl rfl)
theorem dX25_count_95 : decode cX25_count 95 = .ok (.iconst 0, 1) := dk_3 (dk_at dksX25_count_3 17 rfl rfl)
theorem dX25_count_96 : decode cX25_count 96 = .ok (.iadd, 1) := dk_96 (dk_at dksX25_count_3 18 rfl rfl)
theorem dX25_count_97 : decode cX25_count 97 = .ok (.istore_n 2, 1) := dk_61 (dk_at dksX25_count_3 19 rfl rfl)
theorem dX25_count_98 : decode cX25_count 98 = .ok (.iinc 3 1, 3) := dk_132 3 1 (dk_at dksX25_count_3 20 rfl rfl)
theorem dX25_count_101 : decode cX25_count 101 = .ok (.goto (-28), 3) := dk_167 255 228 (dk_at dksX25_count_4 0 rfl rfl)
theorem dX25_count_104 : decode cX25_count 104 = .ok (.iload_n 2, 1) := dk_28 (dk_at dksX25_count_4 3 rfl rfl)
theorem dX25_count_105 : decode cX25_count 105 = .ok (.ireturn, 1) := dk_172 (dk_at dksX25_count_4 4 rfl rfl)
theorem dX25_count_106 : decode cX25_count 106 = .ok (.aload_n 0, 1) := dk_42 (dk_at dksX25_count_4 5 rfl rfl)
theorem dX25_count_107 : decode cX25_count 107 = .ok (.invokevirtual 262, 3) := dk_182 1 6 (dk_at dksX25_count_4 6 rfl rfl)
theorem dX25_count_110 : decode cX25_count 110 = .ok (.iconst 0, 1) := dk_3 (dk_at dksX25_count_4 9 rfl rfl)
theorem dX25_count_111 : decode cX25_count 111 = .ok (.istore_n 3, 1) := dk_62 (dk_at dksX25_count_4 10 rfl rfl)
theorem dX25_count_112 : decode cX25_count 112 = .ok (.iload_n 3, 1) := dk_29 (dk_at dksX25_count_4 11 rfl rfl)
theorem dX25_count_113 : decode cX25_count 113 = .ok (.aload_n 0, 1) := dk_42 (dk_at dksX25_count_4 12 rfl rfl)
theorem dX25_count_114 : decode cX25_count 114 = .ok (.getfield 157, 3) := dk_180 0 157 (dk_at dksX25_count_4 13 rfl rfl)
theorem dX25_count_117 : decode cX25_count 117 = .ok (.if_icmp .ge 26, 3) := dk_162 0 26 (dk_at dksX25_count_4 16 rfl rfl)
theorem dX25_count_120 : decode cX25_count 120 = .ok (.iload_n 2, 1) := dk_28 (dk_at dksX25_count_4 19 rfl rfl)
theorem dX25_count_121 : decode cX25_count 121 = .ok (.aload_n 0, 1) := dk_42 (dk_at dksX25_count_4 20 rfl rfl)
theorem dX25_count_122 : decode cX25_count 122 = .ok (.getfield 111, 3) := dk_180 0 111 (dk_at dksX25_count_4 21 rfl rfl)
theorem dX25_count_125 : decode cX25_count 125 = .ok (.iload_n 3, 1) := dk_29 (dk_at dksX25_count_5 0 rfl rfl)
theorem dX25_count_126 : decode cX25_count 126 = .ok (.baload, 1) := dk_51 (dk_at dksX25_count_5 1 rfl rfl)
theorem dX25_count_127 : decode cX25_count 127 = .ok (.ifCond .eq 7, 3) := dk_153 0 7 (dk_at dksX25_count_5 2 rfl rfl)
theorem dX25_count_130 : decode cX25_count 130 = .ok (.iconst 1, 1) := dk_4 (dk_at dksX25_count_5 5 rfl rfl)
theorem dX25_count_131 : decode cX25_count 131 = .ok (.goto 4, 3) := dk_167 0 4 (dk_at dksX25_count_5 6 rfl rfl)
theorem dX25_count_134 : decode cX25_count 134 = .ok (.iconst 0, 1) := dk_3 (dk_at dksX25_count_5 9 rfl rfl)
theorem dX25_count_135 : decode cX25_count 135 = .ok (.iadd, 1) := dk_96 (dk_at dksX25_count_5 10 rfl rfl)
theorem dX25_count_136 : decode cX25_count 136 = .ok (.istore_n 2, 1) := dk_61 (dk_at dksX25_count_5 11 rfl rfl)
theorem dX25_count_137 : decode cX25_count 137 = .ok (.iinc 3 1, 3) := dk_132 3 1 (dk_at dksX25_count_5 12 rfl rfl)
theorem dX25_count_140 : decode cX25_count 140 = .ok (.goto (-28), 3) := dk_167 255 228 (dk_at dksX25_count_5 15 rfl rfl)
theorem dX25_count_143 : decode cX25_count 143 = .ok (.iload_n 2, 1) := dk_28 (dk_at dksX25_count_5 18 rfl rfl)
theorem dX25_count_144 : decode cX25_count 144 = .ok (.ireturn, 1) := dk_172 (dk_at dksX25_count_5 19 rfl rfl)
theorem dX25_count_145 : decode cX25_count 145 = .ok (.aload_n 0, 1) := dk_42 (dk_at dksX25_count_5 20 rfl rfl)
theorem dX25_count_146 : decode cX25_count 146 = .ok (.invokevirtual 265, 3) := dk_182 1 9 (dk_at dksX25_count_5 21 rfl rfl)
theorem dX25_count_149 : decode cX25_count 149 = .ok (.ireturn, 1) := dk_172 (dk_at dksX25_count_6 0 rfl rfl)
theorem dX25_count_150 : decode cX25_count 150 = .ok (.aload_n 0, 1) := dk_42 (dk_at dksX25_count_6 1 rfl rfl)
theorem dX25_count_151 : decode cX25_count 151 = .ok (.getfield 157, 3) := dk_180 0 157 (dk_at dksX25_count_6 2 rfl rfl)
theorem dX25_count_154 : decode cX25_count 154 = .ok (.ireturn, 1) := dk_172 (dk_at dksX25_count_6 5 rfl rfl)
theorem dX25_count_155 : decode cX25_count 155 = .ok (.aload_n 0, 1) := dk_42 (dk_at dksX25_count_6 6 rfl rfl)
theorem dX25_count_156 : decode cX25_count 156 = .ok (.getfield 173, 3) := dk_180 0 173 (dk_at dksX25_count_6 7 rfl rfl)
theorem dX25_count_159 : decode cX25_count 159 = .ok (.ireturn, 1) := dk_172 (dk_at dksX25_count_6 10 rfl rfl)
theorem dX25_count_160 : decode cX25_count 160 = .ok (.aload_n 0, 1) := dk_42 (dk_at dksX25_count_6 11 rfl rfl)
theorem dX25_count_161 : decode cX25_count 161 = .ok (.getfield 176, 3) := dk_180 0 176 (dk_at dksX25_count_6 12 rfl rfl)
theorem dX25_count_164 : decode cX25_count 164 = .ok (.ireturn, 1) := dk_172 (dk_at dksX25_count_6 15 rfl rfl)
theorem dX25_count_165 : decode cX25_count 165 = .ok (.aload_n 0, 1) := dk_42 (dk_at dksX25_count_6 16 rfl rfl)
theorem dX25_count_166 : decode cX25_count 166 = .ok (.getfield 130, 3) := dk_180 0 130 (dk_at dksX25_count_6 17 rfl rfl)
theorem dX25_count_169 : decode cX25_count 169 = .ok (.ifCond .eq 7, 3) := dk_153 0 7 (dk_at dksX25_count_6 20 rfl rfl)
theorem dX25_count_172 : decode cX25_count 172 = .ok (.iconst 1, 1) := dk_4 (dk_at dksX25_count_6 23 rfl rfl)
theorem dX25_count_173 : decode cX25_count 173 = .ok (.goto 4, 3) := dk_167 0 4 (dk_at dksX25_count_7 0 rfl rfl)
theorem dX25_count_176 : decode cX25_count 176 = .ok (.iconst 0, 1) := dk_3 (dk_at dksX25_count_7 3 rfl rfl)
theorem dX25_count_177 : decode cX25_count 177 = .ok (.ireturn, 1) := dk_172 (dk_at dksX25_count_7 4 rfl rfl)
theorem dX25_count_178 : decode cX25_count 178 = .ok (.iconst (-1), 1) := dk_2 (dk_at dksX25_count_7 5 rfl rfl)
theorem dX25_count_179 : decode cX25_count 179 = .ok (.ireturn, 1) := dk_172 (dk_at dksX25_count_7 6 rfl rfl)
def dkwX25_digest_8 : List UInt8 := [132, 4, 1, 167, 255, 232, 132, 3, 1, 167, 255, 122, 31, 173]
abbrev dktX25_digest_8 : List UInt8 := dkwX25_digest_8 ++ []
def dkwX25_digest_7 : List UInt8 := [54, 4, 21, 4, 16, 16, 162, 0, 23, 20, 0, 190, 31, 105, 42, 29, 21, 4, 182, 1, 30, 97, 64]
abbrev dktX25_digest_7 : List UInt8 := dkwX25_digest_7 ++ dktX25_digest_8
def dkwX25_digest_6 : List UInt8 := [31, 105, 42, 180, 0, 96, 16, 60, 29, 104, 21, 4, 96, 47, 97, 64, 132, 4, 1, 167, 255, 223, 3]
abbrev dktX25_digest_6 : List UInt8 := dkwX25_digest_6 ++ dktX25_digest_7
def dkwX25_digest_5 : List UInt8 := [180, 0, 68, 29, 47, 97, 64, 3, 54, 4, 21, 4, 42, 180, 0, 99, 29, 46, 162, 0, 28, 20, 0, 190]
abbrev dktX25_digest_5 : List UInt8 := dkwX25_digest_5 ++ dktX25_digest_6
def dkwX25_digest_4 : List UInt8 := [132, 4, 1, 167, 255, 231, 20, 0, 190, 20, 0, 190, 31, 105, 42, 29, 182, 1, 27, 97, 105, 42]
abbrev dktX25_digest_4 : List UInt8 := dkwX25_digest_4 ++ dktX25_digest_5
def dkwX25_digest_3 : List UInt8 := [21, 4, 16, 14, 162, 0, 24, 20, 0, 190, 31, 105, 42, 29, 21, 4, 182, 1, 23, 133, 97, 64]
abbrev dktX25_digest_3 : List UInt8 := dkwX25_digest_3 ++ dktX25_digest_4
def dkwX25_digest_2 : List UInt8 := [29, 46, 133, 97, 64, 132, 3, 1, 167, 255, 233, 3, 62, 29, 42, 180, 0, 160, 162, 0, 132, 3, 54, 4]
abbrev dktX25_digest_2 : List UInt8 := dkwX25_digest_2 ++ dktX25_digest_3
def dkwX25_digest_1 : List UInt8 := [64, 132, 3, 1, 167, 255, 234, 3, 62, 29, 16, 16, 162, 0, 23, 20, 0, 190, 31, 105, 42, 180, 0, 28]
abbrev dktX25_digest_1 : List UInt8 := dkwX25_digest_1 ++ dktX25_digest_2
def dkwX25_digest_0 : List UInt8 := [20, 1, 18, 64, 3, 62, 29, 16, 10, 162, 0, 22, 20, 0, 190, 31, 105, 42, 29, 182, 1, 20, 133, 97]
abbrev dktX25_digest_0 : List UInt8 := dkwX25_digest_0 ++ dktX25_digest_1
theorem dksX25_digest_0 : cX25_digest.data.toList.drop 0 = dktX25_digest_0 := by decide +kernel
theorem dksX25_digest_1 : cX25_digest.data.toList.drop 24 = dktX25_digest_1 := dk_seg dksX25_digest_0 24 rfl rfl
theorem dksX25_digest_2 : cX25_digest.data.toList.drop 48 = dktX25_digest_2 := dk_seg dksX25_digest_1 24 rfl rfl
theorem dksX25_digest_3 : cX25_digest.data.toList.drop 72 = dktX25_digest_3 := dk_seg dksX25_digest_2 24 rfl rfl
theorem dksX25_digest_4 : cX25_digest.data.toList.drop 94 = dktX25_digest_4 := dk_seg dksX25_digest_3 22 rfl rfl
theorem dksX25_digest_5 : cX25_digest.data.toList.drop 116 = dktX25_digest_5 := dk_seg dksX25_digest_4 22 rfl rfl
theorem dksX25_digest_6 : cX25_digest.data.toList.drop 140 = dktX25_digest_6 := dk_seg dksX25_digest_5 24 rfl rfl
theorem dksX25_digest_7 : cX25_digest.data.toList.drop 163 = dktX25_digest_7 := dk_seg dksX25_digest_6 23 rfl rfl
theorem dksX25_digest_8 : cX25_digest.data.toList.drop 186 = dktX25_digest_8 := dk_seg dksX25_digest_7 23 rfl rfl
theorem dX25_digest_0 : decode cX25_digest 0 = .ok (.ldc2_w 274, 3) := dk_20 1 18 (dk_at dksX25_digest_0 0 rfl rfl)
theorem dX25_digest_3 : decode cX25_digest 3 = .ok (.lstore_n 1, 1) := dk_64 (dk_at dksX25_digest_0 3 rfl rfl)
theorem dX25_digest_4 : decode cX25_digest 4 = .ok (.iconst 0, 1) := dk_3 (dk_at dksX25_digest_0 4 rfl rfl)
theorem dX25_digest_5 : decode cX25_digest 5 = .ok (.istore_n 3, 1) := dk_62 (dk_at dksX25_digest_0 5 rfl rfl)
theorem dX25_digest_6 : decode cX25_digest 6 = .ok (.iload_n 3, 1) := dk_29 (dk_at dksX25_digest_0 6 rfl rfl)
theorem dX25_digest_7 : decode cX25_digest 7 = .ok (.bipush 10, 2) := dk_16 10 (dk_at dksX25_digest_0 7 rfl rfl)
theorem dX25_digest_9 : decode cX25_digest 9 = .ok (.if_icmp .ge 22, 3) := dk_162 0 22 (dk_at dksX25_digest_0 9 rfl rfl)
theorem dX25_digest_12 : decode cX25_digest 12 = .ok (.ldc2_w 190, 3) := dk_20 0 190 (dk_at dksX25_digest_0 12 rfl rfl)
theorem dX25_digest_15 : decode cX25_digest 15 = .ok (.lload_n 1, 1) := dk_31 (dk_at dksX25_digest_0 15 rfl rfl)
theorem dX25_digest_16 : decode cX25_digest 16 = .ok (.lmul, 1) := dk_105 (dk_at dksX25_digest_0 16 rfl rfl)
theorem dX25_digest_17 : decode cX25_digest 17 = .ok (.aload_n 0, 1) := dk_42 (dk_at dksX25_digest_0 17 rfl rfl)
theorem dX25_digest_18 : decode cX25_digest 18 = .ok (.iload_n 3, 1) := dk_29 (dk_at dksX25_digest_0 18 rfl rfl)
theorem dX25_digest_19 : decode cX25_digest 19 = .ok (.invokevirtual 276, 3) := dk_182 1 20 (dk_at dksX25_digest_0 19 rfl rfl)
theorem dX25_digest_22 : decode cX25_digest 22 = .ok (.i2l, 1) := dk_133 (dk_at dksX25_digest_0 22 rfl rfl)
theorem dX25_digest_23 : decode cX25_digest 23 = .ok (.ladd, 1) := dk_97 (dk_at dksX25_digest_0 23 rfl rfl)
theorem dX25_digest_24 : decode cX25_digest 24 = .ok (.lstore_n 1, 1) := dk_64 (dk_at dksX25_digest_1 0 rfl rfl)
theorem dX25_digest_25 : decode cX25_digest 25 = .ok (.iinc 3 1, 3) := dk_132 3 1 (dk_at dksX25_digest_1 1 rfl rfl)
theorem dX25_digest_28 : decode cX25_digest 28 = .ok (.goto (-22), 3) := dk_167 255 234 (dk_at dksX25_digest_1 4 rfl rfl)
theorem dX25_digest_31 : decode cX25_digest 31 = .ok (.iconst 0, 1) := dk_3 (dk_at dksX25_digest_1 7 rfl rfl)
theorem dX25_digest_32 : decode cX25_digest 32 = .ok (.istore_n 3, 1) := dk_62 (dk_at dksX25_digest_1 8 rfl rfl)
theorem dX25_digest_33 : decode cX25_digest 33 = .ok (.iload_n 3, 1) := dk_29 (dk_at dksX25_digest_1 9 rfl rfl)
theorem dX25_digest_34 : decode cX25_digest 34 = .ok (.bipush 16, 2) := dk_16 16 (dk_at dksX25_digest_1 10 rfl rfl)
theorem dX25_digest_36 : decode cX25_digest 36 = .ok (.if_icmp .ge 23, 3) := dk_162 0 23 (dk_at dksX25_digest_1 12 rfl rfl)
theorem dX25_digest_39 : decode cX25_digest 39 = .ok (.ldc2_w 190, 3) := dk_20 0 190 (dk_at dksX25_digest_1 15 rfl rfl)
theorem dX25_digest_42 : decode cX25_digest 42 = .ok (.lload_n 1, 1) := dk_31 (dk_at dksX25_digest_1 18 rfl rfl)
theorem dX25_digest_43 : decode cX25_digest 43 = .ok (.lmul, 1) := dk_105 (dk_at dksX25_digest_1 19 rfl rfl)
theorem dX25_digest_44 : decode cX25_digest 44 = .ok (.aload_n 0, 1) := dk_42 (dk_at dksX25_digest_1 20 rfl rfl)
theorem dX25_digest_45 : decode cX25_digest 45 = .ok (.getfield 28, 3) := dk_180 0 28 (dk_at dksX25_digest_1 21 rfl rfl)
theorem dX25_digest_48 : decode cX25_digest 48 = .ok (.iload_n 3, 1) := dk_29 (dk_at dksX25_digest_2 0 rfl rfl)
theorem dX25_digest_49 : decode cX25_digest 49 = .ok (.iaload, 1) := dk_46 (dk_at dksX25_digest_2 1 rfl rfl)
theorem dX25_digest_50 : decode cX25_digest 50 = .ok (.i2l, 1) := dk_133 (dk_at dksX25_digest_2 2 rfl rfl)
theorem dX25_digest_51 : decode cX25_digest 51 = .ok (.ladd, 1) := dk_97 (dk_at dksX25_digest_2 3 rfl rfl)
theorem dX25_digest_52 : decode cX25_digest 52 = .ok (.lstore_n 1, 1) := dk_64 (dk_at dksX25_digest_2 4 rfl rfl)
theorem dX25_digest_53 : decode cX25_digest 53 = .ok (.iinc 3 1, 3) := dk_132 3 1 (dk_at dksX25_digest_2 5 rfl rfl)
theorem dX25_digest_56 : decode cX25_digest 56 = .ok (.goto (-23), 3) := dk_167 255 233 (dk_at dksX25_digest_2 8 rfl rfl)
theorem dX25_digest_59 : decode cX25_digest 59 = .ok (.iconst 0, 1) := dk_3 (dk_at dksX25_digest_2 11 rfl rfl)
theorem dX25_digest_60 : decode cX25_digest 60 = .ok (.istore_n 3, 1) := dk_62 (dk_at dksX25_digest_2 12 rfl rfl)
theorem dX25_digest_61 : decode cX25_digest 61 = .ok (.iload_n 3, 1) := dk_29 (dk_at dksX25_digest_2 13 rfl rfl)
theorem dX25_digest_62 : decode cX25_digest 62 = .ok (.aload_n 0, 1) := dk_42 (dk_at dksX25_digest_2 14 rfl rfl)
theorem dX25_digest_63 : decode cX25_digest 63 = .ok (.getfield 160, 3) := dk_180 0 160 (dk_at dksX25_digest_2 15 rfl rfl)
theorem dX25_digest_66 : decode cX25_digest 66 = .ok (.if_icmp .ge 132, 3) := dk_162 0 132 (dk_at dksX25_digest_2 18 rfl rfl)
theorem dX25_digest_69 : decode cX25_digest 69 = .ok (.iconst 0, 1) := dk_3 (dk_at dksX25_digest_2 21 rfl rfl)
theorem dX25_digest_70 : decode cX25_digest 70 = .ok (.istore 4, 2) := dk_54 4 (dk_at dksX25_digest_2 22 rfl rfl)
theorem dX25_digest_72 : decode cX25_digest 72 = .ok (.iload 4, 2) := dk_21 4 (dk_at dksX25_digest_3 0 rfl rfl)
theorem dX25_digest_74 : decode cX25_digest 74 = .ok (.bipush 14, 2) := dk_16 14 (dk_at dksX25_digest_3 2 rfl rfl)
theorem dX25_digest_76 : decode cX25_digest 76 = .ok (.if_icmp .ge 24, 3) := dk_162 0 24 (dk_at dksX25_digest_3 4 rfl rfl)
theorem dX25_digest_79 : decode cX25_digest 79 = .ok (.ldc2_w 190, 3) := dk_20 0 190 (dk_at dksX25_digest_3 7 rfl rfl)
theorem dX25_digest_82 : decode cX25_digest 82 = .ok (.lload_n 1, 1) := dk_31 (dk_at dksX25_digest_3 10 rfl rfl)
theorem dX25_digest_83 : decode cX25_digest 83 = .ok (.lmul, 1) := dk_105 (dk_at dksX25_digest_3 11 rfl rfl)
theorem dX25_digest_84 : decode cX25_digest 84 = .ok (.aload_n 0, 1) := dk_42 (dk_at dksX25_digest_3 12 rfl rfl)
theorem dX25_digest_85 : decode cX25_digest 85 = .ok (.iload_n 3, 1) := dk_29 (dk_at dksX25_digest_3 13 rfl rfl)
theorem dX25_digest_86 : decode cX25_digest 86 = .ok (.iload 4, 2) := dk_21 4 (dk_at dksX25_digest_3 14 rfl rfl)
theorem dX25_digest_88 : decode cX25_digest 88 = .ok (.invokevirtual 279, 3) := dk_182 1 23 (dk_at dksX25_digest_3 16 rfl rfl)
theorem dX25_digest_91 : decode cX25_digest 91 = .ok (.i2l, 1) := dk_133 (dk_at dksX25_digest_3 19 rfl rfl)
theorem dX25_digest_92 : decode cX25_digest 92 = .ok (.ladd, 1) := dk_97 (dk_at dksX25_digest_3 20 rfl rfl)
theorem dX25_digest_93 : decode cX25_digest 93 = .ok (.lstore_n 1, 1) := dk_64 (dk_at dksX25_digest_3 21 rfl rfl)
theorem dX25_digest_94 : decode cX25_digest 94 = .ok (.iinc 4 1, 3) := dk_132 4 1 (dk_at dksX25_digest_4 0 rfl rfl)
theorem dX25_digest_97 : decode cX25_digest 97 = .ok (.goto (-25), 3) := dk_167 255 231 (dk_at dksX25_digest_4 3 rfl rfl)
theorem dX25_digest_100 : decode cX25_digest 100 = .ok (.ldc2_w 190, 3) := dk_20 0 190 (dk_at dksX25_digest_4 6 rfl rfl)
theorem dX25_digest_103 : decode cX25_digest 103 = .ok (.ldc2_w 190, 3) := dk_20 0 190 (dk_at dksX25_digest_4 9 rfl rfl)
theorem dX25_digest_106 : decode cX25_digest 106 = .ok (.lload_n 1, 1) := dk_31 (dk_at dksX25_digest_4 12 rfl rfl)
theorem dX25_digest_107 : decode cX25_digest 107 = .ok (.lmul, 1) := dk_105 (dk_at dksX25_digest_4 13 rfl rfl)
theorem dX25_digest_108 : decode cX25_digest 108 = .ok (.aload_n 0, 1) := dk_42 (dk_at dksX25_digest_4 14 rfl rfl)
theorem dX25_digest_109 : decode cX25_digest 109 = .ok (.iload_n 3, 1) := dk_29 (dk_at dksX25_digest_4 15 rfl rfl)
theorem dX25_digest_110 : decode cX25_digest 110 = .ok (.invokevirtual 283, 3) := dk_182 1 27 (dk_at dksX25_digest_4 16 rfl rfl)
theorem dX25_digest_113 : decode cX25_digest 113 = .ok (.ladd, 1) := dk_97 (dk_at dksX25_digest_4 19 rfl rfl)
theorem dX25_digest_114 : decode cX25_digest 114 = .ok (.lmul, 1) := dk_105 (dk_at dksX25_digest_4 20 rfl rfl)
theorem dX25_digest_115 : decode cX25_digest 115 = .ok (.aload_n 0, 1) := dk_42 (dk_at dksX25_digest_4 21 rfl rfl)
theorem dX25_digest_116 : decode cX25_digest 116 = .ok (.getfield 68, 3) := dk_180 0 68 (dk_at dksX25_digest_5 0 rfl rfl)
theorem dX25_digest_119 : decode cX25_digest 119 = .ok (.iload_n 3, 1) := dk_29 (dk_at dksX25_digest_5 3 rfl rfl)
theorem dX25_digest_120 : decode cX25_digest 120 = .ok (.laload, 1) := dk_47 (dk_at dksX25_digest_5 4 rfl rfl)
theorem dX25_digest_121 : decode cX25_digest 121 = .ok (.ladd, 1) := dk_97 (dk_at dksX25_digest_5 5 rfl rfl)
theorem dX25_digest_122 : decode cX25_digest 122 = .ok (.lstore_n 1, 1) := dk_64 (dk_at dksX25_digest_5 6 rfl rfl)
theorem dX25_digest_123 : decode cX25_digest 123 = .ok (.iconst 0, 1) := dk_3 (dk_at dksX25_digest_5 7 rfl rfl)
theorem dX25_digest_124 : decode cX25_digest 124 = .ok (.istore 4, 2) := dk_54 4 (dk_at dksX25_digest_5 8 rfl rfl)
theorem dX25_digest_126 : decode cX25_digest 126 = .ok (.iload 4, 2) := dk_21 4 (dk_at dksX25_digest_5 10 rfl rfl)
theorem dX25_digest_128 : decode cX25_digest 128 = .ok (.aload_n 0, 1) := dk_42 (dk_at dksX25_digest_5 12 rfl rfl)
theorem dX25_digest_129 : decode cX25_digest 129 = .ok (.getfield 99, 3) := dk_180 0 99 (dk_at dksX25_digest_5 13 rfl rfl)
theorem dX25_digest_132 : decode cX25_digest 132 = .ok (.iload_n 3, 1) := dk_29 (dk_at dksX25_digest_5 16 rfl rfl)
theorem dX25_digest_133 : decode cX25_digest 133 = .ok (.iaload, 1) := dk_46 (dk_at dksX25_digest_5 17 rfl rfl)
theorem dX25_digest_134 : decode cX25_digest 134 = .ok (.if_icmp .ge 28, 3) := dk_162 0 28 (dk_at dksX25_digest_5 18 rfl rfl)
theorem dX25_digest_137 : decode cX25_digest 137 = .ok (.ldc2_w 190, 3) := dk_20 0 190 (dk_at dksX25_digest_5 21 rfl rfl)
theorem dX25_digest_140 : decode cX25_digest 140 = .ok (.lload_n 1, 1) := dk_31 (dk_at dksX25_digest_6 0 rfl rfl)
theorem dX25_digest_141 : decode cX25_digest 141 = .ok (.lmul, 1) := dk_105 (dk_at dksX25_digest_6 1 rfl rfl)
theorem dX25_digest_142 : decode cX25_digest 142 = .ok (.aload_n 0, 1) := dk_42 (dk_at dksX25_digest_6 2 rfl rfl)
theorem dX25_digest_143 : decode cX25_digest 143 = .ok (.getfield 96, 3) := dk_180 0 96 (dk_at dksX25_digest_6 3 rfl rfl)
theorem dX25_digest_146 : decode cX25_digest 146 = .ok (.bipush 60, 2) := dk_16 60 (dk_at dksX25_digest_6 6 rfl rfl)
theorem dX25_digest_148 : decode cX25_digest 148 = .ok (.iload_n 3, 1) := dk_29 (dk_at dksX25_digest_6 8 rfl rfl)
theorem dX25_digest_149 : decode cX25_digest 149 = .ok (.imul, 1) := dk_104 (dk_at dksX25_digest_6 9 rfl rfl)
theorem dX25_digest_150 : decode cX25_digest 150 = .ok (.iload 4, 2) := dk_21 4 (dk_at dksX25_digest_6 10 rfl rfl)
theorem dX25_digest_152 : decode cX25_digest 152 = .ok (.iadd, 1) := dk_96 (dk_at dksX25_digest_6 12 rfl rfl)
theorem dX25_digest_153 : decode cX25_digest 153 = .ok (.laload, 1) := dk_47 (dk_at dksX25_digest_6 13 rfl rfl)
theorem dX25_digest_154 : decode cX25_digest 154 = .ok (.ladd, 1) := dk_97 (dk_at dksX25_digest_6 14 rfl rfl)
theorem dX25_digest_155 : decode cX25_digest 155 = .ok (.lstore_n 1, 1) := dk_64 (dk_at dksX25_digest_6 15 rfl rfl)
theorem dX25_digest_156 : decode cX25_digest 156 = .ok (.iinc 4 1, 3) := dk_132 4 1 (dk_at dksX25_digest_6 16 rfl rfl)
theorem dX25_digest_159 : decode cX25_digest 159 = .ok (.goto (-33), 3) := dk_167 255 223 (dk_at dksX25_digest_6 19 rfl rfl)
theorem dX25_digest_162 : decode cX25_digest 162 = .ok (.iconst 0, 1) := dk_3 (dk_at dksX25_digest_6 22 rfl rfl)
theorem dX25_digest_163 : decode cX25_digest 163 = .ok (.istore 4, 2) := dk_54 4 (dk_at dksX25_digest_7 0 rfl rfl)
theorem dX25_digest_165 : decode cX25_digest 165 = .ok (.iload 4, 2) := dk_21 4 (dk_at dksX25_digest_7 2 rfl rfl)
theorem dX25_digest_167 : decode cX25_digest 167 = .ok (.bipush 16, 2) := dk_16 16 (dk_at dksX25_digest_7 4 rfl rfl)
theorem dX25_digest_169 : decode cX25_digest 169 = .ok (.if_icmp .ge 23, 3) := dk_162 0 23 (dk_at dksX25_digest_7 6 rfl rfl)
theorem dX25_digest_172 : decode cX25_digest 172 = .ok (.ldc2_w 190, 3) := dk_20 0 190 (dk_at dksX25_digest_7 9 rfl rfl)
theorem dX25_digest_175 : decode cX25_digest 175 = .ok (.lload_n 1, 1) := dk_31 (dk_at dksX25_digest_7 12 rfl rfl)
theorem dX25_digest_176 : decode cX25_digest 176 = .ok (.lmul, 1) := dk_105 (dk_at dksX25_digest_7 13 rfl rfl)
theorem dX25_digest_177 : decode cX25_digest 177 = .ok (.aload_n 0, 1) := dk_42 (dk_at dksX25_digest_7 14 rfl rfl)
theorem dX25_digest_178 : decode cX25_digest 178 = .ok (.iload_n 3, 1) := dk_29 (dk_at dksX25_digest_7 15 rfl rfl)
theorem dX25_digest_179 : decode cX25_digest 179 = .ok (.iload 4, 2) := dk_21 4 (dk_at dksX25_digest_7 16 rfl rfl)
theorem dX25_digest_181 : decode cX25_digest 181 = .ok (.invokevirtual 286, 3) := dk_182 1 30 (dk_at dksX25_digest_7 18 rfl rfl)
theorem dX25_digest_184 : decode cX25_digest 184 = .ok (.ladd, 1) := dk_97 (dk_at dksX25_digest_7 21 rfl rfl)
theorem dX25_digest_185 : decode cX25_digest 185 = .ok (.lstore_n 1, 1) := dk_64 (dk_at dksX25_digest_7 22 rfl rfl)
theorem dX25_digest_186 : decode cX25_digest 186 = .ok (.iinc 4 1, 3) := dk_132 4 1 (dk_at dksX25_digest_8 0 rfl rfl)
theorem dX25_digest_189 : decode cX25_digest 189 = .ok (.goto (-24), 3) := dk_167 255 232 (dk_at dksX25_digest_8 3 rfl rfl)
theorem dX25_digest_192 : decode cX25_digest 192 = .ok (.iinc 3 1, 3) := dk_132 3 1 (dk_at dksX25_digest_8 6 rfl rfl)
theorem dX25_digest_195 : decode cX25_digest 195 = .ok (.goto (-134), 3) := dk_167 255 122 (dk_at dksX25_digest_8 9 rfl rfl)
theorem dX25_digest_198 : decode cX25_digest 198 = .ok (.lload_n 1, 1) := dk_31 (dk_at dksX25_digest_8 12 rfl rfl)
theorem dX25_digest_199 : decode cX25_digest 199 = .ok (.lreturn, 1) := dk_173 (dk_at dksX25_digest_8 13 rfl rfl)
