set_option maxRecDepth 100000
abbrev cX4_init : ByteArray := prog_26_method_7_code
def yX4_init : MethodName := ⟨RX4, "<init>", "()V"⟩
def dkwX4_init_11 : List UInt8 := [42, 16, 9, 188, 10, 181, 0, 109, 42, 16, 10, 188, 11, 181, 0, 112, 42, 6, 182, 0, 115, 177]
abbrev dktX4_init_11 : List UInt8 := dkwX4_init_11 ++ []
def dkwX4_init_10 : List UInt8 := [42, 16, 8, 188, 10, 181, 0, 100, 42, 16, 72, 188, 4, 181, 0, 103, 42, 16, 9, 188, 10, 181, 0, 106]
abbrev dktX4_init_10 : List UInt8 := dkwX4_init_10 ++ dktX4_init_11
def dkwX4_init_9 : List UInt8 := [42, 16, 8, 188, 10, 181, 0, 91, 42, 16, 8, 188, 10, 181, 0, 94, 42, 16, 8, 188, 10, 181, 0, 97]
abbrev dktX4_init_9 : List UInt8 := dkwX4_init_9 ++ dktX4_init_10
def dkwX4_init_8 : List UInt8 := [42, 16, 30, 188, 10, 181, 0, 82, 42, 16, 8, 188, 10, 181, 0, 85, 42, 16, 8, 188, 10, 181, 0, 88]
abbrev dktX4_init_8 : List UInt8 := dkwX4_init_8 ++ dktX4_init_9
def dkwX4_init_7 : List UInt8 := [17, 0, 210, 188, 10, 181, 0, 73, 42, 16, 110, 188, 10, 181, 0, 76, 42, 16, 110, 188, 10, 181, 0, 79]
abbrev dktX4_init_7 : List UInt8 := dkwX4_init_7 ++ dktX4_init_8
def dkwX4_init_6 : List UInt8 := [17, 0, 128, 188, 10, 181, 0, 63, 42, 16, 8, 188, 11, 181, 0, 66, 42, 2, 181, 0, 70, 42]
abbrev dktX4_init_6 : List UInt8 := dkwX4_init_6 ++ dktX4_init_7
def dkwX4_init_5 : List UInt8 := [188, 10, 181, 0, 54, 42, 17, 0, 128, 188, 10, 181, 0, 57, 42, 17, 0, 128, 188, 10, 181, 0, 60, 42]
abbrev dktX4_init_5 : List UInt8 := dkwX4_init_5 ++ dktX4_init_6
def dkwX4_init_4 : List UInt8 := [181, 0, 45, 42, 17, 7, 8, 188, 4, 181, 0, 48, 42, 17, 1, 144, 188, 10, 181, 0, 51, 42, 16, 16]
abbrev dktX4_init_4 : List UInt8 := dkwX4_init_4 ++ dktX4_init_5
def dkwX4_init_3 : List UInt8 := [17, 7, 8, 188, 10, 181, 0, 39, 42, 16, 100, 188, 10, 181, 0, 42, 42, 17, 7, 8, 188, 4]
abbrev dktX4_init_3 : List UInt8 := dkwX4_init_3 ++ dktX4_init_4
def dkwX4_init_2 : List UInt8 := [181, 0, 30, 42, 17, 3, 232, 188, 10, 181, 0, 33, 42, 17, 7, 8, 188, 10, 181, 0, 36, 42]
abbrev dktX4_init_2 : List UInt8 := dkwX4_init_2 ++ dktX4_init_3
def dkwX4_init_1 : List UInt8 := [188, 4, 181, 0, 20, 42, 6, 181, 0, 24, 42, 16, 100, 188, 10, 181, 0, 27, 42, 17, 3, 232, 188, 10]
abbrev dktX4_init_1 : List UInt8 := dkwX4_init_1 ++ dktX4_init_2
def dkwX4_init_0 : List UInt8 := [42, 183, 0, 11, 42, 16, 6, 188, 10, 181, 0, 7, 42, 17, 76, 104, 188, 10, 181, 0, 17, 42, 6]
abbrev dktX4_init_0 : List UInt8 := dkwX4_init_0 ++ dktX4_init_1
theorem dksX4_init_0 : cX4_init.data.toList.drop 0 = dktX4_init_0 := by decide +kernel
theorem dksX4_init_1 : cX4_init.data.toList.drop 23 = dktX4_init_1 := dk_seg dksX4_init_0 23 rfl rfl
theorem dksX4_init_2 : cX4_init.data.toList.drop 47 = dktX4_init_2 := dk_seg dksX4_init_1 24 rfl rfl
theorem dksX4_init_3 : cX4_init.data.toList.drop 69 = dktX4_init_3 := dk_seg dksX4_init_2 22 rfl rfl
theorem dksX4_init_4 : cX4_init.data.toList.drop 91 = dktX4_init_4 := dk_seg dksX4_init_3 22 rfl rfl
theorem dksX4_init_5 : cX4_init.data.toList.drop 115 = dktX4_init_5 := dk_seg dksX4_init_4 24 rfl rfl
theorem dksX4_init_6 : cX4_init.data.toList.drop 139 = dktX4_init_6 := dk_seg dksX4_init_5 24 rfl rfl
theorem dksX4_init_7 : cX4_init.data.toList.drop 161 = dktX4_init_7 := dk_seg dksX4_init_6 22 rfl rfl
theorem dksX4_init_8 : cX4_init.data.toList.drop 185 = dktX4_init_8 := dk_seg dksX4_init_7 24 rfl rfl
theorem dksX4_init_9 : cX4_init.data.toList.drop 209 = dktX4_init_9 := dk_seg dksX4_init_8 24 rfl rfl
theorem dksX4_init_10 : cX4_init.data.toList.drop 233 = dktX4_init_10 := dk_seg dksX4_init_9 24 rfl rfl
theorem dksX4_init_11 : cX4_init.data.toList.drop 257 = dktX4_init_11 := dk_seg dksX4_init_10 24 rfl rfl
theorem dX4_init_0 : decode cX4_init 0 = .ok (.aload_n 0, 1) := dk_42 (dk_at dksX4_init_0 0 rfl rfl)
theorem dX4_init_1 : decode cX4_init 1 = .ok (.invokespecial 11, 3) := dk_183 0 11 (dk_at dksX4_init_0 1 rfl rfl)
theorem dX4_init_4 : decode cX4_init 4 = .ok (.aload_n 0, 1) := dk_42 (dk_at dksX4_init_0 4 rfl rfl)
theorem dX4_init_5 : decode cX4_init 5 = .ok (.bipush 6, 2) := dk_16 6 (dk_at dksX4_init_0 5 rfl rfl)
theorem dX4_init_7 : decode cX4_init 7 = .ok (.newarray .int, 2) := dk_188_10 (dk_at dksX4_init_0 7 rfl rfl)
theorem dX4_init_9 : decode cX4_init 9 = .ok (.putfield 7, 3) := dk_181 0 7 (dk_at dksX4_init_0 9 rfl rfl)
theorem dX4_init_12 : decode cX4_init 12 = .ok (.aload_n 0, 1) := dk_42 (dk_at dksX4_init_0 12 rfl rfl)
theorem dX4_init_13 : decode cX4_init 13 = .ok (.sipush 19560, 3) := dk_17 76 104 (dk_at dksX4_init_0 13 rfl rfl)
theorem dX4_init_16 : decode cX4_init 16 = .ok (.newarray .int, 2) := dk_188_10 (dk_at dksX4_init_0 16 rfl rfl)
theorem dX4_init_18 : decode cX4_init 18 = .ok (.putfield 17, 3) := dk_181 0 17 (dk_at dksX4_init_0 18 rfl rfl)
theorem dX4_init_21 : decode cX4_init 21 = .ok (.aload_n 0, 1) := dk_42 (dk_at dksX4_init_0 21 rfl rfl)
theorem dX4_init_22 : decode cX4_init 22 = .ok (.iconst 3, 1) := dk_6 (dk_at dksX4_init_0 22 rfl rfl)
theorem dX4_init_23 : decode cX4_init 23 = .ok (.newarray .boolean, 2) := dk_188_4 (dk_at dksX4_init_1 0 rfl rfl)
theorem dX4_init_25 : decode cX4_init 25 = .ok (.putfield 20, 3) := dk_181 0 20 (dk_at dksX4_init_1 2 rfl rfl)
theorem dX4_init_28 : decode cX4_init 28 = .ok (.aload_n 0, 1) := dk_42 (dk_at dksX4_init_1 5 rfl rfl)
theorem dX4_init_29 : decode cX4_init 29 = .ok (.iconst 3, 1) := dk_6 (dk_at dksX4_init_1 6 rfl rfl)
theorem dX4_init_30 : decode cX4_init 30 = .ok (.putfield 24, 3) := dk_181 0 24 (dk_at dksX4_init_1 7 rfl rfl)
theorem dX4_init_33 : decode cX4_init 33 = .ok (.aload_n 0, 1) := dk_42 (dk_at dksX4_init_1 10 rfl rfl)
theorem dX4_init_34 : decode cX4_init 34 = .ok (.bipush 100, 2) := dk_16 100 (dk_at dksX4_init_1 11 rfl rfl)
theorem dX4_init_36 : decode cX4_init 36 = .ok (.newarray .int, 2) := dk_188_10 (dk_at dksX4_init_1 13 rfl rfl)
theorem dX4_init_38 : decode cX4_init 38 = .ok (.putfield 27, 3) := dk_181 0 27 (dk_at dksX4_init_1 15 rfl rfl)
theorem dX4_init_41 : decode cX4_init 41 = .ok (.aload_n 0, 1) := dk_42 (dk_at dksX4_init_1 18 rfl rfl)
theorem dX4_init_42 : decode cX4_init 42 = .ok (.sipush 1000, 3) := dk_17 3 232 (dk_at dksX4_init_1 19 rfl rfl)
theorem dX4_init_45 : decode cX4_init 45 = .ok (.newarray .int, 2) := dk_188_10 (dk_at dksX4_init_1 22 rfl rfl)
theorem dX4_init_47 : decode cX4_init 47 = .ok (.putfield 30, 3) := dk_181 0 30 (dk_at dksX4_init_2 0 rfl rfl)
theorem dX4_init_50 : decode cX4_init 50 = .ok (.aload_n 0, 1) := dk_42 (dk_at dksX4_init_2 3 rfl rfl)
theorem dX4_init_51 : decode cX4_init 51 = .ok (.sipush 1000, 3) := dk_17 3 232 (dk_at dksX4_init_2 4 rfl rfl)
theorem dX4_init_54 : decode cX4_init 54 = .ok (.newarray .int, 2) := dk_188_10 (dk_at dksX4_init_2 7 rfl rfl)
theorem dX4_init_56 : decode cX4_init 56 = .ok (.putfield 33, 3) := dk_181 0 33 (dk_at dksX4_init_2 9 rfl rfl)
theorem dX4_init_59 : decode cX4_init 59 = .ok (.aload_n 0, 1) := dk_42 (dk_at dksX4_init_2 12 rfl rfl)
theorem dX4_init_60 : decode cX4_init 60 = .ok (.sipush 1800, 3) := dk_17 7 8 (dk_at dksX4_init_2 13 rfl rfl)
theorem dX4_init_63 : decode cX4_init 63 = .ok (.newarray .int, 2) := dk_188_10 (dk_at dksX4_init_2 16 rfl rfl)
theorem dX4_init_65 : decode cX4_init 65 = .ok (.putfield 36, 3) := dk_181 0 36 (dk_at dksX4_init_2 18 rfl rfl)
theorem dX4_init_68 : decode cX4_init 68 = .ok (.aload_n 0, 1) := dk_42 (dk_at dksX4_init_2 21 rfl rfl)
theorem dX4_init_69 : decode cX4_init 69 = .ok (.sipush 1800, 3) := dk_17 7 8 (dk_at dksX4_init_3 0 rfl rfl)
theorem dX4_init_72 : decode cX4_init 72 = .ok (.newarray .int, 2) := dk_188_10 (dk_at dksX4_init_3 3 rfl rfl)
theorem dX4_init_74 : decode cX4_init 74 = .ok (.putfield 39, 3) := dk_181 0 39 (dk_at dksX4_init_3 5 rfl rfl)
theorem dX4_init_77 : decode cX4_init 77 = .ok (.aload_n 0, 1) := dk_42 (dk_at dksX4_init_3 8 rfl rfl)
theorem dX4_init_78 : decode cX4_init 78 = .ok (.bipush 100, 2) := dk_16 100 (dk_at dksX4_init_3 9 rfl rfl)
theorem dX4_init_80 : decode cX4_init 80 = .ok (.newarray .int, 2) := dk_188_10 (dk_at dksX4_init_3 11 rfl rfl)
theorem dX4_init_82 : decode cX4_init 82 = .ok (.putfield 42, 3) := dk_181 0 42 (dk_at dksX4_init_3 13 rfl rfl)
theorem dX4_init_85 : decode cX4_init 85 = .ok (.aload_n 0, 1) := dk_42 (dk_at dksX4_init_3 16 rfl rfl)
theorem dX4_init_86 : decode cX4_init 86 = .ok (.sipush 1800, 3) := dk_17 7 8 (dk_at dksX4_init_3 17 rfl rfl)
theorem dX4_init_89 : decode cX4_init 89 = .ok (.newarray .boolean, 2) := dk_188_4 (dk_at dksX4_init_3 20 rfl rfl)
theorem dX4_init_91 : decode cX4_init 91 = .ok (.putfield 45, 3) := dk_181 0 45 (dk_at dksX4_init_4 0 rfl rfl)
theorem dX4_init_94 : decode cX4_init 94 = .ok (.aload_n 0, 1) := dk_42 (dk_at dksX4_init_4 3 rfl rfl)
theorem dX4_init_95 : decode cX4_init 95 = .ok (.sipush 1800, 3) := dk_17 7 8 (dk_at dksX4_init_4 4 rfl rfl)
theorem dX4_init_98 : decode cX4_init 98 = .ok (.newarray .boolean, 2) := dk_188_4 (dk_at dksX4_init_4 7 rfl rfl)
theorem dX4_init_100 : decode cX4_init 100 = .ok (.putfield 48, 3) := dk_181 0 48 (dk_at dksX4_init_4 9 rfl rfl)
theorem dX4_init_103 : decode cX4_init 103 = .ok (.aload_n 0, 1) := dk_42 (dk_at dksX4_init_4 12 rfl rfl)
theorem dX4_init_104 : decode cX4_init 104 = .ok (.sipush 400, 3) := dk_17 1 144 (dk_at dksX4_init_4 13 rfl rfl)
theorem dX4_init_107 : decode cX4_init 107 = .ok (.newarray .int, 2) := dk_188_10 (dk_at dksX4_init_4 16 rfl rfl)
theorem dX4_init_109 : decode cX4_init 109 = .ok (.putfield 51, 3) := dk_181 0 51 (dk_at dksX4_init_4 18 rfl rfl)
theorem dX4_init_112 : decode cX4_init 112 = .ok (.aload_n 0, 1) := dk_42 (dk_at dksX4_init_4 21 rfl rfl)
theorem dX4_init_113 : decode cX4_init 113 = .ok (.bipush 16, 2) := dk_16 16 (dk_at dksX4_init_4 22 rfl rfl)
theorem dX4_init_115 : decode cX4_init 115 = .ok (.newarray .int, 2) := dk_188_10 (dk_at dksX4_init_5 0 rfl rfl)
theorem dX4_init_117 : decode cX4_init 117 = .ok (.putfield 54, 3) := dk_181 0 54 (dk_at dksX4_init_5 2 rfl rfl)
theorem dX4_init_120 : decode cX4_init 120 = .ok (.aload_n 0, 1) := dk_42 (dk_at dksX4_init_5 5 rfl rfl)
theorem dX4_init_121 : decode cX4_init 121 = .ok (.sipush 128, 3) := dk_17 0 128 (dk_at dksX4_init_5 6 rfl rfl)
theorem dX4_init_124 : decode cX4_init 124 = .ok (.newarray .int, 2) := dk_188_10 (dk_at dksX4_init_5 9 rfl rfl)
theorem dX4_init_126 : decode cX4_init 126 = .ok (.putfield 57, 3) := dk_181 0 57 (dk_at dksX4_init_5 11 rfl rfl)
theorem dX4_init_129 : decode cX4_init 129 = .ok (.aload_n 0, 1) := dk_42 (dk_at dksX4_init_5 14 rfl rfl)
theorem dX4_init_130 : decode cX4_init 130 = .ok (.sipush 128, 3) := dk_17 0 128 (dk_at dksX4_init_5 15 rfl rfl)
theorem dX4_init_133 : decode cX4_init 133 = .ok (.newarray .int, 2) := dk_188_10 (dk_at dksX4_init_5 18 rfl rfl)
theorem dX4_init_135 : decode cX4_init 135 = .ok (.putfield 60, 3) := dk_181 0 60 (dk_at dksX4_init_5 20 rfl rfl)
theorem dX4_init_138 : decode cX4_init 138 = .ok (.aload_n 0, 1) := dk_42 (dk_at dksX4_init_5 23 rfl rfl)
theorem dX4_init_139 : decode cX4_init 139 = .ok (.sipush 128, 3) := dk_17 0 128 (dk_at dksX4_init_6 0 rfl rfl)
theorem dX4_init_142 : decode cX4_init 142 = .ok (.newarray .int, 2) := dk_188_10 (dk_at dksX4_init_6 3 rfl rfl)
theorem dX4_init_144 : decode cX4_init 144 = .ok (.putfield 63, 3) := dk_181 0 63 (dk_at dksX4_init_6 5 rfl rfl)
theorem dX4_init_147 : decode cX4_init 147 = .ok (.aload_n 0, 1) := dk_42 (dk_at dksX4_init_6 8 rfl rfl)
theorem dX4_init_148 : decode cX4_init 148 = .ok (.bipush 8, 2) := dk_16 8 (dk_at dksX4_init_6 9 rfl rfl)
theorem dX4_init_150 : decode cX4_init 150 = .ok (.newarray .long, 2) := dk_188_11 (dk_at dksX4_init_6 11 rfl rfl)
theorem dX4_init_152 : decode cX4_init 152 = .ok (.putfield 66, 3) := dk_181 0 66 (dk_at dksX4_init_6 13 rfl rfl)
theorem dX4_init_155 : decode cX4_init 155 = .ok (.aload_n 0, 1) := dk_42 (dk_at dksX4_init_6 16 rfl rfl)
theorem dX4_init_156 : decode cX4_init 156 = .ok (.iconst (-1), 1) := dk_2 (dk_at dksX4_init_6 17 rfl rfl)
theorem dX4_init_157 : decode cX4_init 157 = .ok (.putfield 70, 3) := dk_181 0 70 (dk_at dksX4_init_6 18 rfl rfl)
theorem dX4_init_160 : decode cX4_init 160 = .ok (.aload_n 0, 1) := dk_42 (dk_at dksX4_init_6 21 rfl rfl)
theorem dX4_init_161 : decode cX4_init 161 = .ok (.sipush 210, 3) := dk_17 0 210 (dk_at dksX4_init_7 0 rfl rfl)
theorem dX4_init_164 : decode cX4_init 164 = .ok (.newarray .int, 2) := dk_188_10 (dk_at dksX4_init_7 3 rfl rfl)
theorem dX4_init_166 : decode cX4_init 166 = .ok (.putfield 73, 3) := dk_181 0 73 (dk_at dksX4_init_7 5 rfl rfl)
theorem dX4_init_169 : decode cX4_init 169 = .ok (.aload_n 0, 1) := dk_42 (dk_at dksX4_init_7 8 rfl rfl)
theorem dX4_init_170 : decode cX4_init 170 = .ok (.bipush 110, 2) := dk_16 110 (dk_at dksX4_init_7 9 rfl rfl)
theorem dX4_init_172 : decode cX4_init 172 = .ok (.newarray .int, 2) := dk_188_10 (dk_at dksX4_init_7 11 rfl rfl)
theorem dX4_init_174 : decode cX4_init 174 = .ok (.putfield 76, 3) := dk_181 0 76 (dk_at dksX4_init_7 13 rfl rfl)
theorem dX4_init_177 : decode cX4_init 177 = .ok (.aload_n 0, 1) := dk_42 (dk_at dksX4_init_7 16 rfl rfl)
theorem dX4_init_178 : decode cX4_init 178 = .ok (.bipush 110, 2) := dk_16 110 (dk_at dksX4_init_7 17 rfl rfl)
theorem dX4_init_180 : decode cX4_init 180 = .ok (.newarray .int, 2) := dk_188_10 (dk_at dksX4_init_7 19 rfl rfl)
theorem dX4_init_182 : decode cX4_init 182 = .ok (.putfield 79, 3) := dk_181 0 79 (dk_at dksX4_init_7 21 rfl rfl)
theorem dX4_init_185 : decode cX4_init 185 = .ok (.aload_n 0, 1) := dk_42 (dk_at dksX4_init_8 0 rfl rfl)
theorem dX4_init_186 : decode cX4_init 186 = .ok (.bipush 30, 2) := dk_16 30 (dk_at dksX4_init_8 1 rfl rfl)
theorem dX4_init_188 : decode cX4_init 188 = .ok (.newarray .int, 2) := dk_188_10 (dk_at dksX4_init_8 3 rfl rfl)
theorem dX4_init_190 : decode cX4_init 190 = .ok (.putfield 82, 3) := dk_181 0 82 (dk_at dksX4_init_8 5 rfl rfl)
theorem dX4_init_193 : decode cX4_init 193 = .ok (.aload_n 0, 1) := dk_42 (dk_at dksX4_init_8 8 rfl rfl)
theorem dX4_init_194 : decode cX4_init 194 = .ok (.bipush 8, 2) := dk_16 8 (dk_at dksX4_init_8 9 rfl rfl)
theorem dX4_init_196 : decode cX4_init 196 = .ok (.newarray .int, 2) := dk_188_10 (dk_at dksX4_init_8 11 rfl rfl)
theorem dX4_init_198 : decode cX4_init 198 = .ok (.putfield 85, 3) := dk_181 0 85 (dk_at dksX4_init_8 13 rfl rfl)
theorem dX4_init_201 : decode cX4_init 201 = .ok (.aload_n 0, 1) := dk_42 (dk_at dksX4_init_8 16 rfl rfl)
theorem dX4_init_202 : decode cX4_init 202 = .ok (.bipush 8, 2) := dk_16 8 (dk_at dksX4_init_8 17 rfl rfl)
theorem dX4_init_204 : decode cX4_init 204 = .ok (.newarray .int, 2) := dk_188_10 (dk_at dksX4_init_8 19 rfl rfl)
theorem dX4_init_206 : decode cX4_init 206 = .ok (.putfield 88, 3) := dk_181 0 88 (dk_at dksX4_init_8 21 rfl rfl)
theorem dX4_init_209 : decode cX4_init 209 = .ok (.aload_n 0, 1) := dk_42 (dk_at dksX4_init_9 0 rfl rfl)
theorem dX4_init_210 : decode cX4_init 210 = .ok (.bipush 8, 2) := dk_16 8 (dk_at dksX4_init_9 1 rfl rfl)
theorem dX4_init_212 : decode cX4_init 212 = .ok (.newarray .int, 2) := dk_188_10 (dk_at dksX4_init_9 3 rfl rfl)
theorem dX4_init_214 : decode cX4_init 214 = .ok (.putfield 91, 3) := dk_181 0 91 (dk_at dksX4_init_9 5 rfl rfl)
theorem dX4_init_217 : decode cX4_init 217 = .ok (.aload_n 0, 1) := dk_42 (dk_at dksX4_init_9 8 rfl rfl)
theorem dX4_init_218 : decode cX4_init 218 = .ok (.bipush 8, 2) := dk_16 8 (dk_at dksX4_init_9 9 rfl rfl)
theorem dX4_init_220 : decode cX4_init 220 = .ok (.newarray .int, 2) := dk_188_10 (dk_at dksX4_init_9 11 rfl rfl)
theorem dX4_init_222 : decode cX4_init 222 = .ok (.putfield 94, 3) := dk_181 0 94 (dk_at dksX4_init_9 13 rfl rfl)
theorem dX4_init_225 : decode cX4_init 225 = .ok (.aload_n 0, 1) := dk_42 (dk_at dksX4_init_9 16 rfl rfl)
theorem dX4_init_226 : decode cX4_init 226 = .ok (.bipush 8, 2) := dk_16 8 (dk_at dksX4_init_9 17 rfl rfl)
theorem dX4_init_228 : decode cX4_init 228 = .ok (.newarray .int, 2) := dk_188_10 (dk_at dksX4_init_9 19 rfl rfl)
theorem dX4_init_230 : decode cX4_init 230 = .ok (.putfield 97, 3) := dk_181 0 97 (dk_at dksX4_init_9 21 rfl rfl)
theorem dX4_init_233 : decode cX4_init 233 = .ok (.aload_n 0, 1) := dk_42 (dk_at dksX4_init_10 0 rfl rfl)
theorem dX4_init_234 : decode cX4_init 234 = .ok (.bipush 8, 2) := dk_16 8 (dk_at dksX4_init_10 1 rfl rfl)
theorem dX4_init_236 : decode cX4_init 236 = .ok (.newarray .int, 2) := dk_188_10 (dk_at dksX4_init_10 3 rfl rfl)
theorem dX4_init_238 : decode cX4_init 238 = .ok (.putfield 100, 3) := dk_181 0 100 (dk_at dksX4_init_10 5 rfl rfl)
theorem dX4_init_241 : decode cX4_init 241 = .ok (.aload_n 0, 1) := dk_42 (dk_at dksX4_init_10 8 rfl rfl)
theorem dX4_init_242 : decode cX4_init 242 = .ok (.bipush 72, 2) := dk_16 72 (dk_at dksX4_init_10 9 rfl rfl)
theorem dX4_init_244 : decode cX4_init 244 = .ok (.newarray .boolean, 2) := dk_188_4 (dk_at dksX4_init_10 11 rfl rfl)
theorem dX4_init_246 : decode cX4_init 246 = .ok (.putfield 103, 3) := dk_181 0 103 (dk_at dksX4_init_10 13 rfl rfl)
theorem dX4_init_249 : decode cX4_init 249 = .ok (.aload_n 0, 1) := dk_42 (dk_at dksX4_init_10 16 rfl rfl)
theorem dX4_init_250 : decode cX4_init 250 = .ok (.bipush 9, 2) := dk_16 9 (dk_at dksX4_init_10 17 rfl rfl)
theorem dX4_init_252 : decode cX4_init 252 = .ok (.newarray .int, 2) := dk_188_10 (dk_at dksX4_init_10 19 rfl rfl)
theorem dX4_init_254 : decode cX4_init 254 = .ok (.putfield 106, 3) := dk_181 0 106 (dk_at dksX4_init_10 21 rfl rfl)
theorem dX4_init_257 : decode cX4_init 257 = .ok (.aload_n 0, 1) := dk_42 (dk_at dksX4_init_11 0 rfl rfl)
theorem dX4_init_258 : decode cX4_init 258 = .ok (.bipush 9, 2) := dk_16 9 (dk_at dksX4_init_11 1 rfl rfl)
theorem dX4_init_260 : decode cX4_init 260 = .ok (.newarray .int, 2) := dk_188_10 (dk_at dksX4_init_11 3 rfl rfl)
theorem dX4_init_262 : decode cX4_init 262 = .ok (.putfield 109, 3) := dk_181 0 109 (dk_at dksX4_init_11 5 rfl rfl)
theorem dX4_init_265 : decode cX4_init 265 = .ok (.aload_n 0, 1) := dk_42 (dk_at dksX4_init_11 8 rfl rfl)
theorem dX4_init_266 : decode cX4_init 266 = .ok (.bipush 10, 2) := dk_16 10 (dk_at dksX4_init_11 9 rfl rfl)
theorem dX4_init_268 : decode cX4_init 268 = .ok (.newarray .long, 2) := dk_188_11 (dk_at dksX4_init_11 11 rfl rfl)
theorem dX4_init_270 : decode cX4_init 270 = .ok (.putfield 112, 3) := dk_181 0 112 (dk_at dksX4_init_11 13 rfl rfl)
theorem dX4_init_273 : decode cX4_init 273 = .ok (.aload_n 0, 1) := dk_42 (dk_at dksX4_init_11 16 rfl rfl)
theorem dX4_init_274 : decode cX4_init 274 = .ok (.iconst 3, 1) := dk_6 (dk_at dksX4_init_11 17 rfl rfl)
theorem dX4_init_275 : decode cX4_init 275 = .ok (.invokevirtual 115, 3) := dk_182 0 115 (dk_at dksX4_init_11 18 rfl rfl)
theorem dX4_init_278 : decode cX4_init 278 = .ok (.return_, 1) := dk_177 (dk_at dksX4_init_11 21 rfl rfl)
abbrev cX4_begins : ByteArray := prog_26_method_8_code
def yX4_begins : MethodName := ⟨RX4, "begins", "(I)V"⟩
def dkwX4_begins_5 : List UInt8 := [3, 84, 132, 2, 1, 167, 255, 241, 42, 3, 181, 0, 119, 42, 3, 181, 0, 122, 42, 3, 181, 0, 125, 177]
abbrev dktX4_begins_5 : List UInt8 := dkwX4_begins_5 ++ []
def dkwX4_begins_4 : List UInt8 := [16, 100, 28, 96, 8, 79, 132, 2, 1, 167, 255, 237, 3, 61, 28, 6, 162, 0, 16, 42, 180, 0, 20, 28]
abbrev dktX4_begins_4 : List UInt8 := dkwX4_begins_4 ++ dktX4_begins_5
def dkwX4_begins_3 : List UInt8 := [3, 28, 96, 16, 9, 79, 132, 2, 1, 167, 255, 237, 3, 61, 28, 16, 9, 162, 0, 19, 42, 180, 0, 17]
abbrev dktX4_begins_3 : List UInt8 := dkwX4_begins_3 ++ dktX4_begins_4
def dkwX4_begins_2 : List UInt8 := [2, 167, 0, 4, 3, 79, 132, 2, 1, 167, 255, 208, 3, 61, 28, 16, 100, 162, 0, 19, 42, 180, 0, 17]
abbrev dktX4_begins_2 : List UInt8 := dkwX4_begins_2 ++ dktX4_begins_3
def dkwX4_begins_1 : List UInt8 := [161, 0, 10, 28, 17, 3, 252, 161, 0, 17, 28, 17, 4, 46, 161, 0, 14, 28, 17, 18, 62, 162, 0, 7]
abbrev dktX4_begins_1 : List UInt8 := dkwX4_begins_1 ++ dktX4_begins_2
def dkwX4_begins_0 : List UInt8 := [42, 27, 181, 0, 24, 3, 61, 28, 17, 19, 26, 162, 0, 47, 42, 180, 0, 17, 28, 28, 16, 120]
abbrev dktX4_begins_0 : List UInt8 := dkwX4_begins_0 ++ dktX4_begins_1
theorem dksX4_begins_0 : cX4_begins.data.toList.drop 0 = dktX4_begins_0 := by decide +kernel
theorem dksX4_begins_1 : cX4_begins.data.toList.drop 22 = dktX4_begins_1 := dk_seg dksX4_begins_0 22 rfl rfl
theorem dksX4_begins_2 : cX4_begins.data.toList.drop 46 = dktX4_begins_2 := dk_seg dksX4_begins_1 24 rfl rfl
theorem dksX4_begins_3 : cX4_begins.data.toList.drop 70 = dktX4_begins_3 := dk_seg dksX4_begins_2 24 rfl rfl
theorem dksX4_begins_4 : cX4_begins.data.toList.drop 94 = dktX4_begins_4 := dk_seg dksX4_begins_3 24 rfl rfl
theorem dksX4_begins_5 : cX4_begins.data.toList.drop 118 = dktX4_begins_5 := dk_seg dksX4_begins_4 24 rfl rfl
theorem dX4_begins_0 : decode cX4_begins 0 = .ok (.aload_n 0, 1) := dk_42 (dk_at dksX4_begins_0 0 rfl rfl)
theorem dX4_begins_1 : decode cX4_begins 1 = .ok (.iload_n 1, 1) := dk_27 (dk_at dksX4_begins_0 1 rfl rfl)
theorem dX4_begins_2 : decode cX4_begins 2 = .ok (.putfield 24, 3) := dk_181 0 24 (dk_at dksX4_begins_0 2 rfl rfl)
theorem dX4_begins_5 : decode cX4_begins 5 = .ok (.iconst 0, 1) := dk_3 (dk_at dksX4_begins_0 5 rfl rfl)
theorem dX4_begins_6 : decode cX4_begins 6 = .ok (.istore_n 2, 1) := dk_61 (dk_at dksX4_begins_0 6 rfl rfl)
theorem dX4_begins_7 : decode cX4_begins 7 = .ok (.iload_n 2, 1) := dk_28 (dk_at dksX4_begins_0 7 rfl rfl)
theorem dX4_begins_8 : decode cX4_begins 8 = .ok (.sipush 4890, 3) := dk_17 19 26 (dk_at dksX4_begins_0 8 rfl rfl)
theorem dX4_begins_11 : decode cX4_begins 11 = .ok (.if_icmp .ge 47, 3) := dk_162 0 47 (dk_at dksX4_begins_0 11 rfl rfl)
theorem dX4_begins_14 : decode cX4_begins 14 = .ok (.aload_n 0, 1) := dk_42 (dk_at dksX4_begins_0 14 rfl rfl)
theorem dX4_begins_15 : decode cX4_begins 15 = .ok (.getfield 17, 3) := dk_180 0 17 (dk_at dksX4_begins_0 15 rfl rfl)
theorem dX4_begins_18 : decode cX4_begins 18 = .ok (.iload_n 2, 1) := dk_28 (dk_at dksX4_begins_0 18 rfl rfl)
theorem dX4_begins_19 : decode cX4_begins 19 = .ok (.iload_n 2, 1) := dk_28 (dk_at dksX4_begins_0 19 rfl rfl)
theorem dX4_begins_20 : decode cX4_begins 20 = .ok (.bipush 120, 2) := dk_16 120 (dk_at dksX4_begins_0 20 rfl rfl)
theorem dX4_begins_22 : decode cX4_begins 22 = .ok (.if_icmp .lt 10, 3) := dk_161 0 10 (dk_at dksX4_begins_1 0 rfl rfl)
theorem dX4_begins_25 : decode cX4_begins 25 = .ok (.iload_n 2, 1) := dk_28 (dk_at dksX4_begins_1 3 rfl rfl)
theorem dX4_begins_26 : decode cX4_begins 26 = .ok (.sipush 1020, 3) := dk_17 3 252 (dk_at dksX4_begins_1 4 rfl rfl)
theorem dX4_begins_29 : decode cX4_begins 29 = .ok (.if_icmp .lt 17, 3) := dk_161 0 17 (dk_at dksX4_begins_1 7 rfl rfl)
theorem dX4_begins_32 : decode cX4_begins 32 = .ok (.iload_n 2, 1) := dk_28 (dk_at dksX4_begins_1 10 rfl rfl)
theorem dX4_begins_33 : decode cX4_begins 33 = .ok (.sipush 1070, 3) := dk_17 4 46 (dk_at dksX4_begins_1 11 rfl rfl)
theorem dX4_begins_36 : decode cX4_begins 36 = .ok (.if_icmp .lt 14, 3) := dk_161 0 14 (dk_at dksX4_begins_1 14 rfl rfl)
theorem dX4_begins_39 : decode cX4_begins 39 = .ok (.iload_n 2, 1) := dk_28 (dk_at dksX4_begins_1 17 rfl rfl)
theorem dX4_begins_40 : decode cX4_begins 40 = .ok (.sipush 4670, 3) := dk_17 18 62 (dk_at dksX4_begins_1 18 rfl rfl)
theorem dX4_begins_43 : decode cX4_begins 43 = .ok (.if_icmp .ge 7, 3) := dk_162 0 7 (dk_at dksX4_begins_1 21 rfl rfl)
theorem dX4_begins_46 : decode cX4_begins 46 = .ok (.iconst (-1), 1) := dk_2 (dk_at dksX4_begins_2 0 rfl rfl)
theorem dX4_begins_47 : decode cX4_begins 47 = .ok (.goto 4, 3) := dk_167 0 4 (dk_at dksX4_begins_2 1 rfl rfl)
theorem dX4_begins_50 : decode cX4_begins 50 = .ok (.iconst 0, 1) := dk_3 (dk_at dksX4_begins_2 4 rfl rfl)
theorem dX4_begins_51 : decode cX4_begins 51 = .ok (.iastore, 1) := dk_79 (dk_at dksX4_begins_2 5 rfl rfl)
theorem dX4_begins_52 : decode cX4_begins 52 = .ok (.iinc 2 1, 3) := dk_132 2 1 (dk_at dksX4_begins_2 6 rfl rfl)
theorem dX4_begins_55 : decode cX4_begins 55 = .ok (.goto (-48), 3) := dk_167 255 208 (dk_at dksX4_begins_2 9 rfl rfl)
theorem dX4_begins_58 : decode cX4_begins 58 = .ok (.iconst 0, 1) := dk_3 (dk_at dksX4_begins_2 12 rfl rfl)
theorem dX4_begins_59 : decode cX4_begins 59 = .ok (.istore_n 2, 1) := dk_61 (dk_at dksX4_begins_2 13 rfl rfl)
theorem dX4_begins_60 : decode cX4_begins 60 = .ok (.iload_n 2, 1) := dk_28 (dk_at dksX4_begins_2 14 rfl rfl)
theorem dX4_begins_61 : decode cX4_begins 61 = .ok (.bipush 100, 2) := dk_16 100 (dk_at dksX4_begins_2 15 rfl rfl)
theorem dX4_begins_63 : decode cX4_begins 63 = .ok (.if_icmp .ge 19, 3) := dk_162 0 19 (dk_at dksX4_begins_2 17 rfl rfl)
theorem dX4_begins_66 : decode cX4_begins 66 = .ok (.aload_n 0, 1) := dk_42 (dk_at dksX4_begins_2 20 rfl rfl)
theorem dX4_begins_67 : decode cX4_begins 67 = .ok (.getfield 17, 3) := dk_180 0 17 (dk_at dksX4_begins_2 21 rfl rfl)
theorem dX4_begins_70 : decode cX4_begins 70 = .ok (.iconst 0, 1) := dk_3 (dk_at dksX4_begins_3 0 rfl rfl)
theorem dX4_begins_71 : decode cX4_begins 71 = .ok (.iload_n 2, 1) := dk_28 (dk_at dksX4_begins_3 1 rfl rfl)
theorem dX4_begins_72 : decode cX4_begins 72 = .ok (.iadd, 1) := dk_96 (dk_at dksX4_begins_3 2 rfl rfl)
theorem dX4_begins_73 : decode cX4_begins 73 = .ok (.bipush 9, 2) := dk_16 9 (dk_at dksX4_begins_3 3 rfl rfl)
theorem dX4_begins_75 : decode cX4_begins 75 = .ok (.iastore, 1) := dk_79 (dk_at dksX4_begins_3 5 rfl rfl)
theorem dX4_begins_76 : decode cX4_begins 76 = .ok (.iinc 2 1, 3) := dk_132 2 1 (dk_at dksX4_begins_3 6 rfl rfl)
theorem dX4_begins_79 : decode cX4_begins 79 = .ok (.goto (-19), 3) := dk_167 255 237 (dk_at dksX4_begins_3 9 rfl rfl)
theorem dX4_begins_82 : decode cX4_begins 82 = .ok (.iconst 0, 1) := dk_3 (dk_at dksX4_begins_3 12 rfl rfl)
theorem dX4_begins_83 : decode cX4_begins 83 = .ok (.istore_n 2, 1) := dk_61 (dk_at dksX4_begins_3 13 rfl rfl)
theorem dX4_begins_84 : decode cX4_begins 84 = .ok (.iload_n 2, 1) := dk_28 (dk_at dksX4_begins_3 14 rfl rfl)
theorem dX4_begins_85 : decode cX4_begins 85 = .ok (.bipush 9, 2) := dk_16 9 (dk_at dksX4_begins_3 15 rfl rfl)
theorem dX4_begins_87 : decode cX4_begins 87 = .ok (.if_icmp .ge 19, 3) := dk_162 0 19 (dk_at dksX4_begins_3 17 rfl rfl)
theorem dX4_begins_90 : decode cX4_begins 90 = .ok (.aload_n 0, 1) := dk_42 (dk_at dksX4_begins_3 20 rfl rfl)
theorem dX4_begins_91 : decode cX4_begins 91 = .ok (.getfield 17, 3) := dk_180 0 17 (dk_at dksX4_begins_3 21 rfl rfl)
theorem dX4_begins_94 : decode cX4_begins 94 = .ok (.bipush 100, 2) := dk_16 100 (dk_at dksX4_begins_4 0 rfl rfl)
theorem dX4_begins_96 : decode cX4_begins 96 = .ok (.iload_n 2, 1) := dk_28 (dk_at dksX4_begins_4 2 rfl rfl)
theorem dX4_begins_97 : decode cX4_begins 97 = .ok (.iadd, 1) := dk_96 (dk_at dksX4_begins_4 3 rfl rfl)
theorem dX4_begins_98 : decode cX4_begins 98 = .ok (.iconst 5, 1) := dk_8 (dk_at dksX4_begins_4 4 rfl rfl)
theorem dX4_begins_99 : decode cX4_begins 99 = .ok (.iastore, 1) := dk_79 (dk_at dksX4_begins_4 5 rfl rfl)
theorem dX4_begins_100 : decode cX4_begins 100 = .ok (.iinc 2 1, 3) := dk_132 2 1 (dk_at dksX4_begins_4 6 rfl rfl)
theorem dX4_begins_103 : decode cX4_begins 103 = .ok (.goto (-19), 3) := dk_167 255 237 (dk_at dksX4_begins_4 9 rfl rfl)
theorem dX4_begins_106 : decode cX4_begins 106 = .ok (.iconst 0, 1) := dk_3 (dk_at dksX4_begins_4 12 rfl rfl)
theorem dX4_begins_107 : decode cX4_begins 107 = .ok (.istore_n 2, 1) := dk_61 (dk_at dksX4_begins_4 13 rfl rfl)
theorem dX4_begins_108 : decode cX4_begins 108 = .ok (.iload_n 2, 1) := dk_28 (dk_at dksX4_begins_4 14 rfl rfl)
theorem dX4_begins_109 : decode cX4_begins 109 = .ok (.iconst 3, 1) := dk_6 (dk_at dksX4_begins_4 15 rfl rfl)
theorem dX4_begins_110 : decode cX4_begins 110 = .ok (.if_icmp .ge 16, 3) := dk_162 0 16 (dk_at dksX4_begins_4 16 rfl rfl)
theorem dX4_begins_113 : decode cX4_begins 113 = .ok (.aload_n 0, 1) := dk_42 (dk_at dksX4_begins_4 19 rfl rfl)
theorem dX4_begins_114 : decode cX4_begins 114 = .ok (.getfield 20, 3) := dk_180 0 20 (dk_at dksX4_begins_4 20 rfl rfl)
theorem dX4_begins_117 : decode cX4_begins 117 = .ok (.iload_n 2, 1) := dk_28 (dk_at dksX4_begins_4 23 rfl rfl)
theorem dX4_begins_118 : decode cX4_begins 118 = .ok (.iconst 0, 1) := dk_3 (dk_at dksX4_begins_5 0 rfl rfl)
theorem dX4_begins_119 : decode cX4_begins 119 = .ok (.bastore, 1) := dk_84 (dk_at dksX4_begins_5 1 rfl rfl)
theorem dX4_begins_120 : decode cX4_begins 120 = .ok (.iinc 2 1, 3) := dk_132 2 1 (dk_at dksX4_begins_5 2 rfl rfl)
theorem dX4_begins_123 : decode cX4_begins 123 = .ok (.goto (-15), 3) := dk_167 255 241 (dk_at dksX4_begins_5 5 rfl rfl)
theorem dX4_begins_126 : decode cX4_begins 126 = .ok (.aload_n 0, 1) := dk_42 (dk_at dksX4_begins_5 8 rfl rfl)
theorem dX4_begins_127 : decode cX4_begins 127 = .ok (.iconst 0, 1) := dk_3 (dk_at dksX4_begins_5 9 rfl rfl)
theorem dX4_begins_128 : decode cX4_begins 128 = .ok (.putfield 119, 3) := dk_181 0 119 (dk_at dksX4_begins_5 10 rfl rfl)
theorem dX4_begins_131 : decode cX4_begins 131 = .ok (.aload_n 0, 1) := dk_42 (dk_at dksX4_begins_5 13 rfl rfl)
theorem dX4_begins_132 : decode cX4_begins 132 = .ok (.iconst 0, 1) := dk_3 (dk_at dksX4_begins_5 14 rfl rfl)
theorem dX4_begins_133 : decode cX4_begins 133 = .ok (.putfield 122, 3) := dk_181 0 122 (dk_at dksX4_begins_5 15 rfl rfl)
theorem dX4_begins_136 : decode cX4_begins 136 = .ok (.aload_n 0, 1) := dk_42 (dk_at dksX4_begins_5 18 rfl rfl)
theorem dX4_begins_137 : decode cX4_begins 137 = .ok (.iconst 0, 1) := dk_3 (dk_at dksX4_begins_5 19 rfl rfl)
theorem dX4_begins_138 : decode cX4_begins 138 = .ok (.putfield 125, 3) := dk_181 0 125 (dk_at dksX4_begins_5 20 rfl rfl)
theorem dX4_begins_141 : decode cX4_begins 141 = .ok (.return_, 1) := dk_177 (dk_at dksX4_begins_5 23 rfl rfl)
abbrev cX4_room : ByteArray := prog_26_method_16_code
def yX4_room : MethodName := ⟨RX4, "room", "(I)Z"⟩
def dkwX4_room_1 : List UInt8 := [172, 42, 27, 182, 0, 115, 4, 172]
abbrev dktX4_room_1 : List UInt8 := dkwX4_room_1 ++ []
def dkwX4_room_0 : List UInt8 := [42, 3, 181, 0, 1, 27, 133, 20, 0, 136, 20, 0, 138, 184, 0, 140, 154, 0, 9, 42, 5, 182, 0, 144]
abbrev dktX4_room_0 : List UInt8 := dkwX4_room_0 ++ dktX4_room_1
theorem dksX4_room_0 : cX4_room.data.toList.drop 0 = dktX4_room_0 := by decide +kernel
theorem dksX4_room_1 : cX4_room.data.toList.drop 24 = dktX4_room_1 := dk_seg dksX4_room_0 24 rfl rfl
theorem dX4_room_0 : decode cX4_room 0 = .ok (.aload_n 0, 1) := dk_42 (dk_at dksX4_room_0 0 rfl rfl)
theorem dX4_room_1 : decode cX4_room 1 = .ok (.iconst 0, 1) := dk_3 (dk_at dksX4_room_0 1 rfl rfl)
theorem dX4_room_2 : decode cX4_room 2 = .ok (.putfield 1, 3) := dk_181 0 1 (dk_at dksX4_room_0 2 rfl rfl)
theorem dX4_room_5 : decode cX4_room 5 = .ok (.iload_n 1, 1) := dk_27 (dk_at dksX4_room_0 5 rfl rfl)
theorem dX4_room_6 : decode cX4_room 6 = .ok (.i2l, 1) := dk_133 (dk_at dksX4_room_0 6 rfl rfl)
theorem dX4_room_7 : decode cX4_room 7 = .ok (.ldc2_w 136, 3) := dk_20 0 136 (dk_at dksX4_room_0 7 rfl rfl)
theorem dX4_room_10 : decode cX4_room 10 = .ok (.ldc2_w 138, 3) := dk_20 0 138 (dk_at dksX4_room_0 10 rfl rfl)
theorem dX4_room_13 : decode cX4_room 13 = .ok (.invokestatic 140, 3) := dk_184 0 140 (dk_at dksX4_room_0 13 rfl rfl)
theorem dX4_room_16 : decode cX4_room 16 = .ok (.ifCond .ne 9, 3) := dk_154 0 9 (dk_at dksX4_room_0 16 rfl rfl)
theorem dX4_room_19 : decode cX4_room 19 = .ok (.aload_n 0, 1) := dk_42 (dk_at dksX4_room_0 19 rfl rfl)
theorem dX4_room_20 : decode cX4_room 20 = .ok (.iconst 2, 1) := dk_5 (dk_at dksX4_room_0 20 rfl rfl)
theorem dX4_room_21 : decode cX4_room 21 = .ok (.invokevirtual 144, 3) := dk_182 0 144 (dk_at dksX4_room_0 21 rfl rfl)
theorem dX4_room_24 : decode cX4_room 24 = .ok (.ireturn, 1) := dk_172 (dk_at dksX4_room_1 0 rfl rfl)
theorem dX4_room_25 : decode cX4_room 25 = .ok (.aload_n 0, 1) := dk_42 (dk_at dksX4_room_1 1 rfl rfl)
theorem dX4_room_26 : decode cX4_room 26 = .ok (.iload_n 1, 1) := dk_27 (dk_at dksX4_room_1 2 rfl rfl)
theorem dX4_room_27 : decode cX4_room 27 = .ok (.invokevirtual 115, 3) := dk_182 0 115 (dk_at dksX4_room_1 3 rfl rfl)
theorem dX4_room_30 : decode cX4_room 30 = .ok (.iconst 1, 1) := dk_4 (dk_at dksX4_room_1 6 rfl rfl)
theorem dX4_room_31 : decode cX4_room 31 = .ok (.ireturn, 1) := dk_172 (dk_at dksX4_room_1 7 rfl rfl)
abbrev cX4_within : ByteArray := prog_26_method_2_code
def yX4_within : MethodName := ⟨RX4, "within", "(JJJ)Z"⟩
def dkwX4_within_0 : List UInt8 := [30, 32, 148, 155, 0, 14, 30, 22, 4, 148, 157, 0, 7, 4, 167, 0, 4, 3, 172]
abbrev dktX4_within_0 : List UInt8 := dkwX4_within_0 ++ []
theorem dksX4_within_0 : cX4_within.data.toList.drop 0 = dktX4_within_0 := by decide +kernel
theorem dX4_within_0 : decode cX4_within 0 = .ok (.lload_n 0, 1) := dk_30 (dk_at dksX4_within_0 0 rfl rfl)
theorem dX4_within_1 : decode cX4_within 1 = .ok (.lload_n 2, 1) := dk_32 (dk_at dksX4_within_0 1 rfl rfl)
theorem dX4_within_2 : decode cX4_within 2 = .ok (.lcmp, 1) := dk_148 (dk_at dksX4_within_0 2 rfl rfl)
theorem dX4_within_3 : decode cX4_within 3 = .ok (.ifCond .lt 14, 3) := dk_155 0 14 (dk_at dksX4_within_0 3 rfl rfl)
theorem dX4_within_6 : decode cX4_within 6 = .ok (.lload_n 0, 1) := dk_30 (dk_at dksX4_within_0 6 rfl rfl)
theorem dX4_within_7 : decode cX4_within 7 = .ok (.lload 4, 2) := dk_22 4 (dk_at dksX4_within_0 7 rfl rfl)
theorem dX4_within_9 : decode cX4_within 9 = .ok (.lcmp, 1) := dk_148 (dk_at dksX4_within_0 9 rfl rfl)
theorem dX4_within_10 : decode cX4_within 10 = .ok (.ifCond .gt 7, 3) := dk_157 0 7 (dk_at dksX4_within_0 10 rfl rfl)
theorem dX4_within_13 : decode cX4_within 13 = .ok (.iconst 1, 1) := dk_4 (dk_at dksX4_within_0 13 rfl rfl)
theorem dX4_within_14 : decode cX4_within 14 = .ok (.goto 4, 3) := dk_167 0 4 (dk_at dksX4_within_0 14 rfl rfl)
theorem dX4_within_17 : decode cX4_within 17 = .ok (.iconst 0, 1) := dk_3 (dk_at dksX4_within_0 17 rfl rfl)
theorem dX4_within_18 : decode cX4_within 18 = .ok (.ireturn, 1) := dk_172 (dk_at dksX4_within_0 18 rfl rfl)
abbrev cX4_refuses : ByteArray := prog_26_method_6_code
def yX4_refuses : MethodName := ⟨RX4, "refuses", "(I)Z"⟩
def dkwX4_refuses_0 : List UInt8 := [42, 180, 0, 7, 27, 92, 46, 4, 96, 79, 3, 172]
abbrev dktX4_refuses_0 : List UInt8 := dkwX4_refuses_0 ++ []
theorem dksX4_refuses_0 : cX4_refuses.data.toList.drop 0 = dktX4_refuses_0 := by decide +kernel
theorem dX4_refuses_0 : decode cX4_refuses 0 = .ok (.aload_n 0, 1) := dk_42 (dk_at dksX4_refuses_0 0 rfl rfl)
theorem dX4_refuses_1 : decode cX4_refuses 1 = .ok (.getfield 7, 3) := dk_180 0 7 (dk_at dksX4_refuses_0 1 rfl rfl)
theorem dX4_refuses_4 : decode cX4_refuses 4 = .ok (.iload_n 1, 1) := dk_27 (dk_at dksX4_refuses_0 4 rfl rfl)
theorem dX4_refuses_5 : decode cX4_refuses 5 = .ok (.dup2, 1) := dk_92 (dk_at dksX4_refuses_0 5 rfl rfl)
theorem dX4_refuses_6 : decode cX4_refuses 6 = .ok (.iaload, 1) := dk_46 (dk_at dksX4_refuses_0 6 rfl rfl)
theorem dX4_refuses_7 : decode cX4_refuses 7 = .ok (.iconst 1, 1) := dk_4 (dk_at dksX4_refuses_0 7 rfl rfl)
theorem dX4_refuses_8 : decode cX4_refuses 8 = .ok (.iadd, 1) := dk_96 (dk_at dksX4_refuses_0 8 rfl rfl)
theorem dX4_refuses_9 : decode cX4_refuses 9 = .ok (.iastore, 1) := dk_79 (dk_at dksX4_refuses_0 9 rfl rfl)
theorem dX4_refuses_10 : decode cX4_refuses 10 = .ok (.iconst 0, 1) := dk_3 (dk_at dksX4_refuses_0 10 rfl rfl)
theorem dX4_refuses_11 : decode cX4_refuses 11 = .ok (.ireturn, 1) := dk_172 (dk_at dksX4_refuses_0 11 rfl rfl)
abbrev cX4_person : ByteArray := prog_26_method_17_code
def yX4_person : MethodName := ⟨RX4, "person", "(III)Z"⟩
def dkwX4_person_3 : List UInt8 := [4, 172]
abbrev dktX4_person_3 : List UInt8 := dkwX4_person_3 ++ []
def dkwX4_person_2 : List UInt8 := [182, 0, 144, 172, 42, 180, 0, 17, 16, 100, 27, 96, 28, 79, 42, 180, 0, 17, 16, 110, 27, 96, 29, 79]
abbrev dktX4_person_2 : List UInt8 := dkwX4_person_2 ++ dktX4_person_3
def dkwX4_person_1 : List UInt8 := [20, 0, 138, 184, 0, 140, 153, 0, 15, 29, 133, 9, 20, 0, 138, 184, 0, 140, 154, 0, 9, 42, 5]
abbrev dktX4_person_1 : List UInt8 := dkwX4_person_1 ++ dktX4_person_2
def dkwX4_person_0 : List UInt8 := [42, 3, 181, 0, 1, 42, 27, 182, 0, 147, 154, 0, 9, 42, 4, 182, 0, 144, 172, 28, 133, 9]
abbrev dktX4_person_0 : List UInt8 := dkwX4_person_0 ++ dktX4_person_1
theorem dksX4_person_0 : cX4_person.data.toList.drop 0 = dktX4_person_0 := by decide +kernel
theorem dksX4_person_1 : cX4_person.data.toList.drop 22 = dktX4_person_1 := dk_seg dksX4_person_0 22 rfl rfl
theorem dksX4_person_2 : cX4_person.data.toList.drop 45 = dktX4_person_2 := dk_seg dksX4_person_1 23 rfl rfl
theorem dksX4_person_3 : cX4_person.data.toList.drop 69 = dktX4_person_3 := dk_seg dksX4_person_2 24 rfl rfl
theorem dX4_person_0 : decode cX4_person 0 = .ok (.aload_n 0, 1) := dk_42 (dk_at dksX4_person_0 0 rfl rfl)
theorem dX4_person_1 : decode cX4_person 1 = .ok (.iconst 0, 1) := dk_3 (dk_at dksX4_person_0 1 rfl rfl)
theorem dX4_person_2 : decode cX4_person 2 = .ok (.putfield 1, 3) := dk_181 0 1 (dk_at dksX4_person_0 2 rfl rfl)
theorem dX4_person_5 : decode cX4_person 5 = .ok (.aload_n 0, 1) := dk_42 (dk_at dksX4_person_0 5 rfl rfl)
theorem dX4_person_6 : decode cX4_person 6 = .ok (.iload_n 1, 1) := dk_27 (dk_at dksX4_person_0 6 rfl rfl)
theorem dX4_person_7 : decode cX4_person 7 = .ok (.invokevirtual 147, 3) := dk_182 0 147 (dk_at dksX4_person_0 7 rfl rfl)
theorem dX4_person_10 : decode cX4_person 10 = .ok (.ifCond .ne 9, 3) := dk_154 0 9 (dk_at dksX4_person_0 10 rfl rfl)
theorem dX4_person_13 : decode cX4_person 13 = .ok (.aload_n 0, 1) := dk_42 (dk_at dksX4_person_0 13 rfl rfl)
theorem dX4_person_14 : decode cX4_person 14 = .ok (.iconst 1, 1) := dk_4 (dk_at dksX4_person_0 14 rfl rfl)
theorem dX4_person_15 : decode cX4_person 15 = .ok (.invokevirtual 144, 3) := dk_182 0 144 (dk_at dksX4_person_0 15 rfl rfl)
theorem dX4_person_18 : decode cX4_person 18 = .ok (.ireturn, 1) := dk_172 (dk_at dksX4_person_0 18 rfl rfl)
theorem dX4_person_19 : decode cX4_person 19 = .ok (.iload_n 2, 1) := dk_28 (dk_at dksX4_person_0 19 rfl rfl)
theorem dX4_person_20 : decode cX4_person 20 = .ok (.i2l, 1) := dk_133 (dk_at dksX4_person_0 20 rfl rfl)
theorem dX4_person_21 : decode cX4_person 21 = .ok (.lconst 0, 1) := dk_9 (dk_at dksX4_person_0 21 rfl rfl)
theorem dX4_person_22 : decode cX4_person 22 = .ok (.ldc2_w 138, 3) := dk_20 0 138 (dk_at dksX4_person_1 0 rfl rfl)
theorem dX4_person_25 : decode cX4_person 25 = .ok (.invokestatic 140, 3) := dk_184 0 140 (dk_at dksX4_person_1 3 rfl rfl)
theorem dX4_person_28 : decode cX4_person 28 = .ok (.ifCond .eq 15, 3) := dk_153 0 15 (dk_at dksX4_person_1 6 rfl rfl)
theorem dX4_person_31 : decode cX4_person 31 = .ok (.iload_n 3, 1) := dk_29 (dk_at dksX4_person_1 9 rfl rfl)
theorem dX4_person_32 : decode cX4_person 32 = .ok (.i2l, 1) := dk_133 (dk_at dksX4_person_1 10 rfl rfl)
theorem dX4_person_33 : decode cX4_person 33 = .ok (.lconst 0, 1) := dk_9 (dk_at dksX4_person_1 11 rfl rfl)
theorem dX4_person_34 : decode cX4_person 34 = .ok (.ldc2_w 138, 3) := dk_20 0 138 (dk_at dksX4_person_1 12 rfl rfl)
theorem dX4_person_37 : decode cX4_person 37 = .ok (.invokestatic 140, 3) := dk_184 0 140 (dk_at dksX4_person_1 15 rfl rfl)
theorem dX4_person_40 : decode cX4_person 40 = .ok (.ifCond .ne 9, 3) := dk_154 0 9 (dk_at dksX4_person_1 18 rfl rfl)
theorem dX4_person_43 : decode cX4_person 43 = .ok (.aload_n 0, 1) := dk_42 (dk_at dksX4_person_1 21 rfl rfl)
theorem dX4_person_44 : decode cX4_person 44 = .ok (.iconst 2, 1) := dk_5 (dk_at dksX4_person_1 22 rfl rfl)
theorem dX4_person_45 : decode cX4_person 45 = .ok (.invokevirtual 144, 3) := dk_182 0 144 (dk_at dksX4_person_2 0 rfl rfl)
theorem dX4_person_48 : decode cX4_person 48 = .ok (.ireturn, 1) := dk_172 (dk_at dksX4_person_2 3 rfl rfl)
theorem dX4_person_49 : decode cX4_person 49 = .ok (.aload_n 0, 1) := dk_42 (dk_at dksX4_person_2 4 rfl rfl)
theorem dX4_person_50 : decode cX4_person 50 = .ok (.getfield 17, 3) := dk_180 0 17 (dk_at dksX4_person_2 5 rfl rfl)
theorem dX4_person_53 : decode cX4_person 53 = .ok (.bipush 100, 2) := dk_16 100 (dk_at dksX4_person_2 8 rfl rfl)
theorem dX4_person_55 : decode cX4_person 55 = .ok (.iload_n 1, 1) := dk_27 (dk_at dksX4_person_2 10 rfl rfl)
theorem dX4_person_56 : decode cX4_person 56 = .ok (.iadd, 1) := dk_96 (dk_at dksX4_person_2 11 rfl rfl)
theorem dX4_person_57 : decode cX4_person 57 = .ok (.iload_n 2, 1) := dk_28 (dk_at dksX4_person_2 12 rfl rfl)
theorem dX4_person_58 : decode cX4_person 58 = .ok (.iastore, 1) := dk_79 (dk_at dksX4_person_2 13 rfl rfl)
theorem dX4_person_59 : decode cX4_person 59 = .ok (.aload_n 0, 1) := dk_42 (dk_at dksX4_person_2 14 rfl rfl)
theorem dX4_person_60 : decode cX4_person 60 = .ok (.getfield 17, 3) := dk_180 0 17 (dk_at dksX4_person_2 15 rfl rfl)
theorem dX4_person_63 : decode cX4_person 63 = .ok (.bipush 110, 2) := dk_16 110 (dk_at dksX4_person_2 18 rfl rfl)
theorem dX4_person_65 : decode cX4_person 65 = .ok (.iload_n 1, 1) := dk_27 (dk_at dksX4_person_2 20 rfl rfl)
theorem dX4_person_66 : decode cX4_person 66 = .ok (.iadd, 1) := dk_96 (dk_at dksX4_person_2 21 rfl rfl)
theorem dX4_person_67 : decode cX4_person 67 = .ok (.iload_n 3, 1) := dk_29 (dk_at dksX4_person_2 22 rfl rfl)
theorem dX4_person_68 : decode cX4_person 68 = .ok (.iastore, 1) := dk_79 (dk_at dksX4_person_2 23 rfl rfl)
theorem dX4_person_69 : decode cX4_person 69 = .ok (.iconst 1, 1) := dk_4 (dk_at dksX4_person_3 0 rfl rfl)
theorem dX4_person_70 : decode cX4_person 70 = .ok (.ireturn, 1) := dk_172 (dk_at dksX4_person_3 1 rfl rfl)
abbrev cX4_isPerson : ByteArray := prog_26_method_9_code
def yX4_isPerson : MethodName := ⟨RX4, "isPerson", "(I)Z"⟩
def dkwX4_isPerson_0 : List UInt8 := [27, 155, 0, 15, 27, 42, 180, 0, 24, 162, 0, 7, 4, 167, 0, 4, 3, 172]
abbrev dktX4_isPerson_0 : List UInt8 := dkwX4_isPerson_0 ++ []
theorem dksX4_isPerson_0 : cX4_isPerson.data.toList.drop 0 = dktX4_isPerson_0 := by decide +kernel
theorem dX4_isPerson_0 : decode cX4_isPerson 0 = .ok (.iload_n 1, 1) := dk_27 (dk_at dksX4_isPerson_0 0 rfl rfl)
theorem dX4_isPerson_1 : decode cX4_isPerson 1 = .ok (.ifCond .lt 15, 3) := dk_155 0 15 (dk_at dksX4_isPerson_0 1 rfl rfl)
theorem dX4_isPerson_4 : decode cX4_isPerson 4 = .ok (.iload_n 1, 1) := dk_27 (dk_at dksX4_isPerson_0 4 rfl rfl)
theorem dX4_isPerson_5 : decode cX4_isPerson 5 = .ok (.aload_n 0, 1) := dk_42 (dk_at dksX4_isPerson_0 5 rfl rfl)
theorem dX4_isPerson_6 : decode cX4_isPerson 6 = .ok (.getfield 24, 3) := dk_180 0 24 (dk_at dksX4_isPerson_0 6 rfl rfl)
theorem dX4_isPerson_9 : decode cX4_isPerson 9 = .ok (.if_icmp .ge 7, 3) := dk_162 0 7 (dk_at dksX4_isPerson_0 9 rfl rfl)
theorem dX4_isPerson_12 : decode cX4_isPerson 12 = .ok (.iconst 1, 1) := dk_4 (dk_at dksX4_isPerson_0 12 rfl rfl)
theorem dX4_isPerson_13 : decode cX4_isPerson 13 = .ok (.goto 4, 3) := dk_167 0 4 (dk_at dksX4_isPerson_0 13 rfl rfl)
theorem dX4_isPerson_16 : decode cX4_isPerson 16 = .ok (.iconst 0, 1) := dk_3 (dk_at dksX4_isPerson_0 16 rfl rfl)
theorem dX4_isPerson_17 : decode cX4_isPerson 17 = .ok (.ireturn, 1) := dk_172 (dk_at dksX4_isPerson_0 17 rfl rfl)
abbrev cX4_light : ByteArray := prog_26_method_18_code
def yX4_light : MethodName := ⟨RX4, "light", "(III)Z"⟩
def dkwX4_light_2 : List UInt8 := [21, 4, 96, 29, 79, 132, 4, 1, 167, 255, 237, 4, 172]
abbrev dktX4_light_2 : List UInt8 := dkwX4_light_2 ++ []
def dkwX4_light_1 : List UInt8 := [154, 0, 9, 42, 5, 182, 0, 144, 172, 27, 54, 4, 21, 4, 28, 163, 0, 19, 42, 180, 0, 17, 3]
abbrev dktX4_light_1 : List UInt8 := dkwX4_light_1 ++ dktX4_light_2
def dkwX4_light_0 : List UInt8 := [42, 3, 181, 0, 1, 27, 28, 184, 0, 150, 153, 0, 15, 29, 133, 9, 20, 0, 138, 184, 0, 140]
abbrev dktX4_light_0 : List UInt8 := dkwX4_light_0 ++ dktX4_light_1
theorem dksX4_light_0 : cX4_light.data.toList.drop 0 = dktX4_light_0 := by decide +kernel
theorem dksX4_light_1 : cX4_light.data.toList.drop 22 = dktX4_light_1 := dk_seg dksX4_light_0 22 rfl rfl
theorem dksX4_light_2 : cX4_light.data.toList.drop 45 = dktX4_light_2 := dk_seg dksX4_light_1 23 rfl rfl
theorem dX4_light_0 : decode cX4_light 0 = .ok (.aload_n 0, 1) := dk_42 (dk_at dksX4_light_0 0 rfl rfl)
theorem dX4_light_1 : decode cX4_light 1 = .ok (.iconst 0, 1) := dk_3 (dk_at dksX4_light_0 1 rfl rfl)
theorem dX4_light_2 : decode cX4_light 2 = .ok (.putfield 1, 3) := dk_181 0 1 (dk_at dksX4_light_0 2 rfl rfl)
theorem dX4_light_5 : decode cX4_light 5 = .ok (.iload_n 1, 1) := dk_27 (dk_at dksX4_light_0 5 rfl rfl)
theorem dX4_light_6 : decode cX4_light 6 = .ok (.iload_n 2, 1) := dk_28 (dk_at dksX4_light_0 6 rfl rfl)
theorem dX4_light_7 : decode cX4_light 7 = .ok (.invokestatic 150, 3) := dk_184 0 150 (dk_at dksX4_light_0 7 rfl rfl)
theorem dX4_light_10 : decode cX4_light 10 = .ok (.ifCond .eq 15, 3) := dk_153 0 15 (dk_at dksX4_light_0 10 rfl rfl)
theorem dX4_light_13 : decode cX4_light 13 = .ok (.iload_n 3, 1) := dk_29 (dk_at dksX4_light_0 13 rfl rfl)
theorem dX4_light_14 : decode cX4_light 14 = .ok (.i2l, 1) := dk_133 (dk_at dksX4_light_0 14 rfl rfl)
theorem dX4_light_15 : decode cX4_light 15 = .ok (.lconst 0, 1) := dk_9 (dk_at dksX4_light_0 15 rfl rfl)
theorem dX4_light_16 : decode cX4_light 16 = .ok (.ldc2_w 138, 3) := dk_20 0 138 (dk_at dksX4_light_0 16 rfl rfl)
theorem dX4_light_19 : decode cX4_light 19 = .ok (.invokestatic 140, 3) := dk_184 0 140 (dk_at dksX4_light_0 19 rfl rfl)
theorem dX4_light_22 : decode cX4_light 22 = .ok (.ifCond .ne 9, 3) := dk_154 0 9 (dk_at dksX4_light_1 0 rfl rfl)
theorem dX4_light_25 : decode cX4_light 25 = .ok (.aload_n 0, 1) := dk_42 (dk_at dksX4_light_1 3 rfl rfl)
theorem dX4_light_26 : decode cX4_light 26 = .ok (.iconst 2, 1) := dk_5 (dk_at dksX4_light_1 4 rfl rfl)
theorem dX4_light_27 : decode cX4_light 27 = .ok (.invokevirtual 144, 3) := dk_182 0 144 (dk_at dksX4_light_1 5 rfl rfl)
theorem dX4_light_30 : decode cX4_light 30 = .ok (.ireturn, 1) := dk_172 (dk_at dksX4_light_1 8 rfl rfl)
theorem dX4_light_31 : decode cX4_light 31 = .ok (.iload_n 1, 1) := dk_27 (dk_at dksX4_light_1 9 rfl rfl)
theorem dX4_light_32 : decode cX4_light 32 = .ok (.istore 4, 2) := dk_54 4 (dk_at dksX4_light_1 10 rfl rfl)
theorem dX4_light_34 : decode cX4_light 34 = .ok (.iload 4, 2) := dk_21 4 (dk_at dksX4_light_1 12 rfl rfl)
theorem dX4_light_36 : decode cX4_light 36 = .ok (.iload_n 2, 1) := dk_28 (dk_at dksX4_light_1 14 rfl rfl)
theorem dX4_light_37 : decode cX4_light 37 = .ok (.if_icmp .gt 19, 3) := dk_163 0 19 (dk_at dksX4_light_1 15 rfl rfl)
theorem dX4_light_40 : decode cX4_light 40 = .ok (.aload_n 0, 1) := dk_42 (dk_at dksX4_light_1 18 rfl rfl)
theorem dX4_light_41 : decode cX4_light 41 = .ok (.getfield 17, 3) := dk_180 0 17 (dk_at dksX4_light_1 19 rfl rfl)
theorem dX4_light_44 : decode cX4_light 44 = .ok (.iconst 0, 1) := dk_3 (dk_at dksX4_light_1 22 rfl rfl)
theorem dX4_light_45 : decode cX4_light 45 = .ok (.iload 4, 2) := dk_21 4 (dk_at dksX4_light_2 0 rfl rfl)
theorem dX4_light_47 : decode cX4_light 47 = .ok (.iadd, 1) := dk_96 (dk_at dksX4_light_2 2 rfl rfl)
theorem dX4_light_48 : decode cX4_light 48 = .ok (.iload_n 3, 1) := dk_29 (dk_at dksX4_light_2 3 rfl rfl)
theorem dX4_light_49 : decode cX4_light 49 = .ok (.iastore, 1) := dk_79 (dk_at dksX4_light_2 4 rfl rfl)
theorem dX4_light_50 : decode cX4_light 50 = .ok (.iinc 4 1, 3) := dk_132 4 1 (dk_at dksX4_light_2 5 rfl rfl)
theorem dX4_light_53 : decode cX4_light 53 = .ok (.goto (-19), 3) := dk_167 255 237 (dk_at dksX4_light_2 8 rfl rfl)
theorem dX4_light_56 : decode cX4_light 56 = .ok (.iconst 1, 1) := dk_4 (dk_at dksX4_light_2 11 rfl rfl)
theorem dX4_light_57 : decode cX4_light 57 = .ok (.ireturn, 1) := dk_172 (dk_at dksX4_light_2 12 rfl rfl)
abbrev cX4_areSeconds : ByteArray := prog_26_method_13_code
def yX4_areSeconds : MethodName := ⟨RX4, "areSeconds", "(II)Z"⟩
def dkwX4_areSeconds_1 : List UInt8 := [172]
abbrev dktX4_areSeconds_1 : List UInt8 := dkwX4_areSeconds_1 ++ []
def dkwX4_areSeconds_0 : List UInt8 := [26, 184, 0, 128, 153, 0, 19, 27, 184, 0, 128, 153, 0, 12, 26, 27, 163, 0, 7, 4, 167, 0, 4, 3]
abbrev dktX4_areSeconds_0 : List UInt8 := dkwX4_areSeconds_0 ++ dktX4_areSeconds_1
theorem dksX4_areSeconds_0 : cX4_areSeconds.data.toList.drop 0 = dktX4_areSeconds_0 := by decide +kernel
theorem dksX4_areSeconds_1 : cX4_areSeconds.data.toList.drop 24 = dktX4_areSeconds_1 := dk_seg dksX4_areSeconds_0 24 rfl rfl
theorem dX4_areSeconds_0 : decode cX4_areSeconds 0 = .ok (.iload_n 0, 1) := dk_26 (dk_at dksX4_areSeconds_0 0 rfl rfl)
theorem dX4_areSeconds_1 : decode cX4_areSeconds 1 = .ok (.invokestatic 128, 3) := dk_184 0 128 (dk_at dksX4_areSeconds_0 1 rfl rfl)
theorem dX4_areSeconds_4 : decode cX4_areSeconds 4 = .ok (.ifCond .eq 19, 3) := dk_153 0 19 (dk_at dksX4_areSeconds_0 4 rfl rfl)
theorem dX4_areSeconds_7 : decode cX4_areSeconds 7 = .ok (.iload_n 1, 1) := dk_27 (dk_at dksX4_areSeconds_0 7 rfl rfl)
theorem dX4_areSeconds_8 : decode cX4_areSeconds 8 = .ok (.invokestatic 128, 3) := dk_184 0 128 (dk_at dksX4_areSeconds_0 8 rfl rfl)
theorem dX4_areSeconds_11 : decode cX4_areSeconds 11 = .ok (.ifCond .eq 12, 3) := dk_153 0 12 (dk_at dksX4_areSeconds_0 11 rfl rfl)
theorem dX4_areSeconds_14 : decode cX4_areSeconds 14 = .ok (.iload_n 0, 1) := dk_26 (dk_at dksX4_areSeconds_0 14 rfl rfl)
theorem dX4_areSeconds_15 : decode cX4_areSeconds 15 = .ok (.iload_n 1, 1) := dk_27 (dk_at dksX4_areSeconds_0 15 rfl rfl)
theorem dX4_areSeconds_16 : decode cX4_areSeconds 16 = .ok (.if_icmp .gt 7, 3) := dk_163 0 7 (dk_at dksX4_areSeconds_0 16 rfl rfl)
theorem dX4_areSeconds_19 : decode cX4_areSeconds 19 = .ok (.iconst 1, 1) := dk_4 (dk_at dksX4_areSeconds_0 19 rfl rfl)
theorem dX4_areSeconds_20 : decode cX4_areSeconds 20 = .ok (.goto 4, 3) := dk_167 0 4 (dk_at dksX4_areSeconds_0 20 rfl rfl)
theorem dX4_areSeconds_23 : decode cX4_areSeconds 23 = .ok (.iconst 0, 1) := dk_3 (dk_at dksX4_areSeconds_0 23 rfl rfl)
theorem dX4_areSeconds_24 : decode cX4_areSeconds 24 = .ok (.ireturn, 1) := dk_172 (dk_at dksX4_areSeconds_1 0 rfl rfl)
abbrev cX4_isSecond : ByteArray := prog_26_method_12_code
def yX4_isSecond : MethodName := ⟨RX4, "isSecond", "(I)Z"⟩
def dkwX4_isSecond_0 : List UInt8 := [26, 155, 0, 13, 26, 16, 99, 163, 0, 7, 4, 167, 0, 4, 3, 172]
abbrev dktX4_isSecond_0 : List UInt8 := dkwX4_isSecond_0 ++ []
theorem dksX4_isSecond_0 : cX4_isSecond.data.toList.drop 0 = dktX4_isSecond_0 := by decide +kernel
theorem dX4_isSecond_0 : decode cX4_isSecond 0 = .ok (.iload_n 0, 1) := dk_26 (dk_at dksX4_isSecond_0 0 rfl rfl)
theorem dX4_isSecond_1 : decode cX4_isSecond 1 = .ok (.ifCond .lt 13, 3) := dk_155 0 13 (dk_at dksX4_isSecond_0 1 rfl rfl)
theorem dX4_isSecond_4 : decode cX4_isSecond 4 = .ok (.iload_n 0, 1) := dk_26 (dk_at dksX4_isSecond_0 4 rfl rfl)
theorem dX4_isSecond_5 : decode cX4_isSecond 5 = .ok (.bipush 99, 2) := dk_16 99 (dk_at dksX4_isSecond_0 5 rfl rfl)
theorem dX4_isSecond_7 : decode cX4_isSecond 7 = .ok (.if_icmp .gt 7, 3) := dk_163 0 7 (dk_at dksX4_isSecond_0 7 rfl rfl)
theorem dX4_isSecond_10 : decode cX4_isSecond 10 = .ok (.iconst 1, 1) := dk_4 (dk_at dksX4_isSecond_0 10 rfl rfl)
theorem dX4_isSecond_11 : decode cX4_isSecond 11 = .ok (.goto 4, 3) := dk_167 0 4 (dk_at dksX4_isSecond_0 11 rfl rfl)
theorem dX4_isSecond_14 : decode cX4_isSecond 14 = .ok (.iconst 0, 1) := dk_3 (dk_at dksX4_isSecond_0 14 rfl rfl)
theorem dX4_isSecond_15 : decode cX4_isSecond 15 = .ok (.ireturn, 1) := dk_172 (dk_at dksX4_isSecond_0 15 rfl rfl)
abbrev cX4_attend : ByteArray := prog_26_method_19_code
def yX4_attend : MethodName := ⟨RX4, "attend", "(IIII)Z"⟩
def dkwX4_attend_3 : List UInt8 := [28, 79, 132, 5, 1, 167, 255, 230, 4, 172]
abbrev dktX4_attend_3 : List UInt8 := dkwX4_attend_3 ++ []
def dkwX4_attend_2 : List UInt8 := [29, 54, 5, 21, 5, 21, 4, 163, 0, 25, 42, 180, 0, 17, 16, 120, 16, 100, 27, 104, 96, 21, 5, 96]
abbrev dktX4_attend_2 : List UInt8 := dkwX4_attend_2 ++ dktX4_attend_3
def dkwX4_attend_1 : List UInt8 := [154, 0, 9, 42, 4, 182, 0, 144, 172, 29, 21, 4, 184, 0, 150, 154, 0, 9, 42, 5, 182, 0, 144, 172]
abbrev dktX4_attend_1 : List UInt8 := dkwX4_attend_1 ++ dktX4_attend_2
def dkwX4_attend_0 : List UInt8 := [42, 3, 181, 0, 1, 42, 27, 182, 0, 147, 153, 0, 16, 28, 2, 159, 0, 17, 42, 28, 182, 0, 153]
abbrev dktX4_attend_0 : List UInt8 := dkwX4_attend_0 ++ dktX4_attend_1
theorem dksX4_attend_0 : cX4_attend.data.toList.drop 0 = dktX4_attend_0 := by decide +kernel
theorem dksX4_attend_1 : cX4_attend.data.toList.drop 23 = dktX4_attend_1 := dk_seg dksX4_attend_0 23 rfl rfl
theorem dksX4_attend_2 : cX4_attend.data.toList.drop 47 = dktX4_attend_2 := dk_seg dksX4_attend_1 24 rfl rfl
theorem dksX4_attend_3 : cX4_attend.data.toList.drop 71 = dktX4_attend_3 := dk_seg dksX4_attend_2 24 rfl rfl
theorem dX4_attend_0 : decode cX4_attend 0 = .ok (.aload_n 0, 1) := dk_42 (dk_at dksX4_attend_0 0 rfl rfl)
theorem dX4_attend_1 : decode cX4_attend 1 = .ok (.iconst 0, 1) := dk_3 (dk_at dksX4_attend_0 1 rfl rfl)
theorem dX4_attend_2 : decode cX4_attend 2 = .ok (.putfield 1, 3) := dk_181 0 1 (dk_at dksX4_attend_0 2 rfl rfl)
theorem dX4_attend_5 : decode cX4_attend 5 = .ok (.aload_n 0, 1) := dk_42 (dk_at dksX4_attend_0 5 rfl rfl)
theorem dX4_attend_6 : decode cX4_attend 6 = .ok (.iload_n 1, 1) := dk_27 (dk_at dksX4_attend_0 6 rfl rfl)
theorem dX4_attend_7 : decode cX4_attend 7 = .ok (.invokevirtual 147, 3) := dk_182 0 147 (dk_at dksX4_attend_0 7 rfl rfl)
theorem dX4_attend_10 : decode cX4_attend 10 = .ok (.ifCond .eq 16, 3) := dk_153 0 16 (dk_at dksX4_attend_0 10 rfl rfl)
theorem dX4_attend_13 : decode cX4_attend 13 = .ok (.iload_n 2, 1) := dk_28 (dk_at dksX4_attend_0 13 rfl rfl)
theorem dX4_attend_14 : decode cX4_attend 14 = .ok (.iconst (-1), 1) := dk_2 (dk_at dksX4_attend_0 14 rfl rfl)
theorem dX4_attend_15 : decode cX4_attend 15 = .ok (.if_icmp .eq 17, 3) := dk_159 0 17 (dk_at dksX4_attend_0 15 rfl rfl)
theorem dX4_attend_18 : decode cX4_attend 18 = .ok (.aload_n 0, 1) := dk_42 (dk_at dksX4_attend_0 18 rfl rfl)
theorem dX4_attend_19 : decode cX4_attend 19 = .ok (.iload_n 2, 1) := dk_28 (dk_at dksX4_attend_0 19 rfl rfl)
theorem dX4_attend_20 : decode cX4_attend 20 = .ok (.invokevirtual 153, 3) := dk_182 0 153 (dk_at dksX4_attend_0 20 rfl rfl)
theorem dX4_attend_23 : decode cX4_attend 23 = .ok (.ifCond .ne 9, 3) := dk_154 0 9 (dk_at dksX4_attend_1 0 rfl rfl)
theorem dX4_attend_26 : decode cX4_attend 26 = .ok (.aload_n 0, 1) := dk_42 (dk_at dksX4_attend_1 3 rfl rfl)
theorem dX4_attend_27 : decode cX4_attend 27 = .ok (.iconst 1, 1) := dk_4 (dk_at dksX4_attend_1 4 rfl rfl)
theorem dX4_attend_28 : decode cX4_attend 28 = .ok (.invokevirtual 144, 3) := dk_182 0 144 (dk_at dksX4_attend_1 5 rfl rfl)
theorem dX4_attend_31 : decode cX4_attend 31 = .ok (.ireturn, 1) := dk_172 (dk_at dksX4_attend_1 8 rfl rfl)
theorem dX4_attend_32 : decode cX4_attend 32 = .ok (.iload_n 3, 1) := dk_29 (dk_at dksX4_attend_1 9 rfl rfl)
theorem dX4_attend_33 : decode cX4_attend 33 = .ok (.iload 4, 2) := dk_21 4 (dk_at dksX4_attend_1 10 rfl rfl)
theorem dX4_attend_35 : decode cX4_attend 35 = .ok (.invokestatic 150, 3) := dk_184 0 150 (dk_at dksX4_attend_1 12 rfl rfl)
theorem dX4_attend_38 : decode cX4_attend 38 = .ok (.ifCond .ne 9, 3) := dk_154 0 9 (dk_at dksX4_attend_1 15 rfl rfl)
theorem dX4_attend_41 : decode cX4_attend 41 = .ok (.aload_n 0, 1) := dk_42 (dk_at dksX4_attend_1 18 rfl rfl)
theorem dX4_attend_42 : decode cX4_attend 42 = .ok (.iconst 2, 1) := dk_5 (dk_at dksX4_attend_1 19 rfl rfl)
theorem dX4_attend_43 : decode cX4_attend 43 = .ok (.invokevirtual 144, 3) := dk_182 0 144 (dk_at dksX4_attend_1 20 rfl rfl)
theorem dX4_attend_46 : decode cX4_attend 46 = .ok (.ireturn, 1) := dk_172 (dk_at dksX4_attend_1 23 rfl rfl)
theorem dX4_attend_47 : decode cX4_attend 47 = .ok (.iload_n 3, 1) := dk_29 (dk_at dksX4_attend_2 0 rfl rfl)
theorem dX4_attend_48 : decode cX4_attend 48 = .ok (.istore 5, 2) := dk_54 5 (dk_at dksX4_attend_2 1 rfl rfl)
theorem dX4_attend_50 : decode cX4_attend 50 = .ok (.iload 5, 2) := dk_21 5 (dk_at dksX4_attend_2 3 rfl rfl)
theorem dX4_attend_52 : decode cX4_attend 52 = .ok (.iload 4, 2) := dk_21 4 (dk_at dksX4_attend_2 5 rfl rfl)
theorem dX4_attend_54 : decode cX4_attend 54 = .ok (.if_icmp .gt 25, 3) := dk_163 0 25 (dk_at dksX4_attend_2 7 rfl rfl)
theorem dX4_attend_57 : decode cX4_attend 57 = .ok (.aload_n 0, 1) := dk_42 (dk_at dksX4_attend_2 10 rfl rfl)
theorem dX4_attend_58 : decode cX4_attend 58 = .ok (.getfield 17, 3) := dk_180 0 17 (dk_at dksX4_attend_2 11 rfl rfl)
theorem dX4_attend_61 : decode cX4_attend 61 = .ok (.bipush 120, 2) := dk_16 120 (dk_at dksX4_attend_2 14 rfl rfl)
theorem dX4_attend_63 : decode cX4_attend 63 = .ok (.bipush 100, 2) := dk_16 100 (dk_at dksX4_attend_2 16 rfl rfl)
theorem dX4_attend_65 : decode cX4_attend 65 = .ok (.iload_n 1, 1) := dk_27 (dk_at dksX4_attend_2 18 rfl rfl)
theorem dX4_attend_66 : decode cX4_attend 66 = .ok (.imul, 1) := dk_104 (dk_at dksX4_attend_2 19 rfl rfl)
theorem dX4_attend_67 : decode cX4_attend 67 = .ok (.iadd, 1) := dk_96 (dk_at dksX4_attend_2 20 rfl rfl)
theorem dX4_attend_68 : decode cX4_attend 68 = .ok (.iload 5, 2) := dk_21 5 (dk_at dksX4_attend_2 21 rfl rfl)
theorem dX4_attend_70 : decode cX4_attend 70 = .ok (.iadd, 1) := dk_96 (dk_at dksX4_attend_2 23 rfl rfl)
theorem dX4_attend_71 : decode cX4_attend 71 = .ok (.iload_n 2, 1) := dk_28 (dk_at dksX4_attend_3 0 rfl rfl)
theorem dX4_attend_72 : decode cX4_attend 72 = .ok (.iastore, 1) := dk_79 (dk_at dksX4_attend_3 1 rfl rfl)
theorem dX4_attend_73 : decode cX4_attend 73 = .ok (.iinc 5 1, 3) := dk_132 5 1 (dk_at dksX4_attend_3 2 rfl rfl)
theorem dX4_attend_76 : decode cX4_attend 76 = .ok (.goto (-26), 3) := dk_167 255 230 (dk_at dksX4_attend_3 5 rfl rfl)
theorem dX4_attend_79 : decode cX4_attend 79 = .ok (.iconst 1, 1) := dk_4 (dk_at dksX4_attend_3 8 rfl rfl)
theorem dX4_attend_80 : decode cX4_attend 80 = .ok (.ireturn, 1) := dk_172 (dk_at dksX4_attend_3 9 rfl rfl)
abbrev cX4_isSpot : ByteArray := prog_26_method_11_code
def yX4_isSpot : MethodName := ⟨RX4, "isSpot", "(I)Z"⟩
def dkwX4_isSpot_0 : List UInt8 := [27, 155, 0, 15, 27, 42, 180, 0, 24, 163, 0, 7, 4, 167, 0, 4, 3, 172]
abbrev dktX4_isSpot_0 : List UInt8 := dkwX4_isSpot_0 ++ []
theorem dksX4_isSpot_0 : cX4_isSpot.data.toList.drop 0 = dktX4_isSpot_0 := by decide +kernel
theorem dX4_isSpot_0 : decode cX4_isSpot 0 = .ok (.iload_n 1, 1) := dk_27 (dk_at dksX4_isSpot_0 0 rfl rfl)
theorem dX4_isSpot_1 : decode cX4_isSpot 1 = .ok (.ifCond .lt 15, 3) := dk_155 0 15 (dk_at dksX4_isSpot_0 1 rfl rfl)
theorem dX4_isSpot_4 : decode cX4_isSpot 4 = .ok (.iload_n 1, 1) := dk_27 (dk_at dksX4_isSpot_0 4 rfl rfl)
theorem dX4_isSpot_5 : decode cX4_isSpot 5 = .ok (.aload_n 0, 1) := dk_42 (dk_at dksX4_isSpot_0 5 rfl rfl)
theorem dX4_isSpot_6 : decode cX4_isSpot 6 = .ok (.getfield 24, 3) := dk_180 0 24 (dk_at dksX4_isSpot_0 6 rfl rfl)
theorem dX4_isSpot_9 : decode cX4_isSpot 9 = .ok (.if_icmp .gt 7, 3) := dk_163 0 7 (dk_at dksX4_isSpot_0 9 rfl rfl)
theorem dX4_isSpot_12 : decode cX4_isSpot 12 = .ok (.iconst 1, 1) := dk_4 (dk_at dksX4_isSpot_0 12 rfl rfl)
theorem dX4_isSpot_13 : decode cX4_isSpot 13 = .ok (.goto 4, 3) := dk_167 0 4 (dk_at dksX4_isSpot_0 13 rfl rfl)
theorem dX4_isSpot_16 : decode cX4_isSpot 16 = .ok (.iconst 0, 1) := dk_3 (dk_at dksX4_isSpot_0 16 rfl rfl)
theorem dX4_isSpot_17 : decode cX4_isSpot 17 = .ok (.ireturn, 1) := dk_172 (dk_at dksX4_isSpot_0 17 rfl rfl)
abbrev cX4_lead : ByteArray := prog_26_method_20_code
def yX4_lead : MethodName := ⟨RX4, "lead", "(IIII)I"⟩
def dkwX4_lead_6 : List UInt8 := [100, 172]
abbrev dktX4_lead_6 : List UInt8 := dkwX4_lead_6 ++ []
def dkwX4_lead_5 : List UInt8 := [21, 4, 79, 42, 180, 0, 17, 17, 19, 16, 92, 46, 4, 96, 79, 42, 180, 0, 17, 17, 19, 16, 46, 4]
abbrev dktX4_lead_5 : List UInt8 := dkwX4_lead_5 ++ dktX4_lead_6
def dkwX4_lead_4 : List UInt8 := [21, 5, 4, 96, 28, 79, 42, 180, 0, 17, 21, 5, 5, 96, 29, 79, 42, 180, 0, 17, 21, 5, 6, 96]
abbrev dktX4_lead_4 : List UInt8 := dkwX4_lead_4 ++ dktX4_lead_5
def dkwX4_lead_3 : List UInt8 := [180, 0, 17, 17, 19, 16, 46, 104, 96, 54, 5, 42, 180, 0, 17, 21, 5, 27, 79, 42, 180, 0, 17]
abbrev dktX4_lead_3 : List UInt8 := dkwX4_lead_3 ++ dktX4_lead_4
def dkwX4_lead_2 : List UInt8 := [42, 180, 0, 17, 17, 19, 16, 46, 16, 12, 160, 0, 9, 42, 6, 182, 0, 156, 172, 17, 3, 252, 7, 42]
abbrev dktX4_lead_2 : List UInt8 := dkwX4_lead_2 ++ dktX4_lead_3
def dkwX4_lead_1 : List UInt8 := [20, 0, 138, 184, 0, 140, 153, 0, 12, 29, 21, 4, 184, 0, 150, 154, 0, 9, 42, 5, 182, 0, 156, 172]
abbrev dktX4_lead_1 : List UInt8 := dkwX4_lead_1 ++ dktX4_lead_2
def dkwX4_lead_0 : List UInt8 := [42, 3, 181, 0, 1, 42, 27, 182, 0, 153, 154, 0, 9, 42, 4, 182, 0, 156, 172, 28, 133, 10]
abbrev dktX4_lead_0 : List UInt8 := dkwX4_lead_0 ++ dktX4_lead_1
theorem dksX4_lead_0 : cX4_lead.data.toList.drop 0 = dktX4_lead_0 := by decide +kernel
theorem dksX4_lead_1 : cX4_lead.data.toList.drop 22 = dktX4_lead_1 := dk_seg dksX4_lead_0 22 rfl rfl
theorem dksX4_lead_2 : cX4_lead.data.toList.drop 46 = dktX4_lead_2 := dk_seg dksX4_lead_1 24 rfl rfl
theorem dksX4_lead_3 : cX4_lead.data.toList.drop 70 = dktX4_lead_3 := dk_seg dksX4_lead_2 24 rfl rfl
theorem dksX4_lead_4 : cX4_lead.data.toList.drop 93 = dktX4_lead_4 := dk_seg dksX4_lead_3 23 rfl rfl
theorem dksX4_lead_5 : cX4_lead.data.toList.drop 117 = dktX4_lead_5 := dk_seg dksX4_lead_4 24 rfl rfl
theorem dksX4_lead_6 : cX4_lead.data.toList.drop 141 = dktX4_lead_6 := dk_seg dksX4_lead_5 24 rfl rfl
theorem dX4_lead_0 : decode cX4_lead 0 = .ok (.aload_n 0, 1) := dk_42 (dk_at dksX4_lead_0 0 rfl rfl)
theorem dX4_lead_1 : decode cX4_lead 1 = .ok (.iconst 0, 1) := dk_3 (dk_at dksX4_lead_0 1 rfl rfl)
theorem dX4_lead_2 : decode cX4_lead 2 = .ok (.putfield 1, 3) := dk_181 0 1 (dk_at dksX4_lead_0 2 rfl rfl)
theorem dX4_lead_5 : decode cX4_lead 5 = .ok (.aload_n 0, 1) := dk_42 (dk_at dksX4_lead_0 5 rfl rfl)
theorem dX4_lead_6 : decode cX4_lead 6 = .ok (.iload_n 1, 1) := dk_27 (dk_at dksX4_lead_0 6 rfl rfl)
theorem dX4_lead_7 : decode cX4_lead 7 = .ok (.invokevirtual 153, 3) := dk_182 0 153 (dk_at dksX4_lead_0 7 rfl rfl)
theorem dX4_lead_10 : decode cX4_lead 10 = .ok (.ifCond .ne 9, 3) := dk_154 0 9 (dk_at dksX4_lead_0 10 rfl rfl)
theorem dX4_lead_13 : decode cX4_lead 13 = .ok (.aload_n 0, 1) := dk_42 (dk_at dksX4_lead_0 13 rfl rfl)
theorem dX4_lead_14 : decode cX4_lead 14 = .ok (.iconst 1, 1) := dk_4 (dk_at dksX4_lead_0 14 rfl rfl)
theorem dX4_lead_15 : decode cX4_lead 15 = .ok (.invokevirtual 156, 3) := dk_182 0 156 (dk_at dksX4_lead_0 15 rfl rfl)
theorem dX4_lead_18 : decode cX4_lead 18 = .ok (.ireturn, 1) := dk_172 (dk_at dksX4_lead_0 18 rfl rfl)
theorem dX4_lead_19 : decode cX4_lead 19 = .ok (.iload_n 2, 1) := dk_28 (dk_at dksX4_lead_0 19 rfl rfl)
theorem dX4_lead_20 : decode cX4_lead 20 = .ok (.i2l, 1) := dk_133 (dk_at dksX4_lead_0 20 rfl rfl)
theorem dX4_lead_21 : decode cX4_lead 21 = .ok (.lconst 1, 1) := dk_10 (dk_at dksX4_lead_0 21 rfl rfl)
theorem dX4_lead_22 : decode cX4_lead 22 = .ok (.ldc2_w 138, 3) := dk_20 0 138 (dk_at dksX4_lead_1 0 rfl rfl)
theorem dX4_lead_25 : decode cX4_lead 25 = .ok (.invokestatic 140, 3) := dk_184 0 140 (dk_at dksX4_lead_1 3 rfl rfl)
theorem dX4_lead_28 : decode cX4_lead 28 = .ok (.ifCond .eq 12, 3) := dk_153 0 12 (dk_at dksX4_lead_1 6 rfl rfl)
theorem dX4_lead_31 : decode cX4_lead 31 = .ok (.iload_n 3, 1) := dk_29 (dk_at dksX4_lead_1 9 rfl rfl)
theorem dX4_lead_32 : decode cX4_lead 32 = .ok (.iload 4, 2) := dk_21 4 (dk_at dksX4_lead_1 10 rfl rfl)
theorem dX4_lead_34 : decode cX4_lead 34 = .ok (.invokestatic 150, 3) := dk_184 0 150 (dk_at dksX4_lead_1 12 rfl rfl)
theorem dX4_lead_37 : decode cX4_lead 37 = .ok (.ifCond .ne 9, 3) := dk_154 0 9 (dk_at dksX4_lead_1 15 rfl rfl)
theorem dX4_lead_40 : decode cX4_lead 40 = .ok (.aload_n 0, 1) := dk_42 (dk_at dksX4_lead_1 18 rfl rfl)
theorem dX4_lead_41 : decode cX4_lead 41 = .ok (.iconst 2, 1) := dk_5 (dk_at dksX4_lead_1 19 rfl rfl)
theorem dX4_lead_42 : decode cX4_lead 42 = .ok (.invokevirtual 156, 3) := dk_182 0 156 (dk_at dksX4_lead_1 20 rfl rfl)
theorem dX4_lead_45 : decode cX4_lead 45 = .ok (.ireturn, 1) := dk_172 (dk_at dksX4_lead_1 23 rfl rfl)
theorem dX4_lead_46 : decode cX4_lead 46 = .ok (.aload_n 0, 1) := dk_42 (dk_at dksX4_lead_2 0 rfl rfl)
theorem dX4_lead_47 : decode cX4_lead 47 = .ok (.getfield 17, 3) := dk_180 0 17 (dk_at dksX4_lead_2 1 rfl rfl)
theorem dX4_lead_50 : decode cX4_lead 50 = .ok (.sipush 4880, 3) := dk_17 19 16 (dk_at dksX4_lead_2 4 rfl rfl)
theorem dX4_lead_53 : decode cX4_lead 53 = .ok (.iaload, 1) := dk_46 (dk_at dksX4_lead_2 7 rfl rfl)
theorem dX4_lead_54 : decode cX4_lead 54 = .ok (.bipush 12, 2) := dk_16 12 (dk_at dksX4_lead_2 8 rfl rfl)
theorem dX4_lead_56 : decode cX4_lead 56 = .ok (.if_icmp .ne 9, 3) := dk_160 0 9 (dk_at dksX4_lead_2 10 rfl rfl)
theorem dX4_lead_59 : decode cX4_lead 59 = .ok (.aload_n 0, 1) := dk_42 (dk_at dksX4_lead_2 13 rfl rfl)
theorem dX4_lead_60 : decode cX4_lead 60 = .ok (.iconst 3, 1) := dk_6 (dk_at dksX4_lead_2 14 rfl rfl)
theorem dX4_lead_61 : decode cX4_lead 61 = .ok (.invokevirtual 156, 3) := dk_182 0 156 (dk_at dksX4_lead_2 15 rfl rfl)
theorem dX4_lead_64 : decode cX4_lead 64 = .ok (.ireturn, 1) := dk_172 (dk_at dksX4_lead_2 18 rfl rfl)
theorem dX4_lead_65 : decode cX4_lead 65 = .ok (.sipush 1020, 3) := dk_17 3 252 (dk_at dksX4_lead_2 19 rfl rfl)
theorem dX4_lead_68 : decode cX4_lead 68 = .ok (.iconst 4, 1) := dk_7 (dk_at dksX4_lead_2 22 rfl rfl)
theorem dX4_lead_69 : decode cX4_lead 69 = .ok (.aload_n 0, 1) := dk_42 (dk_at dksX4_lead_2 23 rfl rfl)
theorem dX4_lead_70 : decode cX4_lead 70 = .ok (.getfield 17, 3) := dk_180 0 17 (dk_at dksX4_lead_3 0 rfl rfl)
theorem dX4_lead_73 : decode cX4_lead 73 = .ok (.sipush 4880, 3) := dk_17 19 16 (dk_at dksX4_lead_3 3 rfl rfl)
theorem dX4_lead_76 : decode cX4_lead 76 = .ok (.iaload, 1) := dk_46 (dk_at dksX4_lead_3 6 rfl rfl)
theorem dX4_lead_77 : decode cX4_lead 77 = .ok (.imul, 1) := dk_104 (dk_at dksX4_lead_3 7 rfl rfl)
theorem dX4_lead_78 : decode cX4_lead 78 = .ok (.iadd, 1) := dk_96 (dk_at dksX4_lead_3 8 rfl rfl)
theorem dX4_lead_79 : decode cX4_lead 79 = .ok (.istore 5, 2) := dk_54 5 (dk_at dksX4_lead_3 9 rfl rfl)
theorem dX4_lead_81 : decode cX4_lead 81 = .ok (.aload_n 0, 1) := dk_42 (dk_at dksX4_lead_3 11 rfl rfl)
theorem dX4_lead_82 : decode cX4_lead 82 = .ok (.getfield 17, 3) := dk_180 0 17 (dk_at dksX4_lead_3 12 rfl rfl)
theorem dX4_lead_85 : decode cX4_lead 85 = .ok (.iload 5, 2) := dk_21 5 (dk_at dksX4_lead_3 15 rfl rfl)
theorem dX4_lead_87 : decode cX4_lead 87 = .ok (.iload_n 1, 1) := dk_27 (dk_at dksX4_lead_3 17 rfl rfl)
theorem dX4_lead_88 : decode cX4_lead 88 = .ok (.iastore, 1) := dk_79 (dk_at dksX4_lead_3 18 rfl rfl)
theorem dX4_lead_89 : decode cX4_lead 89 = .ok (.aload_n 0, 1) := dk_42 (dk_at dksX4_lead_3 19 rfl rfl)
theorem dX4_lead_90 : decode cX4_lead 90 = .ok (.getfield 17, 3) := dk_180 0 17 (dk_at dksX4_lead_3 20 rfl rfl)
theorem dX4_lead_93 : decode cX4_lead 93 = .ok (.iload 5, 2) := dk_21 5 (dk_at dksX4_lead_4 0 rfl rfl)
theorem dX4_lead_95 : decode cX4_lead 95 = .ok (.iconst 1, 1) := dk_4 (dk_at dksX4_lead_4 2 rfl rfl)
theorem dX4_lead_96 : decode cX4_lead 96 = .ok (.iadd, 1) := dk_96 (dk_at dksX4_lead_4 3 rfl rfl)
theorem dX4_lead_97 : decode cX4_lead 97 = .ok (.iload_n 2, 1) := dk_28 (dk_at dksX4_lead_4 4 rfl rfl)
theorem dX4_lead_98 : decode cX4_lead 98 = .ok (.iastore, 1) := dk_79 (dk_at dksX4_lead_4 5 rfl rfl)
theorem dX4_lead_99 : decode cX4_lead 99 = .ok (.aload_n 0, 1) := dk_42 (dk_at dksX4_lead_4 6 rfl rfl)
theorem dX4_lead_100 : decode cX4_lead 100 = .ok (.getfield 17, 3) := dk_180 0 17 (dk_at dksX4_lead_4 7 rfl rfl)
theorem dX4_lead_103 : decode cX4_lead 103 = .ok (.iload 5, 2) := dk_21 5 (dk_at dksX4_lead_4 10 rfl rfl)
theorem dX4_lead_105 : decode cX4_lead 105 = .ok (.iconst 2, 1) := dk_5 (dk_at dksX4_lead_4 12 rfl rfl)
theorem dX4_lead_106 : decode cX4_lead 106 = .ok (.iadd, 1) := dk_96 (dk_at dksX4_lead_4 13 rfl rfl)
theorem dX4_lead_107 : decode cX4_lead 107 = .ok (.iload_n 3, 1) := dk_29 (dk_at dksX4_lead_4 14 rfl rfl)
theorem dX4_lead_108 : decode cX4_lead 108 = .ok (.iastore, 1) := dk_79 (dk_at dksX4_lead_4 15 rfl rfl)
theorem dX4_lead_109 : decode cX4_lead 109 = .ok (.aload_n 0, 1) := dk_42 (dk_at dksX4_lead_4 16 rfl rfl)
theorem dX4_lead_110 : decode cX4_lead 110 = .ok (.getfield 17, 3) := dk_180 0 17 (dk_at dksX4_lead_4 17 rfl rfl)
theorem dX4_lead_113 : decode cX4_lead 113 = .ok (.iload 5, 2) := dk_21 5 (dk_at dksX4_lead_4 20 rfl rfl)
theorem dX4_lead_115 : decode cX4_lead 115 = .ok (.iconst 3, 1) := dk_6 (dk_at dksX4_lead_4 22 rfl rfl)
theorem dX4_lead_116 : decode cX4_lead 116 = .ok (.iadd, 1) := dk_96 (dk_at dksX4_lead_4 23 rfl rfl)
theorem dX4_lead_117 : decode cX4_lead 117 = .ok (.iload 4, 2) := dk_21 4 (dk_at dksX4_lead_5 0 rfl rfl)
theorem dX4_lead_119 : decode cX4_lead 119 = .ok (.iastore, 1) := dk_79 (dk_at dksX4_lead_5 2 rfl rfl)
theorem dX4_lead_120 : decode cX4_lead 120 = .ok (.aload_n 0, 1) := dk_42 (dk_at dksX4_lead_5 3 rfl rfl)
theorem dX4_lead_121 : decode cX4_lead 121 = .ok (.getfield 17, 3) := dk_180 0 17 (dk_at dksX4_lead_5 4 rfl rfl)
theorem dX4_lead_124 : decode cX4_lead 124 = .ok (.sipush 4880, 3) := dk_17 19 16 (dk_at dksX4_lead_5 7 rfl rfl)
theorem dX4_lead_127 : decode cX4_lead 127 = .ok (.dup2, 1) := dk_92 (dk_at dksX4_lead_5 10 rfl rfl)
theorem dX4_lead_128 : decode cX4_lead 128 = .ok (.iaload, 1) := dk_46 (dk_at dksX4_lead_5 11 rfl rfl)
theorem dX4_lead_129 : decode cX4_lead 129 = .ok (.iconst 1, 1) := dk_4 (dk_at dksX4_lead_5 12 rfl rfl)
theorem dX4_lead_130 : decode cX4_lead 130 = .ok (.iadd, 1) := dk_96 (dk_at dksX4_lead_5 13 rfl rfl)
theorem dX4_lead_131 : decode cX4_lead 131 = .ok (.iastore, 1) := dk_79 (dk_at dksX4_lead_5 14 rfl rfl)
theorem dX4_lead_132 : decode cX4_lead 132 = .ok (.aload_n 0, 1) := dk_42 (dk_at dksX4_lead_5 15 rfl rfl)
theorem dX4_lead_133 : decode cX4_lead 133 = .ok (.getfield 17, 3) := dk_180 0 17 (dk_at dksX4_lead_5 16 rfl rfl)
theorem dX4_lead_136 : decode cX4_lead 136 = .ok (.sipush 4880, 3) := dk_17 19 16 (dk_at dksX4_lead_5 19 rfl rfl)
theorem dX4_lead_139 : decode cX4_lead 139 = .ok (.iaload, 1) := dk_46 (dk_at dksX4_lead_5 22 rfl rfl)
theorem dX4_lead_140 : decode cX4_lead 140 = .ok (.iconst 1, 1) := dk_4 (dk_at dksX4_lead_5 23 rfl rfl)
theorem dX4_lead_141 : decode cX4_lead 141 = .ok (.isub, 1) := dk_100 (dk_at dksX4_lead_6 0 rfl rfl)
theorem dX4_lead_142 : decode cX4_lead 142 = .ok (.ireturn, 1) := dk_172 (dk_at dksX4_lead_6 1 rfl rfl)
abbrev cX4_refuse : ByteArray := prog_26_method_5_code
def yX4_refuse : MethodName := ⟨RX4, "refuse", "(I)I"⟩
def dkwX4_refuse_0 : List UInt8 := [42, 180, 0, 7, 27, 92, 46, 4, 96, 79, 2, 172]
abbrev dktX4_refuse_0 : List UInt8 := dkwX4_refuse_0 ++ []
theorem dksX4_refuse_0 : cX4_refuse.data.toList.drop 0 = dktX4_refuse_0 := by decide +kernel
theorem dX4_refuse_0 : decode cX4_refuse 0 = .ok (.aload_n 0, 1) := dk_42 (dk_at dksX4_refuse_0 0 rfl rfl)
theorem dX4_refuse_1 : decode cX4_refuse 1 = .ok (.getfield 7, 3) := dk_180 0 7 (dk_at dksX4_refuse_0 1 rfl rfl)
theorem dX4_refuse_4 : decode cX4_refuse 4 = .ok (.iload_n 1, 1) := dk_27 (dk_at dksX4_refuse_0 4 rfl rfl)
theorem dX4_refuse_5 : decode cX4_refuse 5 = .ok (.dup2, 1) := dk_92 (dk_at dksX4_refuse_0 5 rfl rfl)
theorem dX4_refuse_6 : decode cX4_refuse 6 = .ok (.iaload, 1) := dk_46 (dk_at dksX4_refuse_0 6 rfl rfl)
theorem dX4_refuse_7 : decode cX4_refuse 7 = .ok (.iconst 1, 1) := dk_4 (dk_at dksX4_refuse_0 7 rfl rfl)
theorem dX4_refuse_8 : decode cX4_refuse 8 = .ok (.iadd, 1) := dk_96 (dk_at dksX4_refuse_0 8 rfl rfl)
theorem dX4_refuse_9 : decode cX4_refuse 9 = .ok (.iastore, 1) := dk_79 (dk_at dksX4_refuse_0 9 rfl rfl)
theorem dX4_refuse_10 : decode cX4_refuse 10 = .ok (.iconst (-1), 1) := dk_2 (dk_at dksX4_refuse_0 10 rfl rfl)
theorem dX4_refuse_11 : decode cX4_refuse 11 = .ok (.ireturn, 1) := dk_172 (dk_at dksX4_refuse_0 11 rfl rfl)
abbrev cX4_hold : ByteArray := prog_26_method_21_code
def yX4_hold : MethodName := ⟨RX4, "hold", "(IIIII)Z"⟩
def dkwX4_hold_6 : List UInt8 := [16, 100, 27, 104, 96, 21, 7, 96, 29, 79, 132, 7, 1, 167, 255, 212, 4, 172]
abbrev dktX4_hold_6 : List UInt8 := dkwX4_hold_6 ++ []
def dkwX4_hold_5 : List UInt8 := [180, 0, 17, 17, 4, 46, 16, 100, 27, 104, 96, 21, 7, 96, 28, 79, 42, 180, 0, 17, 17, 11, 54]
abbrev dktX4_hold_5 : List UInt8 := dkwX4_hold_5 ++ dktX4_hold_6
def dkwX4_hold_4 : List UInt8 := [108, 160, 0, 9, 42, 8, 182, 0, 144, 172, 21, 4, 54, 7, 21, 7, 21, 5, 163, 0, 43, 42]
abbrev dktX4_hold_4 : List UInt8 := dkwX4_hold_4 ++ dktX4_hold_5
def dkwX4_hold_3 : List UInt8 := [172, 21, 6, 154, 0, 31, 42, 27, 5, 108, 28, 5, 108, 182, 0, 132, 153, 0, 12, 29, 5, 108, 27, 5]
abbrev dktX4_hold_3 : List UInt8 := dkwX4_hold_3 ++ dktX4_hold_4
def dkwX4_hold_2 : List UInt8 := [154, 0, 9, 42, 4, 182, 0, 144, 172, 21, 4, 21, 5, 184, 0, 150, 154, 0, 9, 42, 5, 182, 0, 144]
abbrev dktX4_hold_2 : List UInt8 := dkwX4_hold_2 ++ dktX4_hold_3
def dkwX4_hold_1 : List UInt8 := [182, 0, 160, 153, 0, 24, 21, 6, 154, 0, 25, 42, 28, 182, 0, 160, 153, 0, 11, 42, 29, 182, 0, 160]
abbrev dktX4_hold_1 : List UInt8 := dkwX4_hold_1 ++ dktX4_hold_2
def dkwX4_hold_0 : List UInt8 := [42, 3, 181, 0, 1, 28, 2, 160, 0, 12, 29, 2, 160, 0, 7, 4, 167, 0, 4, 3, 54, 6, 42, 27]
abbrev dktX4_hold_0 : List UInt8 := dkwX4_hold_0 ++ dktX4_hold_1
theorem dksX4_hold_0 : cX4_hold.data.toList.drop 0 = dktX4_hold_0 := by decide +kernel
theorem dksX4_hold_1 : cX4_hold.data.toList.drop 24 = dktX4_hold_1 := dk_seg dksX4_hold_0 24 rfl rfl
theorem dksX4_hold_2 : cX4_hold.data.toList.drop 48 = dktX4_hold_2 := dk_seg dksX4_hold_1 24 rfl rfl
theorem dksX4_hold_3 : cX4_hold.data.toList.drop 72 = dktX4_hold_3 := dk_seg dksX4_hold_2 24 rfl rfl
theorem dksX4_hold_4 : cX4_hold.data.toList.drop 96 = dktX4_hold_4 := dk_seg dksX4_hold_3 24 rfl rfl
theorem dksX4_hold_5 : cX4_hold.data.toList.drop 118 = dktX4_hold_5 := dk_seg dksX4_hold_4 22 rfl rfl
theorem dksX4_hold_6 : cX4_hold.data.toList.drop 141 = dktX4_hold_6 := dk_seg dksX4_hold_5 23 rfl rfl
theorem dX4_hold_0 : decode cX4_hold 0 = .ok (.aload_n 0, 1) := dk_42 (dk_at dksX4_hold_0 0 rfl rfl)
theorem dX4_hold_1 : decode cX4_hold 1 = .ok (.iconst 0, 1) := dk_3 (dk_at dksX4_hold_0 1 rfl rfl)
theorem dX4_hold_2 : decode cX4_hold 2 = .ok (.putfield 1, 3) := dk_181 0 1 (dk_at dksX4_hold_0 2 rfl rfl)
theorem dX4_hold_5 : decode cX4_hold 5 = .ok (.iload_n 2, 1) := dk_28 (dk_at dksX4_hold_0 5 rfl rfl)
theorem dX4_hold_6 : decode cX4_hold 6 = .ok (.iconst (-1), 1) := dk_2 (dk_at dksX4_hold_0 6 rfl rfl)
theorem dX4_hold_7 : decode cX4_hold 7 = .ok (.if_icmp .ne 12, 3) := dk_160 0 12 (dk_at dksX4_hold_0 7 rfl rfl)
theorem dX4_hold_10 : decode cX4_hold 10 = .ok (.iload_n 3, 1) := dk_29 (dk_at dksX4_hold_0 10 rfl rfl)
theorem dX4_hold_11 : decode cX4_hold 11 = .ok (.iconst (-1), 1) := dk_2 (dk_at dksX4_hold_0 11 rfl rfl)
theorem dX4_hold_12 : decode cX4_hold 12 = .ok (.if_icmp .ne 7, 3) := dk_160 0 7 (dk_at dksX4_hold_0 12 rfl rfl)
theorem dX4_hold_15 : decode cX4_hold 15 = .ok (.iconst 1, 1) := dk_4 (dk_at dksX4_hold_0 15 rfl rfl)
theorem dX4_hold_16 : decode cX4_hold 16 = .ok (.goto 4, 3) := dk_167 0 4 (dk_at dksX4_hold_0 16 rfl rfl)
theorem dX4_hold_19 : decode cX4_hold 19 = .ok (.iconst 0, 1) := dk_3 (dk_at dksX4_hold_0 19 rfl rfl)
theorem dX4_hold_20 : decode cX4_hold 20 = .ok (.istore 6, 2) := dk_54 6 (dk_at dksX4_hold_0 20 rfl rfl)
theorem dX4_hold_22 : decode cX4_hold 22 = .ok (.aload_n 0, 1) := dk_42 (dk_at dksX4_hold_0 22 rfl rfl)
theorem dX4_hold_23 : decode cX4_hold 23 = .ok (.iload_n 1, 1) := dk_27 (dk_at dksX4_hold_0 23 rfl rfl)
theorem dX4_hold_24 : decode cX4_hold 24 = .ok (.invokevirtual 160, 3) := dk_182 0 160 (dk_at dksX4_hold_1 0 rfl rfl)
theorem dX4_hold_27 : decode cX4_hold 27 = .ok (.ifCond .eq 24, 3) := dk_153 0 24 (dk_at dksX4_hold_1 3 rfl rfl)
theorem dX4_hold_30 : decode cX4_hold 30 = .ok (.iload 6, 2) := dk_21 6 (dk_at dksX4_hold_1 6 rfl rfl)
theorem dX4_hold_32 : decode cX4_hold 32 = .ok (.ifCond .ne 25, 3) := dk_154 0 25 (dk_at dksX4_hold_1 8 rfl rfl)
theorem dX4_hold_35 : decode cX4_hold 35 = .ok (.aload_n 0, 1) := dk_42 (dk_at dksX4_hold_1 11 rfl rfl)
theorem dX4_hold_36 : decode cX4_hold 36 = .ok (.iload_n 2, 1) := dk_28 (dk_at dksX4_hold_1 12 rfl rfl)
theorem dX4_hold_37 : decode cX4_hold 37 = .ok (.invokevirtual 160, 3) := dk_182 0 160 (dk_at dksX4_hold_1 13 rfl rfl)
theorem dX4_hold_40 : decode cX4_hold 40 = .ok (.ifCond .eq 11, 3) := dk_153 0 11 (dk_at dksX4_hold_1 16 rfl rfl)
theorem dX4_hold_43 : decode cX4_hold 43 = .ok (.aload_n 0, 1) := dk_42 (dk_at dksX4_hold_1 19 rfl rfl)
theorem dX4_hold_44 : decode cX4_hold 44 = .ok (.iload_n 3, 1) := dk_29 (dk_at dksX4_hold_1 20 rfl rfl)
theorem dX4_hold_45 : decode cX4_hold 45 = .ok (.invokevirtual 160, 3) := dk_182 0 160 (dk_at dksX4_hold_1 21 rfl rfl)
theorem dX4_hold_48 : decode cX4_hold 48 = .ok (.ifCond .ne 9, 3) := dk_154 0 9 (dk_at dksX4_hold_2 0 rfl rfl)
theorem dX4_hold_51 : decode cX4_hold 51 = .ok (.aload_n 0, 1) := dk_42 (dk_at dksX4_hold_2 3 rfl rfl)
theorem dX4_hold_52 : decode cX4_hold 52 = .ok (.iconst 1, 1) := dk_4 (dk_at dksX4_hold_2 4 rfl rfl)
theorem dX4_hold_53 : decode cX4_hold 53 = .ok (.invokevirtual 144, 3) := dk_182 0 144 (dk_at dksX4_hold_2 5 rfl rfl)
theorem dX4_hold_56 : decode cX4_hold 56 = .ok (.ireturn, 1) := dk_172 (dk_at dksX4_hold_2 8 rfl rfl)
theorem dX4_hold_57 : decode cX4_hold 57 = .ok (.iload 4, 2) := dk_21 4 (dk_at dksX4_hold_2 9 rfl rfl)
theorem dX4_hold_59 : decode cX4_hold 59 = .ok (.iload 5, 2) := dk_21 5 (dk_at dksX4_hold_2 11 rfl rfl)
theorem dX4_hold_61 : decode cX4_hold 61 = .ok (.invokestatic 150, 3) := dk_184 0 150 (dk_at dksX4_hold_2 13 rfl rfl)
theorem dX4_hold_64 : decode cX4_hold 64 = .ok (.ifCond .ne 9, 3) := dk_154 0 9 (dk_at dksX4_hold_2 16 rfl rfl)
theorem dX4_hold_67 : decode cX4_hold 67 = .ok (.aload_n 0, 1) := dk_42 (dk_at dksX4_hold_2 19 rfl rfl)
theorem dX4_hold_68 : decode cX4_hold 68 = .ok (.iconst 2, 1) := dk_5 (dk_at dksX4_hold_2 20 rfl rfl)
theorem dX4_hold_69 : decode cX4_hold 69 = .ok (.invokevirtual 144, 3) := dk_182 0 144 (dk_at dksX4_hold_2 21 rfl rfl)
theorem dX4_hold_72 : decode cX4_hold 72 = .ok (.ireturn, 1) := dk_172 (dk_at dksX4_hold_3 0 rfl rfl)
theorem dX4_hold_73 : decode cX4_hold 73 = .ok (.iload 6, 2) := dk_21 6 (dk_at dksX4_hold_3 1 rfl rfl)
theorem dX4_hold_75 : decode cX4_hold 75 = .ok (.ifCond .ne 31, 3) := dk_154 0 31 (dk_at dksX4_hold_3 3 rfl rfl)
theorem dX4_hold_78 : decode cX4_hold 78 = .ok (.aload_n 0, 1) := dk_42 (dk_at dksX4_hold_3 6 rfl rfl)
theorem dX4_hold_79 : decode cX4_hold 79 = .ok (.iload_n 1, 1) := dk_27 (dk_at dksX4_hold_3 7 rfl rfl)
theorem dX4_hold_80 : decode cX4_hold 80 = .ok (.iconst 2, 1) := dk_5 (dk_at dksX4_hold_3 8 rfl rfl)
theorem dX4_hold_81 : decode cX4_hold 81 = .ok (.idiv, 1) := dk_108 (dk_at dksX4_hold_3 9 rfl rfl)
theorem dX4_hold_82 : decode cX4_hold 82 = .ok (.iload_n 2, 1) := dk_28 (dk_at dksX4_hold_3 10 rfl rfl)
theorem dX4_hold_83 : decode cX4_hold 83 = .ok (.iconst 2, 1) := dk_5 (dk_at dksX4_hold_3 11 rfl rfl)
theorem dX4_hold_84 : decode cX4_hold 84 = .ok (.idiv, 1) := dk_108 (dk_at dksX4_hold_3 12 rfl rfl)
theorem dX4_hold_85 : decode cX4_hold 85 = .ok (.invokevirtual 132, 3) := dk_182 0 132 (dk_at dksX4_hold_3 13 rfl rfl)
theorem dX4_hold_88 : decode cX4_hold 88 = .ok (.ifCond .eq 12, 3) := dk_153 0 12 (dk_at dksX4_hold_3 16 rfl rfl)
theorem dX4_hold_91 : decode cX4_hold 91 = .ok (.iload_n 3, 1) := dk_29 (dk_at dksX4_hold_3 19 rfl rfl)
theorem dX4_hold_92 : decode cX4_hold 92 = .ok (.iconst 2, 1) := dk_5 (dk_at dksX4_hold_3 20 rfl rfl)
theorem dX4_hold_93 : decode cX4_hold 93 = .ok (.idiv, 1) := dk_108 (dk_at dksX4_hold_3 21 rfl rfl)
theorem dX4_hold_94 : decode cX4_hold 94 = .ok (.iload_n 1, 1) := dk_27 (dk_at dksX4_hold_3 22 rfl rfl)
theorem dX4_hold_95 : decode cX4_hold 95 = .ok (.iconst 2, 1) := dk_5 (dk_at dksX4_hold_3 23 rfl rfl)
theorem dX4_hold_96 : decode cX4_hold 96 = .ok (.idiv, 1) := dk_108 (dk_at dksX4_hold_4 0 rfl rfl)
theorem dX4_hold_97 : decode cX4_hold 97 = .ok (.if_icmp .ne 9, 3) := dk_160 0 9 (dk_at dksX4_hold_4 1 rfl rfl)
theorem dX4_hold_100 : decode cX4_hold 100 = .ok (.aload_n 0, 1) := dk_42 (dk_at dksX4_hold_4 4 rfl rfl)
theorem dX4_hold_101 : decode cX4_hold 101 = .ok (.iconst 5, 1) := dk_8 (dk_at dksX4_hold_4 5 rfl rfl)
theorem dX4_hold_102 : decode cX4_hold 102 = .ok (.invokevirtual 144, 3) := dk_182 0 144 (dk_at dksX4_hold_4 6 rfl rfl)
theorem dX4_hold_105 : decode cX4_hold 105 = .ok (.ireturn, 1) := dk_172 (dk_at dksX4_hold_4 9 rfl rfl)
theorem dX4_hold_106 : decode cX4_hold 106 = .ok (.iload 4, 2) := dk_21 4 (dk_at dksX4_hold_4 10 rfl rfl)
theorem dX4_hold_108 : decode cX4_hold 108 = .ok (.istore 7, 2) := dk_54 7 (dk_at dksX4_hold_4 12 rfl rfl)
theorem dX4_hold_110 : decode cX4_hold 110 = .ok (.iload 7, 2) := dk_21 7 (dk_at dksX4_hold_4 14 rfl rfl)
theorem dX4_hold_112 : decode cX4_hold 112 = .ok (.iload 5, 2) := dk_21 5 (dk_at dksX4_hold_4 16 rfl rfl)
theorem dX4_hold_114 : decode cX4_hold 114 = .ok (.if_icmp .gt 43, 3) := dk_163 0 43 (dk_at dksX4_hold_4 18 rfl rfl)
theorem dX4_hold_117 : decode cX4_hold 117 = .ok (.aload_n 0, 1) := dk_42 (dk_at dksX4_hold_4 21 rfl rfl)
theorem dX4_hold_118 : decode cX4_hold 118 = .ok (.getfield 17, 3) := dk_180 0 17 (dk_at dksX4_hold_5 0 rfl rfl)
theorem dX4_hold_121 : decode cX4_hold 121 = .ok (.sipush 1070, 3) := dk_17 4 46 (dk_at dksX4_hold_5 3 rfl rfl)
theorem dX4_hold_124 : decode cX4_hold 124 = .ok (.bipush 100, 2) := dk_16 100 (dk_at dksX4_hold_5 6 rfl rfl)
theorem dX4_hold_126 : decode cX4_hold 126 = .ok (.iload_n 1, 1) := dk_27 (dk_at dksX4_hold_5 8 rfl rfl)
theorem dX4_hold_127 : decode cX4_hold 127 = .ok (.imul, 1) := dk_104 (dk_at dksX4_hold_5 9 rfl rfl)
theorem dX4_hold_128 : decode cX4_hold 128 = .ok (.iadd, 1) := dk_96 (dk_at dksX4_hold_5 10 rfl rfl)
theorem dX4_hold_129 : decode cX4_hold 129 = .ok (.iload 7, 2) := dk_21 7 (dk_at dksX4_hold_5 11 rfl rfl)
theorem dX4_hold_131 : decode cX4_hold 131 = .ok (.iadd, 1) := dk_96 (dk_at dksX4_hold_5 13 rfl rfl)
theorem dX4_hold_132 : decode cX4_hold 132 = .ok (.iload_n 2, 1) := dk_28 (dk_at dksX4_hold_5 14 rfl rfl)
theorem dX4_hold_133 : decode cX4_hold 133 = .ok (.iastore, 1) := dk_79 (dk_at dksX4_hold_5 15 rfl rfl)
theorem dX4_hold_134 : decode cX4_hold 134 = .ok (.aload_n 0, 1) := dk_42 (dk_at dksX4_hold_5 16 rfl rfl)
theorem dX4_hold_135 : decode cX4_hold 135 = .ok (.getfield 17, 3) := dk_180 0 17 (dk_at dksX4_hold_5 17 rfl rfl)
theorem dX4_hold_138 : decode cX4_hold 138 = .ok (.sipush 2870, 3) := dk_17 11 54 (dk_at dksX4_hold_5 20 rfl rfl)
theorem dX4_hold_141 : decode cX4_hold 141 = .ok (.bipush 100, 2) := dk_16 100 (dk_at dksX4_hold_6 0 rfl rfl)
theorem dX4_hold_143 : decode cX4_hold 143 = .ok (.iload_n 1, 1) := dk_27 (dk_at dksX4_hold_6 2 rfl rfl)
theorem dX4_hold_144 : decode cX4_hold 144 = .ok (.imul, 1) := dk_104 (dk_at dksX4_hold_6 3 rfl rfl)
theorem dX4_hold_145 : decode cX4_hold 145 = .ok (.iadd, 1) := dk_96 (dk_at dksX4_hold_6 4 rfl rfl)
theorem dX4_hold_146 : decode cX4_hold 146 = .ok (.iload 7, 2) := dk_21 7 (dk_at dksX4_hold_6 5 rfl rfl)
theorem dX4_hold_148 : decode cX4_hold 148 = .ok (.iadd, 1) := dk_96 (dk_at dksX4_hold_6 7 rfl rfl)
theorem dX4_hold_149 : decode cX4_hold 149 = .ok (.iload_n 3, 1) := dk_29 (dk_at dksX4_hold_6 8 rfl rfl)
theorem dX4_hold_150 : decode cX4_hold 150 = .ok (.iastore, 1) := dk_79 (dk_at dksX4_hold_6 9 rfl rfl)
theorem dX4_hold_151 : decode cX4_hold 151 = .ok (.iinc 7 1, 3) := dk_132 7 1 (dk_at dksX4_hold_6 10 rfl rfl)
theorem dX4_hold_154 : decode cX4_hold 154 = .ok (.goto (-44), 3) := dk_167 255 212 (dk_at dksX4_hold_6 13 rfl rfl)
theorem dX4_hold_157 : decode cX4_hold 157 = .ok (.iconst 1, 1) := dk_4 (dk_at dksX4_hold_6 16 rfl rfl)
theorem dX4_hold_158 : decode cX4_hold 158 = .ok (.ireturn, 1) := dk_172 (dk_at dksX4_hold_6 17 rfl rfl)
abbrev cX4_isHand : ByteArray := prog_26_method_10_code
def yX4_isHand : MethodName := ⟨RX4, "isHand", "(I)Z"⟩
def dkwX4_isHand_0 : List UInt8 := [27, 155, 0, 17, 27, 5, 42, 180, 0, 24, 104, 162, 0, 7, 4, 167, 0, 4, 3, 172]
abbrev dktX4_isHand_0 : List UInt8 := dkwX4_isHand_0 ++ []
theorem dksX4_isHand_0 : cX4_isHand.data.toList.drop 0 = dktX4_isHand_0 := by decide +kernel
theorem dX4_isHand_0 : decode cX4_isHand 0 = .ok (.iload_n 1, 1) := dk_27 (dk_at dksX4_isHand_0 0 rfl rfl)
theorem dX4_isHand_1 : decode cX4_isHand 1 = .ok (.ifCond .lt 17, 3) := dk_155 0 17 (dk_at dksX4_isHand_0 1 rfl rfl)
theorem dX4_isHand_4 : decode cX4_isHand 4 = .ok (.iload_n 1, 1) := dk_27 (dk_at dksX4_isHand_0 4 rfl rfl)
theorem dX4_isHand_5 : decode cX4_isHand 5 = .ok (.iconst 2, 1) := dk_5 (dk_at dksX4_isHand_0 5 rfl rfl)
theorem dX4_isHand_6 : decode cX4_isHand 6 = .ok (.aload_n 0, 1) := dk_42 (dk_at dksX4_isHand_0 6 rfl rfl)
theorem dX4_isHand_7 : decode cX4_isHand 7 = .ok (.getfield 24, 3) := dk_180 0 24 (dk_at dksX4_isHand_0 7 rfl rfl)
theorem dX4_isHand_10 : decode cX4_isHand 10 = .ok (.imul, 1) := dk_104 (dk_at dksX4_isHand_0 10 rfl rfl)
theorem dX4_isHand_11 : decode cX4_isHand 11 = .ok (.if_icmp .ge 7, 3) := dk_162 0 7 (dk_at dksX4_isHand_0 11 rfl rfl)
theorem dX4_isHand_14 : decode cX4_isHand 14 = .ok (.iconst 1, 1) := dk_4 (dk_at dksX4_isHand_0 14 rfl rfl)
theorem dX4_isHand_15 : decode cX4_isHand 15 = .ok (.goto 4, 3) := dk_167 0 4 (dk_at dksX4_isHand_0 15 rfl rfl)
theorem dX4_isHand_18 : decode cX4_isHand 18 = .ok (.iconst 0, 1) := dk_3 (dk_at dksX4_isHand_0 18 rfl rfl)
theorem dX4_isHand_19 : decode cX4_isHand 19 = .ok (.ireturn, 1) := dk_172 (dk_at dksX4_isHand_0 19 rfl rfl)
abbrev cX4_isBeside : ByteArray := prog_26_method_14_code
def yX4_isBeside : MethodName := ⟨RX4, "isBeside", "(II)Z"⟩
def dkwX4_isBeside_1 : List UInt8 := [4, 167, 0, 4, 3, 172]
abbrev dktX4_isBeside_1 : List UInt8 := dkwX4_isBeside_1 ++ []
def dkwX4_isBeside_0 : List UInt8 := [27, 4, 96, 42, 180, 0, 24, 112, 28, 159, 0, 15, 28, 4, 96, 42, 180, 0, 24, 112, 27, 160, 0, 7]
abbrev dktX4_isBeside_0 : List UInt8 := dkwX4_isBeside_0 ++ dktX4_isBeside_1
theorem dksX4_isBeside_0 : cX4_isBeside.data.toList.drop 0 = dktX4_isBeside_0 := by decide +kernel
theorem dksX4_isBeside_1 : cX4_isBeside.data.toList.drop 24 = dktX4_isBeside_1 := dk_seg dksX4_isBeside_0 24 rfl rfl
theorem dX4_isBeside_0 : decode cX4_isBeside 0 = .ok (.iload_n 1, 1) := dk_27 (dk_at dksX4_isBeside_0 0 rfl rfl)
theorem dX4_isBeside_1 : decode cX4_isBeside 1 = .ok (.iconst 1, 1) := dk_4 (dk_at dksX4_isBeside_0 1 rfl rfl)
theorem dX4_isBeside_2 : decode cX4_isBeside 2 = .ok (.iadd, 1) := dk_96 (dk_at dksX4_isBeside_0 2 rfl rfl)
theorem dX4_isBeside_3 : decode cX4_isBeside 3 = .ok (.aload_n 0, 1) := dk_42 (dk_at dksX4_isBeside_0 3 rfl rfl)
theorem dX4_isBeside_4 : decode cX4_isBeside 4 = .ok (.getfield 24, 3) := dk_180 0 24 (dk_at dksX4_isBeside_0 4 rfl rfl)
theorem dX4_isBeside_7 : decode cX4_isBeside 7 = .ok (.irem, 1) := dk_112 (dk_at dksX4_isBeside_0 7 rfl rfl)
theorem dX4_isBeside_8 : decode cX4_isBeside 8 = .ok (.iload_n 2, 1) := dk_28 (dk_at dksX4_isBeside_0 8 rfl rfl)
theorem dX4_isBeside_9 : decode cX4_isBeside 9 = .ok (.if_icmp .eq 15, 3) := dk_159 0 15 (dk_at dksX4_isBeside_0 9 rfl rfl)
theorem dX4_isBeside_12 : decode cX4_isBeside 12 = .ok (.iload_n 2, 1) := dk_28 (dk_at dksX4_isBeside_0 12 rfl rfl)
theorem dX4_isBeside_13 : decode cX4_isBeside 13 = .ok (.iconst 1, 1) := dk_4 (dk_at dksX4_isBeside_0 13 rfl rfl)
theorem dX4_isBeside_14 : decode cX4_isBeside 14 = .ok (.iadd, 1) := dk_96 (dk_at dksX4_isBeside_0 14 rfl rfl)
theorem dX4_isBeside_15 : decode cX4_isBeside 15 = .ok (.aload_n 0, 1) := dk_42 (dk_at dksX4_isBeside_0 15 rfl rfl)
theorem dX4_isBeside_16 : decode cX4_isBeside 16 = .ok (.getfield 24, 3) := dk_180 0 24 (dk_at dksX4_isBeside_0 16 rfl rfl)
theorem dX4_isBeside_19 : decode cX4_isBeside 19 = .ok (.irem, 1) := dk_112 (dk_at dksX4_isBeside_0 19 rfl rfl)
theorem dX4_isBeside_20 : decode cX4_isBeside 20 = .ok (.iload_n 1, 1) := dk_27 (dk_at dksX4_isBeside_0 20 rfl rfl)
theorem dX4_isBeside_21 : decode cX4_isBeside 21 = .ok (.if_icmp .ne 7, 3) := dk_160 0 7 (dk_at dksX4_isBeside_0 21 rfl rfl)
theorem dX4_isBeside_24 : decode cX4_isBeside 24 = .ok (.iconst 1, 1) := dk_4 (dk_at dksX4_isBeside_1 0 rfl rfl)
theorem dX4_isBeside_25 : decode cX4_isBeside 25 = .ok (.goto 4, 3) := dk_167 0 4 (dk_at dksX4_isBeside_1 1 rfl rfl)
theorem dX4_isBeside_28 : decode cX4_isBeside 28 = .ok (.iconst 0, 1) := dk_3 (dk_at dksX4_isBeside_1 4 rfl rfl)
theorem dX4_isBeside_29 : decode cX4_isBeside 29 = .ok (.ireturn, 1) := dk_172 (dk_at dksX4_isBeside_1 5 rfl rfl)
abbrev cX4_thing : ByteArray := prog_26_method_22_code
def yX4_thing : MethodName := ⟨RX4, "thing", "(I)I"⟩
def dkwX4_thing_4 : List UInt8 := [100, 172]
abbrev dktX4_thing_4 : List UInt8 := dkwX4_thing_4 ++ []
def dkwX4_thing_3 : List UInt8 := [96, 27, 79, 42, 180, 0, 17, 17, 19, 17, 92, 46, 4, 96, 79, 42, 180, 0, 17, 17, 19, 17, 46, 4]
abbrev dktX4_thing_3 : List UInt8 := dkwX4_thing_3 ++ dktX4_thing_4
def dkwX4_thing_2 : List UInt8 := [158, 0, 9, 42, 8, 182, 0, 156, 172, 42, 180, 0, 17, 17, 18, 62, 42, 180, 0, 17, 17, 19, 17, 46]
abbrev dktX4_thing_2 : List UInt8 := dkwX4_thing_2 ++ dktX4_thing_3
def dkwX4_thing_1 : List UInt8 := [17, 19, 17, 46, 16, 8, 160, 0, 9, 42, 6, 182, 0, 156, 172, 42, 180, 0, 17, 17, 19, 18, 46]
abbrev dktX4_thing_1 : List UInt8 := dkwX4_thing_1 ++ dktX4_thing_2
def dkwX4_thing_0 : List UInt8 := [42, 3, 181, 0, 1, 42, 27, 182, 0, 153, 154, 0, 9, 42, 4, 182, 0, 156, 172, 42, 180, 0, 17]
abbrev dktX4_thing_0 : List UInt8 := dkwX4_thing_0 ++ dktX4_thing_1
theorem dksX4_thing_0 : cX4_thing.data.toList.drop 0 = dktX4_thing_0 := by decide +kernel
theorem dksX4_thing_1 : cX4_thing.data.toList.drop 23 = dktX4_thing_1 := dk_seg dksX4_thing_0 23 rfl rfl
theorem dksX4_thing_2 : cX4_thing.data.toList.drop 46 = dktX4_thing_2 := dk_seg dksX4_thing_1 23 rfl rfl
theorem dksX4_thing_3 : cX4_thing.data.toList.drop 70 = dktX4_thing_3 := dk_seg dksX4_thing_2 24 rfl rfl
theorem dksX4_thing_4 : cX4_thing.data.toList.drop 94 = dktX4_thing_4 := dk_seg dksX4_thing_3 24 rfl rfl
theorem dX4_thing_0 : decode cX4_thing 0 = .ok (.aload_n 0, 1) := dk_42 (dk_at dksX4_thing_0 0 rfl rfl)
theorem dX4_thing_1 : decode cX4_thing 1 = .ok (.iconst 0, 1) := dk_3 (dk_at dksX4_thing_0 1 rfl rfl)
theorem dX4_thing_2 : decode cX4_thing 2 = .ok (.putfield 1, 3) := dk_181 0 1 (dk_at dksX4_thing_0 2 rfl rfl)
theorem dX4_thing_5 : decode cX4_thing 5 = .ok (.aload_n 0, 1) := dk_42 (dk_at dksX4_thing_0 5 rfl rfl)
theorem dX4_thing_6 : decode cX4_thing 6 = .ok (.iload_n 1, 1) := dk_27 (dk_at dksX4_thing_0 6 rfl rfl)
theorem dX4_thing_7 : decode cX4_thing 7 = .ok (.invokevirtual 153, 3) := dk_182 0 153 (dk_at dksX4_thing_0 7 rfl rfl)
theorem dX4_thing_10 : decode cX4_thing 10 = .ok (.ifCond .ne 9, 3) := dk_154 0 9 (dk_at dksX4_thing_0 10 rfl rfl)
theorem dX4_thing_13 : decode cX4_thing 13 = .ok (.aload_n 0, 1) := dk_42 (dk_at dksX4_thing_0 13 rfl rfl)
theorem dX4_thing_14 : decode cX4_thing 14 = .ok (.iconst 1, 1) := dk_4 (dk_at dksX4_thing_0 14 rfl rfl)
theorem dX4_thing_15 : decode cX4_thing 15 = .ok (.invokevirtual 156, 3) := dk_182 0 156 (dk_at dksX4_thing_0 15 rfl rfl)
theorem dX4_thing_18 : decode cX4_thing 18 = .ok (.ireturn, 1) := dk_172 (dk_at dksX4_thing_0 18 rfl rfl)
theorem dX4_thing_19 : decode cX4_thing 19 = .ok (.aload_n 0, 1) := dk_42 (dk_at dksX4_thing_0 19 rfl rfl)
theorem dX4_thing_20 : decode cX4_thing 20 = .ok (.getfield 17, 3) := dk_180 0 17 (dk_at dksX4_thing_0 20 rfl rfl)
theorem dX4_thing_23 : decode cX4_thing 23 = .ok (.sipush 4881, 3) := dk_17 19 17 (dk_at dksX4_thing_1 0 rfl rfl)
theorem dX4_thing_26 : decode cX4_thing 26 = .ok (.iaload, 1) := dk_46 (dk_at dksX4_thing_1 3 rfl rfl)
theorem dX4_thing_27 : decode cX4_thing 27 = .ok (.bipush 8, 2) := dk_16 8 (dk_at dksX4_thing_1 4 rfl rfl)
theorem dX4_thing_29 : decode cX4_thing 29 = .ok (.if_icmp .ne 9, 3) := dk_160 0 9 (dk_at dksX4_thing_1 6 rfl rfl)
theorem dX4_thing_32 : decode cX4_thing 32 = .ok (.aload_n 0, 1) := dk_42 (dk_at dksX4_thing_1 9 rfl rfl)
theorem dX4_thing_33 : decode cX4_thing 33 = .ok (.iconst 3, 1) := dk_6 (dk_at dksX4_thing_1 10 rfl rfl)
theorem dX4_thing_34 : decode cX4_thing 34 = .ok (.invokevirtual 156, 3) := dk_182 0 156 (dk_at dksX4_thing_1 11 rfl rfl)
theorem dX4_thing_37 : decode cX4_thing 37 = .ok (.ireturn, 1) := dk_172 (dk_at dksX4_thing_1 14 rfl rfl)
theorem dX4_thing_38 : decode cX4_thing 38 = .ok (.aload_n 0, 1) := dk_42 (dk_at dksX4_thing_1 15 rfl rfl)
theorem dX4_thing_39 : decode cX4_thing 39 = .ok (.getfield 17, 3) := dk_180 0 17 (dk_at dksX4_thing_1 16 rfl rfl)
theorem dX4_thing_42 : decode cX4_thing 42 = .ok (.sipush 4882, 3) := dk_17 19 18 (dk_at dksX4_thing_1 19 rfl rfl)
theorem dX4_thing_45 : decode cX4_thing 45 = .ok (.iaload, 1) := dk_46 (dk_at dksX4_thing_1 22 rfl rfl)
theorem dX4_thing_46 : decode cX4_thing 46 = .ok (.ifCond .le 9, 3) := dk_158 0 9 (dk_at dksX4_thing_2 0 rfl rfl)
theorem dX4_thing_49 : decode cX4_thing 49 = .ok (.aload_n 0, 1) := dk_42 (dk_at dksX4_thing_2 3 rfl rfl)
theorem dX4_thing_50 : decode cX4_thing 50 = .ok (.iconst 5, 1) := dk_8 (dk_at dksX4_thing_2 4 rfl rfl)
theorem dX4_thing_51 : decode cX4_thing 51 = .ok (.invokevirtual 156, 3) := dk_182 0 156 (dk_at dksX4_thing_2 5 rfl rfl)
theorem dX4_thing_54 : decode cX4_thing 54 = .ok (.ireturn, 1) := dk_172 (dk_at dksX4_thing_2 8 rfl rfl)
theorem dX4_thing_55 : decode cX4_thing 55 = .ok (.aload_n 0, 1) := dk_42 (dk_at dksX4_thing_2 9 rfl rfl)
theorem dX4_thing_56 : decode cX4_thing 56 = .ok (.getfield 17, 3) := dk_180 0 17 (dk_at dksX4_thing_2 10 rfl rfl)
theorem dX4_thing_59 : decode cX4_thing 59 = .ok (.sipush 4670, 3) := dk_17 18 62 (dk_at dksX4_thing_2 13 rfl rfl)
theorem dX4_thing_62 : decode cX4_thing 62 = .ok (.aload_n 0, 1) := dk_42 (dk_at dksX4_thing_2 16 rfl rfl)
theorem dX4_thing_63 : decode cX4_thing 63 = .ok (.getfield 17, 3) := dk_180 0 17 (dk_at dksX4_thing_2 17 rfl rfl)
theorem dX4_thing_66 : decode cX4_thing 66 = .ok (.sipush 4881, 3) := dk_17 19 17 (dk_at dksX4_thing_2 20 rfl rfl)
theorem dX4_thing_69 : decode cX4_thing 69 = .ok (.iaload, 1) := dk_46 (dk_at dksX4_thing_2 23 rfl rfl)
theorem dX4_thing_70 : decode cX4_thing 70 = .ok (.iadd, 1) := dk_96 (dk_at dksX4_thing_3 0 rfl rfl)
theorem dX4_thing_71 : decode cX4_thing 71 = .ok (.iload_n 1, 1) := dk_27 (dk_at dksX4_thing_3 1 rfl rfl)
theorem dX4_thing_72 : decode cX4_thing 72 = .ok (.iastore, 1) := dk_79 (dk_at dksX4_thing_3 2 rfl rfl)
theorem dX4_thing_73 : decode cX4_thing 73 = .ok (.aload_n 0, 1) := dk_42 (dk_at dksX4_thing_3 3 rfl rfl)
theorem dX4_thing_74 : decode cX4_thing 74 = .ok (.getfield 17, 3) := dk_180 0 17 (dk_at dksX4_thing_3 4 rfl rfl)
theorem dX4_thing_77 : decode cX4_thing 77 = .ok (.sipush 4881, 3) := dk_17 19 17 (dk_at dksX4_thing_3 7 rfl rfl)
theorem dX4_thing_80 : decode cX4_thing 80 = .ok (.dup2, 1) := dk_92 (dk_at dksX4_thing_3 10 rfl rfl)
theorem dX4_thing_81 : decode cX4_thing 81 = .ok (.iaload, 1) := dk_46 (dk_at dksX4_thing_3 11 rfl rfl)
theorem dX4_thing_82 : decode cX4_thing 82 = .ok (.iconst 1, 1) := dk_4 (dk_at dksX4_thing_3 12 rfl rfl)
theorem dX4_thing_83 : decode cX4_thing 83 = .ok (.iadd, 1) := dk_96 (dk_at dksX4_thing_3 13 rfl rfl)
theorem dX4_thing_84 : decode cX4_thing 84 = .ok (.iastore, 1) := dk_79 (dk_at dksX4_thing_3 14 rfl rfl)
theorem dX4_thing_85 : decode cX4_thing 85 = .ok (.aload_n 0, 1) := dk_42 (dk_at dksX4_thing_3 15 rfl rfl)
theorem dX4_thing_86 : decode cX4_thing 86 = .ok (.getfield 17, 3) := dk_180 0 17 (dk_at dksX4_thing_3 16 rfl rfl)
theorem dX4_thing_89 : decode cX4_thing 89 = .ok (.sipush 4881, 3) := dk_17 19 17 (dk_at dksX4_thing_3 19 rfl rfl)
theorem dX4_thing_92 : decode cX4_thing 92 = .ok (.iaload, 1) := dk_46 (dk_at dksX4_thing_3 22 rfl rfl)
theorem dX4_thing_93 : decode cX4_thing 93 = .ok (.iconst 1, 1) := dk_4 (dk_at dksX4_thing_3 23 rfl rfl)
theorem dX4_thing_94 : decode cX4_thing 94 = .ok (.isub, 1) := dk_100 (dk_at dksX4_thing_4 0 rfl rfl)
theorem dX4_thing_95 : decode cX4_thing 95 = .ok (.ireturn, 1) := dk_172 (dk_at dksX4_thing_4 1 rfl rfl)
abbrev cX4_move : ByteArray := prog_26_method_26_code
def yX4_move : MethodName := ⟨RX4, "move", "(IIII)I"⟩
def dkwX4_move_11 : List UInt8 := [17, 19, 18, 46, 4, 100, 172]
abbrev dktX4_move_11 : List UInt8 := dkwX4_move_11 ++ []
def dkwX4_move_10 : List UInt8 := [21, 7, 7, 96, 21, 5, 79, 42, 180, 0, 17, 17, 19, 18, 92, 46, 4, 96, 79, 42, 180, 0, 17]
abbrev dktX4_move_10 : List UInt8 := dkwX4_move_10 ++ dktX4_move_11
def dkwX4_move_9 : List UInt8 := [180, 0, 17, 21, 7, 5, 96, 29, 79, 42, 180, 0, 17, 21, 7, 6, 96, 21, 4, 79, 42, 180, 0, 17]
abbrev dktX4_move_9 : List UInt8 := dkwX4_move_9 ++ dktX4_move_10
def dkwX4_move_8 : List UInt8 := [104, 96, 54, 7, 42, 180, 0, 17, 21, 7, 27, 79, 42, 180, 0, 17, 21, 7, 4, 96, 28, 79, 42]
abbrev dktX4_move_8 : List UInt8 := dkwX4_move_8 ++ dktX4_move_9
def dkwX4_move_7 : List UInt8 := [182, 0, 176, 154, 0, 9, 42, 8, 182, 0, 156, 172, 17, 18, 72, 8, 42, 180, 0, 17, 17, 19, 18, 46]
abbrev dktX4_move_7 : List UInt8 := dkwX4_move_7 ++ dktX4_move_8
def dkwX4_move_6 : List UInt8 := [21, 5, 29, 159, 0, 26, 42, 27, 5, 108, 21, 5, 182, 0, 176, 153, 0, 14, 42, 27, 5, 108, 29]
abbrev dktX4_move_6 : List UInt8 := dkwX4_move_6 ++ dktX4_move_7
def dkwX4_move_5 : List UInt8 := [3, 54, 6, 21, 6, 154, 0, 47, 42, 180, 0, 45, 16, 100, 27, 104, 21, 4, 96, 51, 153, 0, 32]
abbrev dktX4_move_5 : List UInt8 := dkwX4_move_5 ++ dktX4_move_6
def dkwX4_move_4 : List UInt8 := [42, 42, 180, 0, 17, 17, 19, 18, 46, 4, 100, 6, 182, 0, 163, 21, 4, 164, 0, 7, 4, 167, 0, 4]
abbrev dktX4_move_4 : List UInt8 := dkwX4_move_4 ++ dktX4_move_5
def dkwX4_move_3 : List UInt8 := [3, 182, 0, 170, 42, 28, 16, 100, 182, 0, 173, 54, 5, 42, 180, 0, 17, 17, 19, 18, 46, 158, 0, 27]
abbrev dktX4_move_3 : List UInt8 := dkwX4_move_3 ++ dktX4_move_4
def dkwX4_move_2 : List UInt8 := [182, 0, 156, 172, 42, 180, 0, 17, 17, 19, 18, 46, 16, 40, 160, 0, 9, 42, 6, 182, 0, 156, 172, 42]
abbrev dktX4_move_2 : List UInt8 := dkwX4_move_2 ++ dktX4_move_3
def dkwX4_move_1 : List UInt8 := [182, 0, 153, 154, 0, 9, 42, 4, 182, 0, 156, 172, 21, 4, 184, 0, 128, 154, 0, 9, 42, 5]
abbrev dktX4_move_1 : List UInt8 := dkwX4_move_1 ++ dktX4_move_2
def dkwX4_move_0 : List UInt8 := [42, 3, 181, 0, 1, 42, 27, 182, 0, 160, 153, 0, 19, 42, 28, 182, 0, 167, 153, 0, 11, 42, 29]
abbrev dktX4_move_0 : List UInt8 := dkwX4_move_0 ++ dktX4_move_1
theorem dksX4_move_0 : cX4_move.data.toList.drop 0 = dktX4_move_0 := by decide +kernel
theorem dksX4_move_1 : cX4_move.data.toList.drop 23 = dktX4_move_1 := dk_seg dksX4_move_0 23 rfl rfl
theorem dksX4_move_2 : cX4_move.data.toList.drop 45 = dktX4_move_2 := dk_seg dksX4_move_1 22 rfl rfl
theorem dksX4_move_3 : cX4_move.data.toList.drop 69 = dktX4_move_3 := dk_seg dksX4_move_2 24 rfl rfl
theorem dksX4_move_4 : cX4_move.data.toList.drop 93 = dktX4_move_4 := dk_seg dksX4_move_3 24 rfl rfl
theorem dksX4_move_5 : cX4_move.data.toList.drop 117 = dktX4_move_5 := dk_seg dksX4_move_4 24 rfl rfl
theorem dksX4_move_6 : cX4_move.data.toList.drop 140 = dktX4_move_6 := dk_seg dksX4_move_5 23 rfl rfl
theorem dksX4_move_7 : cX4_move.data.toList.drop 163 = dktX4_move_7 := dk_seg dksX4_move_6 23 rfl rfl
theorem dksX4_move_8 : cX4_move.data.toList.drop 187 = dktX4_move_8 := dk_seg dksX4_move_7 24 rfl rfl
theorem dksX4_move_9 : cX4_move.data.toList.drop 210 = dktX4_move_9 := dk_seg dksX4_move_8 23 rfl rfl
theorem dksX4_move_10 : cX4_move.data.toList.drop 234 = dktX4_move_10 := dk_seg dksX4_move_9 24 rfl rfl
theorem dksX4_move_11 : cX4_move.data.toList.drop 257 = dktX4_move_11 := dk_seg dksX4_move_10 23 rfl rfl
theorem dX4_move_0 : decode cX4_move 0 = .ok (.aload_n 0, 1) := dk_42 (dk_at dksX4_move_0 0 rfl rfl)
theorem dX4_move_1 : decode cX4_move 1 = .ok (.iconst 0, 1) := dk_3 (dk_at dksX4_move_0 1 rfl rfl)
theorem dX4_move_2 : decode cX4_move 2 = .ok (.putfield 1, 3) := dk_181 0 1 (dk_at dksX4_move_0 2 rfl rfl)
theorem dX4_move_5 : decode cX4_move 5 = .ok (.aload_n 0, 1) := dk_42 (dk_at dksX4_move_0 5 rfl rfl)
theorem dX4_move_6 : decode cX4_move 6 = .ok (.iload_n 1, 1) := dk_27 (dk_at dksX4_move_0 6 rfl rfl)
theorem dX4_move_7 : decode cX4_move 7 = .ok (.invokevirtual 160, 3) := dk_182 0 160 (dk_at dksX4_move_0 7 rfl rfl)
theorem dX4_move_10 : decode cX4_move 10 = .ok (.ifCond .eq 19, 3) := dk_153 0 19 (dk_at dksX4_move_0 10 rfl rfl)
theorem dX4_move_13 : decode cX4_move 13 = .ok (.aload_n 0, 1) := dk_42 (dk_at dksX4_move_0 13 rfl rfl)
theorem dX4_move_14 : decode cX4_move 14 = .ok (.iload_n 2, 1) := dk_28 (dk_at dksX4_move_0 14 rfl rfl)
theorem dX4_move_15 : decode cX4_move 15 = .ok (.invokevirtual 167, 3) := dk_182 0 167 (dk_at dksX4_move_0 15 rfl rfl)
theorem dX4_move_18 : decode cX4_move 18 = .ok (.ifCond .eq 11, 3) := dk_153 0 11 (dk_at dksX4_move_0 18 rfl rfl)
theorem dX4_move_21 : decode cX4_move 21 = .ok (.aload_n 0, 1) := dk_42 (dk_at dksX4_move_0 21 rfl rfl)
theorem dX4_move_22 : decode cX4_move 22 = .ok (.iload_n 3, 1) := dk_29 (dk_at dksX4_move_0 22 rfl rfl)
theorem dX4_move_23 : decode cX4_move 23 = .ok (.invokevirtual 153, 3) := dk_182 0 153 (dk_at dksX4_move_1 0 rfl rfl)
theorem dX4_move_26 : decode cX4_move 26 = .ok (.ifCond .ne 9, 3) := dk_154 0 9 (dk_at dksX4_move_1 3 rfl rfl)
theorem dX4_move_29 : decode cX4_move 29 = .ok (.aload_n 0, 1) := dk_42 (dk_at dksX4_move_1 6 rfl rfl)
theorem dX4_move_30 : decode cX4_move 30 = .ok (.iconst 1, 1) := dk_4 (dk_at dksX4_move_1 7 rfl rfl)
theorem dX4_move_31 : decode cX4_move 31 = .ok (.invokevirtual 156, 3) := dk_182 0 156 (dk_at dksX4_move_1 8 rfl rfl)
theorem dX4_move_34 : decode cX4_move 34 = .ok (.ireturn, 1) := dk_172 (dk_at dksX4_move_1 11 rfl rfl)
theorem dX4_move_35 : decode cX4_move 35 = .ok (.iload 4, 2) := dk_21 4 (dk_at dksX4_move_1 12 rfl rfl)
theorem dX4_move_37 : decode cX4_move 37 = .ok (.invokestatic 128, 3) := dk_184 0 128 (dk_at dksX4_move_1 14 rfl rfl)
theorem dX4_move_40 : decode cX4_move 40 = .ok (.ifCond .ne 9, 3) := dk_154 0 9 (dk_at dksX4_move_1 17 rfl rfl)
theorem dX4_move_43 : decode cX4_move 43 = .ok (.aload_n 0, 1) := dk_42 (dk_at dksX4_move_1 20 rfl rfl)
theorem dX4_move_44 : decode cX4_move 44 = .ok (.iconst 2, 1) := dk_5 (dk_at dksX4_move_1 21 rfl rfl)
theorem dX4_move_45 : decode cX4_move 45 = .ok (.invokevirtual 156, 3) := dk_182 0 156 (dk_at dksX4_move_2 0 rfl rfl)
theorem dX4_move_48 : decode cX4_move 48 = .ok (.ireturn, 1) := dk_172 (dk_at dksX4_move_2 3 rfl rfl)
theorem dX4_move_49 : decode cX4_move 49 = .ok (.aload_n 0, 1) := dk_42 (dk_at dksX4_move_2 4 rfl rfl)
theorem dX4_move_50 : decode cX4_move 50 = .ok (.getfield 17, 3) := dk_180 0 17 (dk_at dksX4_move_2 5 rfl rfl)
theorem dX4_move_53 : decode cX4_move 53 = .ok (.sipush 4882, 3) := dk_17 19 18 (dk_at dksX4_move_2 8 rfl rfl)
theorem dX4_move_56 : decode cX4_move 56 = .ok (.iaload, 1) := dk_46 (dk_at dksX4_move_2 11 rfl rfl)
theorem dX4_move_57 : decode cX4_move 57 = .ok (.bipush 40, 2) := dk_16 40 (dk_at dksX4_move_2 12 rfl rfl)
theorem dX4_move_59 : decode cX4_move 59 = .ok (.if_icmp .ne 9, 3) := dk_160 0 9 (dk_at dksX4_move_2 14 rfl rfl)
theorem dX4_move_62 : decode cX4_move 62 = .ok (.aload_n 0, 1) := dk_42 (dk_at dksX4_move_2 17 rfl rfl)
theorem dX4_move_63 : decode cX4_move 63 = .ok (.iconst 3, 1) := dk_6 (dk_at dksX4_move_2 18 rfl rfl)
theorem dX4_move_64 : decode cX4_move 64 = .ok (.invokevirtual 156, 3) := dk_182 0 156 (dk_at dksX4_move_2 19 rfl rfl)
theorem dX4_move_67 : decode cX4_move 67 = .ok (.ireturn, 1) := dk_172 (dk_at dksX4_move_2 22 rfl rfl)
theorem dX4_move_68 : decode cX4_move 68 = .ok (.aload_n 0, 1) := dk_42 (dk_at dksX4_move_2 23 rfl rfl)
theorem dX4_move_69 : decode cX4_move 69 = .ok (.iconst 0, 1) := dk_3 (dk_at dksX4_move_3 0 rfl rfl)
theorem dX4_move_70 : decode cX4_move 70 = .ok (.invokevirtual 170, 3) := dk_182 0 170 (dk_at dksX4_move_3 1 rfl rfl)
theorem dX4_move_73 : decode cX4_move 73 = .ok (.aload_n 0, 1) := dk_42 (dk_at dksX4_move_3 4 rfl rfl)
theorem dX4_move_74 : decode cX4_move 74 = .ok (.iload_n 2, 1) := dk_28 (dk_at dksX4_move_3 5 rfl rfl)
theorem dX4_move_75 : decode cX4_move 75 = .ok (.bipush 100, 2) := dk_16 100 (dk_at dksX4_move_3 6 rfl rfl)
theorem dX4_move_77 : decode cX4_move 77 = .ok (.invokevirtual 173, 3) := dk_182 0 173 (dk_at dksX4_move_3 8 rfl rfl)
theorem dX4_move_80 : decode cX4_move 80 = .ok (.istore 5, 2) := dk_54 5 (dk_at dksX4_move_3 11 rfl rfl)
theorem dX4_move_82 : decode cX4_move 82 = .ok (.aload_n 0, 1) := dk_42 (dk_at dksX4_move_3 13 rfl rfl)
theorem dX4_move_83 : decode cX4_move 83 = .ok (.getfield 17, 3) := dk_180 0 17 (dk_at dksX4_move_3 14 rfl rfl)
theorem dX4_move_86 : decode cX4_move 86 = .ok (.sipush 4882, 3) := dk_17 19 18 (dk_at dksX4_move_3 17 rfl rfl)
theorem dX4_move_89 : decode cX4_move 89 = .ok (.iaload, 1) := dk_46 (dk_at dksX4_move_3 20 rfl rfl)
theorem dX4_move_90 : decode cX4_move 90 = .ok (.ifCond .le 27, 3) := dk_158 0 27 (dk_at dksX4_move_3 21 rfl rfl)
theorem dX4_move_93 : decode cX4_move 93 = .ok (.aload_n 0, 1) := dk_42 (dk_at dksX4_move_4 0 rfl rfl)
theorem dX4_move_94 : decode cX4_move 94 = .ok (.aload_n 0, 1) := dk_42 (dk_at dksX4_move_4 1 rfl rfl)
theorem dX4_move_95 : decode cX4_move 95 = .ok (.getfield 17, 3) := dk_180 0 17 (dk_at dksX4_move_4 2 rfl rfl)
theorem dX4_move_98 : decode cX4_move 98 = .ok (.sipush 4882, 3) := dk_17 19 18 (dk_at dksX4_move_4 5 rfl rfl)
theorem dX4_move_101 : decode cX4_move 101 = .ok (.iaload, 1) := dk_46 (dk_at dksX4_move_4 8 rfl rfl)
theorem dX4_move_102 : decode cX4_move 102 = .ok (.iconst 1, 1) := dk_4 (dk_at dksX4_move_4 9 rfl rfl)
theorem dX4_move_103 : decode cX4_move 103 = .ok (.isub, 1) := dk_100 (dk_at dksX4_move_4 10 rfl rfl)
theorem dX4_move_104 : decode cX4_move 104 = .ok (.iconst 3, 1) := dk_6 (dk_at dksX4_move_4 11 rfl rfl)
theorem dX4_move_105 : decode cX4_move 105 = .ok (.invokevirtual 163, 3) := dk_182 0 163 (dk_at dksX4_move_4 12 rfl rfl)
theorem dX4_move_108 : decode cX4_move 108 = .ok (.iload 4, 2) := dk_21 4 (dk_at dksX4_move_4 15 rfl rfl)
theorem dX4_move_110 : decode cX4_move 110 = .ok (.if_icmp .le 7, 3) := dk_164 0 7 (dk_at dksX4_move_4 17 rfl rfl)
theorem dX4_move_113 : decode cX4_move 113 = .ok (.iconst 1, 1) := dk_4 (dk_at dksX4_move_4 20 rfl rfl)
theorem dX4_move_114 : decode cX4_move 114 = .ok (.goto 4, 3) := dk_167 0 4 (dk_at dksX4_move_4 21 rfl rfl)
theorem dX4_move_117 : decode cX4_move 117 = .ok (.iconst 0, 1) := dk_3 (dk_at dksX4_move_5 0 rfl rfl)
theorem dX4_move_118 : decode cX4_move 118 = .ok (.istore 6, 2) := dk_54 6 (dk_at dksX4_move_5 1 rfl rfl)
theorem dX4_move_120 : decode cX4_move 120 = .ok (.iload 6, 2) := dk_21 6 (dk_at dksX4_move_5 3 rfl rfl)
theorem dX4_move_122 : decode cX4_move 122 = .ok (.ifCond .ne 47, 3) := dk_154 0 47 (dk_at dksX4_move_5 5 rfl rfl)
theorem dX4_move_125 : decode cX4_move 125 = .ok (.aload_n 0, 1) := dk_42 (dk_at dksX4_move_5 8 rfl rfl)
theorem dX4_move_126 : decode cX4_move 126 = .ok (.getfield 45, 3) := dk_180 0 45 (dk_at dksX4_move_5 9 rfl rfl)
theorem dX4_move_129 : decode cX4_move 129 = .ok (.bipush 100, 2) := dk_16 100 (dk_at dksX4_move_5 12 rfl rfl)
theorem dX4_move_131 : decode cX4_move 131 = .ok (.iload_n 1, 1) := dk_27 (dk_at dksX4_move_5 14 rfl rfl)
theorem dX4_move_132 : decode cX4_move 132 = .ok (.imul, 1) := dk_104 (dk_at dksX4_move_5 15 rfl rfl)
theorem dX4_move_133 : decode cX4_move 133 = .ok (.iload 4, 2) := dk_21 4 (dk_at dksX4_move_5 16 rfl rfl)
theorem dX4_move_135 : decode cX4_move 135 = .ok (.iadd, 1) := dk_96 (dk_at dksX4_move_5 18 rfl rfl)
theorem dX4_move_136 : decode cX4_move 136 = .ok (.baload, 1) := dk_51 (dk_at dksX4_move_5 19 rfl rfl)
theorem dX4_move_137 : decode cX4_move 137 = .ok (.ifCond .eq 32, 3) := dk_153 0 32 (dk_at dksX4_move_5 20 rfl rfl)
theorem dX4_move_140 : decode cX4_move 140 = .ok (.iload 5, 2) := dk_21 5 (dk_at dksX4_move_6 0 rfl rfl)
theorem dX4_move_142 : decode cX4_move 142 = .ok (.iload_n 3, 1) := dk_29 (dk_at dksX4_move_6 2 rfl rfl)
theorem dX4_move_143 : decode cX4_move 143 = .ok (.if_icmp .eq 26, 3) := dk_159 0 26 (dk_at dksX4_move_6 3 rfl rfl)
theorem dX4_move_146 : decode cX4_move 146 = .ok (.aload_n 0, 1) := dk_42 (dk_at dksX4_move_6 6 rfl rfl)
theorem dX4_move_147 : decode cX4_move 147 = .ok (.iload_n 1, 1) := dk_27 (dk_at dksX4_move_6 7 rfl rfl)
theorem dX4_move_148 : decode cX4_move 148 = .ok (.iconst 2, 1) := dk_5 (dk_at dksX4_move_6 8 rfl rfl)
theorem dX4_move_149 : decode cX4_move 149 = .ok (.idiv, 1) := dk_108 (dk_at dksX4_move_6 9 rfl rfl)
theorem dX4_move_150 : decode cX4_move 150 = .ok (.iload 5, 2) := dk_21 5 (dk_at dksX4_move_6 10 rfl rfl)
theorem dX4_move_152 : decode cX4_move 152 = .ok (.invokevirtual 176, 3) := dk_182 0 176 (dk_at dksX4_move_6 12 rfl rfl)
theorem dX4_move_155 : decode cX4_move 155 = .ok (.ifCond .eq 14, 3) := dk_153 0 14 (dk_at dksX4_move_6 15 rfl rfl)
theorem dX4_move_158 : decode cX4_move 158 = .ok (.aload_n 0, 1) := dk_42 (dk_at dksX4_move_6 18 rfl rfl)
theorem dX4_move_159 : decode cX4_move 159 = .ok (.iload_n 1, 1) := dk_27 (dk_at dksX4_move_6 19 rfl rfl)
theorem dX4_move_160 : decode cX4_move 160 = .ok (.iconst 2, 1) := dk_5 (dk_at dksX4_move_6 20 rfl rfl)
theorem dX4_move_161 : decode cX4_move 161 = .ok (.idiv, 1) := dk_108 (dk_at dksX4_move_6 21 rfl rfl)
theorem dX4_move_162 : decode cX4_move 162 = .ok (.iload_n 3, 1) := dk_29 (dk_at dksX4_move_6 22 rfl rfl)
theorem dX4_move_163 : decode cX4_move 163 = .ok (.invokevirtual 176, 3) := dk_182 0 176 (dk_at dksX4_move_7 0 rfl rfl)
theorem dX4_move_166 : decode cX4_move 166 = .ok (.ifCond .ne 9, 3) := dk_154 0 9 (dk_at dksX4_move_7 3 rfl rfl)
theorem dX4_move_169 : decode cX4_move 169 = .ok (.aload_n 0, 1) := dk_42 (dk_at dksX4_move_7 6 rfl rfl)
theorem dX4_move_170 : decode cX4_move 170 = .ok (.iconst 5, 1) := dk_8 (dk_at dksX4_move_7 7 rfl rfl)
theorem dX4_move_171 : decode cX4_move 171 = .ok (.invokevirtual 156, 3) := dk_182 0 156 (dk_at dksX4_move_7 8 rfl rfl)
theorem dX4_move_174 : decode cX4_move 174 = .ok (.ireturn, 1) := dk_172 (dk_at dksX4_move_7 11 rfl rfl)
theorem dX4_move_175 : decode cX4_move 175 = .ok (.sipush 4680, 3) := dk_17 18 72 (dk_at dksX4_move_7 12 rfl rfl)
theorem dX4_move_178 : decode cX4_move 178 = .ok (.iconst 5, 1) := dk_8 (dk_at dksX4_move_7 15 rfl rfl)
theorem dX4_move_179 : decode cX4_move 179 = .ok (.aload_n 0, 1) := dk_42 (dk_at dksX4_move_7 16 rfl rfl)
theorem dX4_move_180 : decode cX4_move 180 = .ok (.getfield 17, 3) := dk_180 0 17 (dk_at dksX4_move_7 17 rfl rfl)
theorem dX4_move_183 : decode cX4_move 183 = .ok (.sipush 4882, 3) := dk_17 19 18 (dk_at dksX4_move_7 20 rfl rfl)
theorem dX4_move_186 : decode cX4_move 186 = .ok (.iaload, 1) := dk_46 (dk_at dksX4_move_7 23 rfl rfl)
theorem dX4_move_187 : decode cX4_move 187 = .ok (.imul, 1) := dk_104 (dk_at dksX4_move_8 0 rfl rfl)
theorem dX4_move_188 : decode cX4_move 188 = .ok (.iadd, 1) := dk_96 (dk_at dksX4_move_8 1 rfl rfl)
theorem dX4_move_189 : decode cX4_move 189 = .ok (.istore 7, 2) := dk_54 7 (dk_at dksX4_move_8 2 rfl rfl)
theorem dX4_move_191 : decode cX4_move 191 = .ok (.aload_n 0, 1) := dk_42 (dk_at dksX4_move_8 4 rfl rfl)
theorem dX4_move_192 : decode cX4_move 192 = .ok (.getfield 17, 3) := dk_180 0 17 (dk_at dksX4_move_8 5 rfl rfl)
theorem dX4_move_195 : decode cX4_move 195 = .ok (.iload 7, 2) := dk_21 7 (dk_at dksX4_move_8 8 rfl rfl)
theorem dX4_move_197 : decode cX4_move 197 = .ok (.iload_n 1, 1) := dk_27 (dk_at dksX4_move_8 10 rfl rfl)
theorem dX4_move_198 : decode cX4_move 198 = .ok (.iastore, 1) := dk_79 (dk_at dksX4_move_8 11 rfl rfl)
theorem dX4_move_199 : decode cX4_move 199 = .ok (.aload_n 0, 1) := dk_42 (dk_at dksX4_move_8 12 rfl rfl)
theorem dX4_move_200 : decode cX4_move 200 = .ok (.getfield 17, 3) := dk_180 0 17 (dk_at dksX4_move_8 13 rfl rfl)
theorem dX4_move_203 : decode cX4_move 203 = .ok (.iload 7, 2) := dk_21 7 (dk_at dksX4_move_8 16 rfl rfl)
theorem dX4_move_205 : decode cX4_move 205 = .ok (.iconst 1, 1) := dk_4 (dk_at dksX4_move_8 18 rfl rfl)
theorem dX4_move_206 : decode cX4_move 206 = .ok (.iadd, 1) := dk_96 (dk_at dksX4_move_8 19 rfl rfl)
theorem dX4_move_207 : decode cX4_move 207 = .ok (.iload_n 2, 1) := dk_28 (dk_at dksX4_move_8 20 rfl rfl)
theorem dX4_move_208 : decode cX4_move 208 = .ok (.iastore, 1) := dk_79 (dk_at dksX4_move_8 21 rfl rfl)
theorem dX4_move_209 : decode cX4_move 209 = .ok (.aload_n 0, 1) := dk_42 (dk_at dksX4_move_8 22 rfl rfl)
theorem dX4_move_210 : decode cX4_move 210 = .ok (.getfield 17, 3) := dk_180 0 17 (dk_at dksX4_move_9 0 rfl rfl)
theorem dX4_move_213 : decode cX4_move 213 = .ok (.iload 7, 2) := dk_21 7 (dk_at dksX4_move_9 3 rfl rfl)
theorem dX4_move_215 : decode cX4_move 215 = .ok (.iconst 2, 1) := dk_5 (dk_at dksX4_move_9 5 rfl rfl)
theorem dX4_move_216 : decode cX4_move 216 = .ok (.iadd, 1) := dk_96 (dk_at dksX4_move_9 6 rfl rfl)
theorem dX4_move_217 : decode cX4_move 217 = .ok (.iload_n 3, 1) := dk_29 (dk_at dksX4_move_9 7 rfl rfl)
theorem dX4_move_218 : decode cX4_move 218 = .ok (.iastore, 1) := dk_79 (dk_at dksX4_move_9 8 rfl rfl)
theorem dX4_move_219 : decode cX4_move 219 = .ok (.aload_n 0, 1) := dk_42 (dk_at dksX4_move_9 9 rfl rfl)
theorem dX4_move_220 : decode cX4_move 220 = .ok (.getfield 17, 3) := dk_180 0 17 (dk_at dksX4_move_9 10 rfl rfl)
theorem dX4_move_223 : decode cX4_move 223 = .ok (.iload 7, 2) := dk_21 7 (dk_at dksX4_move_9 13 rfl rfl)
theorem dX4_move_225 : decode cX4_move 225 = .ok (.iconst 3, 1) := dk_6 (dk_at dksX4_move_9 15 rfl rfl)
theorem dX4_move_226 : decode cX4_move 226 = .ok (.iadd, 1) := dk_96 (dk_at dksX4_move_9 16 rfl rfl)
theorem dX4_move_227 : decode cX4_move 227 = .ok (.iload 4, 2) := dk_21 4 (dk_at dksX4_move_9 17 rfl rfl)
theorem dX4_move_229 : decode cX4_move 229 = .ok (.iastore, 1) := dk_79 (dk_at dksX4_move_9 19 rfl rfl)
theorem dX4_move_230 : decode cX4_move 230 = .ok (.aload_n 0, 1) := dk_42 (dk_at dksX4_move_9 20 rfl rfl)
theorem dX4_move_231 : decode cX4_move 231 = .ok (.getfield 17, 3) := dk_180 0 17 (dk_at dksX4_move_9 21 rfl rfl)
theorem dX4_move_234 : decode cX4_move 234 = .ok (.iload 7, 2) := dk_21 7 (dk_at dksX4_move_10 0 rfl rfl)
theorem dX4_move_236 : decode cX4_move 236 = .ok (.iconst 4, 1) := dk_7 (dk_at dksX4_move_10 2 rfl rfl)
theorem dX4_move_237 : decode cX4_move 237 = .ok (.iadd, 1) := dk_96 (dk_at dksX4_move_10 3 rfl rfl)
theorem dX4_move_238 : decode cX4_move 238 = .ok (.iload 5, 2) := dk_21 5 (dk_at dksX4_move_10 4 rfl rfl)
theorem dX4_move_240 : decode cX4_move 240 = .ok (.iastore, 1) := dk_79 (dk_at dksX4_move_10 6 rfl rfl)
theorem dX4_move_241 : decode cX4_move 241 = .ok (.aload_n 0, 1) := dk_42 (dk_at dksX4_move_10 7 rfl rfl)
theorem dX4_move_242 : decode cX4_move 242 = .ok (.getfield 17, 3) := dk_180 0 17 (dk_at dksX4_move_10 8 rfl rfl)
theorem dX4_move_245 : decode cX4_move 245 = .ok (.sipush 4882, 3) := dk_17 19 18 (dk_at dksX4_move_10 11 rfl rfl)
theorem dX4_move_248 : decode cX4_move 248 = .ok (.dup2, 1) := dk_92 (dk_at dksX4_move_10 14 rfl rfl)
theorem dX4_move_249 : decode cX4_move 249 = .ok (.iaload, 1) := dk_46 (dk_at dksX4_move_10 15 rfl rfl)
theorem dX4_move_250 : decode cX4_move 250 = .ok (.iconst 1, 1) := dk_4 (dk_at dksX4_move_10 16 rfl rfl)
theorem dX4_move_251 : decode cX4_move 251 = .ok (.iadd, 1) := dk_96 (dk_at dksX4_move_10 17 rfl rfl)
theorem dX4_move_252 : decode cX4_move 252 = .ok (.iastore, 1) := dk_79 (dk_at dksX4_move_10 18 rfl rfl)
theorem dX4_move_253 : decode cX4_move 253 = .ok (.aload_n 0, 1) := dk_42 (dk_at dksX4_move_10 19 rfl rfl)
theorem dX4_move_254 : decode cX4_move 254 = .ok (.getfield 17, 3) := dk_180 0 17 (dk_at dksX4_move_10 20 rfl rfl)
theorem dX4_move_257 : decode cX4_move 257 = .ok (.sipush 4882, 3) := dk_17 19 18 (dk_at dksX4_move_11 0 rfl rfl)
theorem dX4_move_260 : decode cX4_move 260 = .ok (.iaload, 1) := dk_46 (dk_at dksX4_move_11 3 rfl rfl)
theorem dX4_move_261 : decode cX4_move 261 = .ok (.iconst 1, 1) := dk_4 (dk_at dksX4_move_11 4 rfl rfl)
theorem dX4_move_262 : decode cX4_move 262 = .ok (.isub, 1) := dk_100 (dk_at dksX4_move_11 5 rfl rfl)
theorem dX4_move_263 : decode cX4_move 263 = .ok (.ireturn, 1) := dk_172 (dk_at dksX4_move_11 6 rfl rfl)
abbrev cX4_isThing : ByteArray := prog_26_method_23_code
def yX4_isThing : MethodName := ⟨RX4, "isThing", "(I)Z"⟩
def dkwX4_isThing_0 : List UInt8 := [27, 155, 0, 19, 27, 42, 180, 0, 17, 17, 19, 17, 46, 162, 0, 7, 4, 167, 0, 4, 3, 172]
abbrev dktX4_isThing_0 : List UInt8 := dkwX4_isThing_0 ++ []
theorem dksX4_isThing_0 : cX4_isThing.data.toList.drop 0 = dktX4_isThing_0 := by decide +kernel
theorem dX4_isThing_0 : decode cX4_isThing 0 = .ok (.iload_n 1, 1) := dk_27 (dk_at dksX4_isThing_0 0 rfl rfl)
theorem dX4_isThing_1 : decode cX4_isThing 1 = .ok (.ifCond .lt 19, 3) := dk_155 0 19 (dk_at dksX4_isThing_0 1 rfl rfl)
theorem dX4_isThing_4 : decode cX4_isThing 4 = .ok (.iload_n 1, 1) := dk_27 (dk_at dksX4_isThing_0 4 rfl rfl)
theorem dX4_isThing_5 : decode cX4_isThing 5 = .ok (.aload_n 0, 1) := dk_42 (dk_at dksX4_isThing_0 5 rfl rfl)
theorem dX4_isThing_6 : decode cX4_isThing 6 = .ok (.getfield 17, 3) := dk_180 0 17 (dk_at dksX4_isThing_0 6 rfl rfl)
theorem dX4_isThing_9 : decode cX4_isThing 9 = .ok (.sipush 4881, 3) := dk_17 19 17 (dk_at dksX4_isThing_0 9 rfl rfl)
theorem dX4_isThing_12 : decode cX4_isThing 12 = .ok (.iaload, 1) := dk_46 (dk_at dksX4_isThing_0 12 rfl rfl)
theorem dX4_isThing_13 : decode cX4_isThing 13 = .ok (.if_icmp .ge 7, 3) := dk_162 0 7 (dk_at dksX4_isThing_0 13 rfl rfl)
theorem dX4_isThing_16 : decode cX4_isThing 16 = .ok (.iconst 1, 1) := dk_4 (dk_at dksX4_isThing_0 16 rfl rfl)
theorem dX4_isThing_17 : decode cX4_isThing 17 = .ok (.goto 4, 3) := dk_167 0 4 (dk_at dksX4_isThing_0 17 rfl rfl)
theorem dX4_isThing_20 : decode cX4_isThing 20 = .ok (.iconst 0, 1) := dk_3 (dk_at dksX4_isThing_0 20 rfl rfl)
theorem dX4_isThing_21 : decode cX4_isThing 21 = .ok (.ireturn, 1) := dk_172 (dk_at dksX4_isThing_0 21 rfl rfl)
abbrev cX4_lays : ByteArray := prog_26_method_33_code
def yX4_lays : MethodName := ⟨RX4, "lays", "(I)V"⟩
def dkwX4_lays_24 : List UInt8 := [132, 3, 1, 167, 255, 199, 132, 2, 1, 167, 253, 196, 177]
abbrev dktX4_lays_24 : List UInt8 := dkwX4_lays_24 ++ []
def dkwX4_lays_23 : List UInt8 := [46, 42, 180, 0, 33, 16, 100, 29, 5, 108, 104, 28, 96, 46, 4, 29, 5, 108, 120, 2, 130, 126, 128, 79]
abbrev dktX4_lays_23 : List UInt8 := dkwX4_lays_23 ++ dktX4_lays_24
def dkwX4_lays_22 : List UInt8 := [104, 162, 0, 53, 42, 180, 0, 36, 16, 100, 29, 104, 28, 96, 42, 180, 0, 39, 16, 100, 29, 104, 28, 96]
abbrev dktX4_lays_22 : List UInt8 := dkwX4_lays_22 ++ dktX4_lays_23
def dkwX4_lays_21 : List UInt8 := [180, 0, 88, 29, 46, 104, 28, 96, 4, 84, 132, 3, 1, 167, 255, 169, 3, 62, 29, 5, 42, 180, 0, 24]
abbrev dktX4_lays_21 : List UInt8 := dkwX4_lays_21 ++ dktX4_lays_22
def dkwX4_lays_20 : List UInt8 := [180, 0, 45, 16, 100, 42, 180, 0, 88, 29, 46, 104, 28, 96, 3, 84, 42, 180, 0, 48, 16, 100, 42]
abbrev dktX4_lays_20 : List UInt8 := dkwX4_lays_20 ++ dktX4_lays_21
def dkwX4_lays_19 : List UInt8 := [180, 0, 94, 29, 46, 133, 42, 180, 0, 97, 29, 46, 133, 184, 0, 140, 154, 0, 6, 167, 0, 37, 42]
abbrev dktX4_lays_19 : List UInt8 := dkwX4_lays_19 ++ dktX4_lays_20
def dkwX4_lays_18 : List UInt8 := [162, 0, 85, 27, 29, 184, 0, 179, 153, 0, 71, 42, 180, 0, 85, 29, 46, 154, 0, 62, 28, 133, 42]
abbrev dktX4_lays_18 : List UInt8 := dkwX4_lays_18 ++ dktX4_lays_19
def dkwX4_lays_17 : List UInt8 := [16, 100, 21, 4, 104, 28, 96, 3, 84, 132, 3, 1, 167, 255, 184, 3, 62, 29, 42, 180, 0, 122]
abbrev dktX4_lays_17 : List UInt8 := dkwX4_lays_17 ++ dktX4_lays_18
def dkwX4_lays_16 : List UInt8 := [180, 0, 39, 16, 100, 21, 4, 104, 28, 96, 92, 46, 4, 29, 5, 108, 120, 128, 79, 42, 180, 0, 45]
abbrev dktX4_lays_16 : List UInt8 := dkwX4_lays_16 ++ dktX4_lays_17
def dkwX4_lays_15 : List UInt8 := [17, 11, 54, 16, 100, 29, 104, 96, 28, 96, 46, 54, 4, 21, 4, 2, 160, 0, 6, 167, 0, 36, 42]
abbrev dktX4_lays_15 : List UInt8 := dkwX4_lays_15 ++ dktX4_lays_16
def dkwX4_lays_14 : List UInt8 := [3, 79, 132, 3, 1, 167, 255, 184, 3, 62, 29, 5, 42, 180, 0, 24, 104, 162, 0, 68, 42, 180, 0, 17]
abbrev dktX4_lays_14 : List UInt8 := dkwX4_lays_14 ++ dktX4_lays_15
def dkwX4_lays_13 : List UInt8 := [3, 84, 42, 180, 0, 48, 16, 100, 29, 104, 28, 96, 3, 84, 42, 180, 0, 39, 16, 100, 29, 104, 28, 96]
abbrev dktX4_lays_13 : List UInt8 := dkwX4_lays_13 ++ dktX4_lays_14
def dkwX4_lays_12 : List UInt8 := [96, 42, 180, 0, 17, 17, 11, 54, 16, 100, 29, 104, 96, 28, 96, 46, 2, 160, 0, 7, 4, 167, 0, 4]
abbrev dktX4_lays_12 : List UInt8 := dkwX4_lays_12 ++ dktX4_lays_13
def dkwX4_lays_11 : List UInt8 := [167, 255, 150, 3, 62, 29, 5, 42, 180, 0, 24, 104, 162, 0, 68, 42, 180, 0, 45, 16, 100, 29, 104, 28]
abbrev dktX4_lays_11 : List UInt8 := dkwX4_lays_11 ++ dktX4_lays_12
def dkwX4_lays_10 : List UInt8 := [161, 0, 21, 42, 180, 0, 33, 16, 100, 21, 4, 104, 28, 96, 92, 46, 4, 29, 120, 128, 79, 132, 3, 1]
abbrev dktX4_lays_10 : List UInt8 := dkwX4_lays_10 ++ dktX4_lays_11
def dkwX4_lays_9 : List UInt8 := [92, 46, 4, 29, 120, 128, 79, 42, 180, 0, 27, 28, 46, 42, 180, 0, 17, 16, 100, 29, 96, 46]
abbrev dktX4_lays_9 : List UInt8 := dkwX4_lays_9 ++ dktX4_lays_10
def dkwX4_lays_8 : List UInt8 := [29, 120, 128, 79, 21, 4, 2, 160, 0, 6, 167, 0, 57, 42, 180, 0, 30, 16, 100, 21, 4, 104, 28, 96]
abbrev dktX4_lays_8 : List UInt8 := dkwX4_lays_8 ++ dktX4_lays_9
def dkwX4_lays_7 : List UInt8 := [182, 0, 192, 54, 4, 42, 29, 28, 27, 182, 0, 185, 2, 159, 0, 15, 42, 180, 0, 42, 28, 92, 46, 4]
abbrev dktX4_lays_7 : List UInt8 := dkwX4_lays_7 ++ dktX4_lays_8
def dkwX4_lays_6 : List UInt8 := [96, 3, 79, 132, 3, 1, 167, 255, 221, 3, 62, 29, 42, 180, 0, 24, 162, 0, 104, 42, 29, 28, 27]
abbrev dktX4_lays_6 : List UInt8 := dkwX4_lays_6 ++ dktX4_lays_7
def dkwX4_lays_5 : List UInt8 := [163, 0, 33, 42, 180, 0, 30, 16, 100, 29, 104, 28, 96, 3, 79, 42, 180, 0, 33, 16, 100, 29, 104, 28]
abbrev dktX4_lays_5 : List UInt8 := dkwX4_lays_5 ++ dktX4_lays_6
def dkwX4_lays_4 : List UInt8 := [180, 0, 27, 28, 42, 180, 0, 91, 29, 46, 79, 132, 3, 1, 167, 255, 178, 3, 62, 29, 42, 180, 0, 24]
abbrev dktX4_lays_4 : List UInt8 := dkwX4_lays_4 ++ dktX4_lays_5
def dkwX4_lays_3 : List UInt8 := [46, 133, 184, 0, 140, 153, 0, 30, 42, 180, 0, 91, 29, 46, 42, 180, 0, 27, 28, 46, 164, 0, 15, 42]
abbrev dktX4_lays_3 : List UInt8 := dkwX4_lays_3 ++ dktX4_lays_4
def dkwX4_lays_2 : List UInt8 := [42, 180, 0, 85, 29, 46, 4, 160, 0, 52, 28, 133, 42, 180, 0, 94, 29, 46, 133, 42, 180, 0, 97, 29]
abbrev dktX4_lays_2 : List UInt8 := dkwX4_lays_2 ++ dktX4_lays_3
def dkwX4_lays_1 : List UInt8 := [180, 0, 42, 28, 3, 79, 3, 62, 29, 42, 180, 0, 122, 162, 0, 76, 27, 29, 184, 0, 179, 153, 0, 62]
abbrev dktX4_lays_1 : List UInt8 := dkwX4_lays_1 ++ dktX4_lays_2
def dkwX4_lays_0 : List UInt8 := [3, 61, 28, 16, 100, 162, 2, 60, 42, 180, 0, 27, 28, 42, 180, 0, 17, 3, 28, 96, 46, 79, 42]
abbrev dktX4_lays_0 : List UInt8 := dkwX4_lays_0 ++ dktX4_lays_1
theorem dksX4_lays_0 : cX4_lays.data.toList.drop 0 = dktX4_lays_0 := by decide +kernel
theorem dksX4_lays_1 : cX4_lays.data.toList.drop 23 = dktX4_lays_1 := dk_seg dksX4_lays_0 23 rfl rfl
theorem dksX4_lays_2 : cX4_lays.data.toList.drop 47 = dktX4_lays_2 := dk_seg dksX4_lays_1 24 rfl rfl
theorem dksX4_lays_3 : cX4_lays.data.toList.drop 71 = dktX4_lays_3 := dk_seg dksX4_lays_2 24 rfl rfl
theorem dksX4_lays_4 : cX4_lays.data.toList.drop 95 = dktX4_lays_4 := dk_seg dksX4_lays_3 24 rfl rfl
theorem dksX4_lays_5 : cX4_lays.data.toList.drop 119 = dktX4_lays_5 := dk_seg dksX4_lays_4 24 rfl rfl
theorem dksX4_lays_6 : cX4_lays.data.toList.drop 143 = dktX4_lays_6 := dk_seg dksX4_lays_5 24 rfl rfl
theorem dksX4_lays_7 : cX4_lays.data.toList.drop 166 = dktX4_lays_7 := dk_seg dksX4_lays_6 23 rfl rfl
theorem dksX4_lays_8 : cX4_lays.data.toList.drop 190 = dktX4_lays_8 := dk_seg dksX4_lays_7 24 rfl rfl
theorem dksX4_lays_9 : cX4_lays.data.toList.drop 214 = dktX4_lays_9 := dk_seg dksX4_lays_8 24 rfl rfl
theorem dksX4_lays_10 : cX4_lays.data.toList.drop 236 = dktX4_lays_10 := dk_seg dksX4_lays_9 22 rfl rfl
theorem dksX4_lays_11 : cX4_lays.data.toList.drop 260 = dktX4_lays_11 := dk_seg dksX4_lays_10 24 rfl rfl
theorem dksX4_lays_12 : cX4_lays.data.toList.drop 284 = dktX4_lays_12 := dk_seg dksX4_lays_11 24 rfl rfl
theorem dksX4_lays_13 : cX4_lays.data.toList.drop 308 = dktX4_lays_13 := dk_seg dksX4_lays_12 24 rfl rfl
theorem dksX4_lays_14 : cX4_lays.data.toList.drop 332 = dktX4_lays_14 := dk_seg dksX4_lays_13 24 rfl rfl
theorem dksX4_lays_15 : cX4_lays.data.toList.drop 356 = dktX4_lays_15 := dk_seg dksX4_lays_14 24 rfl rfl
theorem dksX4_lays_16 : cX4_lays.data.toList.drop 379 = dktX4_lays_16 := dk_seg dksX4_lays_15 23 rfl rfl
theorem dksX4_lays_17 : cX4_lays.data.toList.drop 402 = dktX4_lays_17 := dk_seg dksX4_lays_16 23 rfl rfl
theorem dksX4_lays_18 : cX4_lays.data.toList.drop 424 = dktX4_lays_18 := dk_seg dksX4_lays_17 22 rfl rfl
theorem dksX4_lays_19 : cX4_lays.data.toList.drop 447 = dktX4_lays_19 := dk_seg dksX4_lays_18 23 rfl rfl
theorem dksX4_lays_20 : cX4_lays.data.toList.drop 470 = dktX4_lays_20 := dk_seg dksX4_lays_19 23 rfl rfl
theorem dksX4_lays_21 : cX4_lays.data.toList.drop 493 = dktX4_lays_21 := dk_seg dksX4_lays_20 23 rfl rfl
theorem dksX4_lays_22 : cX4_lays.data.toList.drop 517 = dktX4_lays_22 := dk_seg dksX4_lays_21 24 rfl rfl
theorem dksX4_lays_23 : cX4_lays.data.toList.drop 541 = dktX4_lays_23 := dk_seg dksX4_lays_22 24 rfl rfl
theorem dksX4_lays_24 : cX4_lays.data.toList.drop 565 = dktX4_lays_24 := dk_seg dksX4_lays_23 24 rfl rfl
theorem dX4_lays_0 : decode cX4_lays 0 = .ok (.iconst 0, 1) := dk_3 (dk_at dksX4_lays_0 0 rfl rfl)
theorem dX4_lays_1 : decode cX4_lays 1 = .ok (.istore_n 2, 1) := dk_61 (dk_at dksX4_lays_0 1 rfl rfl)
theorem dX4_lays_2 : decode cX4_lays 2 = .ok (.iload_n 2, 1) := dk_28 (dk_at dksX4_lays_0 2 rfl rfl)
theorem dX4_lays_3 : decode cX4_lays 3 = .ok (.bipush 100, 2) := dk_16 100 (dk_at dksX4_lays_0 3 rfl rfl)
theorem dX4_lays_5 : decode cX4_lays 5 = .ok (.if_icmp .ge 572, 3) := dk_162 2 60 (dk_at dksX4_lays_0 5 rfl rfl)
theorem dX4_lays_8 : decode cX4_lays 8 = .ok (.aload_n 0, 1) := dk_42 (dk_at dksX4_lays_0 8 rfl rfl)
theorem dX4_lays_9 : decode cX4_lays 9 = .ok (.getfield 27, 3) := dk_180 0 27 (dk_at dksX4_lays_0 9 rfl rfl)
theorem dX4_lays_12 : decode cX4_lays 12 = .ok (.iload_n 2, 1) := dk_28 (dk_at dksX4_lays_0 12 rfl rfl)
theorem dX4_lays_13 : decode cX4_lays 13 = .ok (.aload_n 0, 1) := dk_42 (dk_at dksX4_lays_0 13 rfl rfl)
theorem dX4_lays_14 : decode cX4_lays 14 = .ok (.getfield 17, 3) := dk_180 0 17 (dk_at dksX4_lays_0 14 rfl rfl)
theorem dX4_lays_17 : decode cX4_lays 17 = .ok (.iconst 0, 1) := dk_3 (dk_at dksX4_lays_0 17 rfl rfl)
theorem dX4_lays_18 : decode cX4_lays 18 = .ok (.iload_n 2, 1) := dk_28 (dk_at dksX4_lays_0 18 rfl rfl)
theorem dX4_lays_19 : decode cX4_lays 19 = .ok (.iadd, 1) := dk_96 (dk_at dksX4_lays_0 19 rfl rfl)
theorem dX4_lays_20 : decode cX4_lays 20 = .ok (.iaload, 1) := dk_46 (dk_at dksX4_lays_0 20 rfl rfl)
theorem dX4_lays_21 : decode cX4_lays 21 = .ok (.iastore, 1) := dk_79 (dk_at dksX4_lays_0 21 rfl rfl)
theorem dX4_lays_22 : decode cX4_lays 22 = .ok (.aload_n 0, 1) := dk_42 (dk_at dksX4_lays_0 22 rfl rfl)
theorem dX4_lays_23 : decode cX4_lays 23 = .ok (.getfield 42, 3) := dk_180 0 42 (dk_at dksX4_lays_1 0 rfl rfl)
theorem dX4_lays_26 : decode cX4_lays 26 = .ok (.iload_n 2, 1) := dk_28 (dk_at dksX4_lays_1 3 rfl rfl)
theorem dX4_lays_27 : decode cX4_lays 27 = .ok (.iconst 0, 1) := dk_3 (dk_at dksX4_lays_1 4 rfl rfl)
theorem dX4_lays_28 : decode cX4_lays 28 = .ok (.iastore, 1) := dk_79 (dk_at dksX4_lays_1 5 rfl rfl)
theorem dX4_lays_29 : decode cX4_lays 29 = .ok (.iconst 0, 1) := dk_3 (dk_at dksX4_lays_1 6 rfl rfl)
theorem dX4_lays_30 : decode cX4_lays 30 = .ok (.istore_n 3, 1) := dk_62 (dk_at dksX4_lays_1 7 rfl rfl)
theorem dX4_lays_31 : decode cX4_lays 31 = .ok (.iload_n 3, 1) := dk_29 (dk_at dksX4_lays_1 8 rfl rfl)
theorem dX4_lays_32 : decode cX4_lays 32 = .ok (.aload_n 0, 1) := dk_42 (dk_at dksX4_lays_1 9 rfl rfl)
theorem dX4_lays_33 : decode cX4_lays 33 = .ok (.getfield 122, 3) := dk_180 0 122 (dk_at dksX4_lays_1 10 rfl rfl)
theorem dX4_lays_36 : decode cX4_lays 36 = .ok (.if_icmp .ge 76, 3) := dk_162 0 76 (dk_at dksX4_lays_1 13 rfl rfl)
theorem dX4_lays_39 : decode cX4_lays 39 = .ok (.iload_n 1, 1) := dk_27 (dk_at dksX4_lays_1 16 rfl rfl)
theorem dX4_lays_40 : decode cX4_lays 40 = .ok (.iload_n 3, 1) := dk_29 (dk_at dksX4_lays_1 17 rfl rfl)
theorem dX4_lays_41 : decode cX4_lays 41 = .ok (.invokestatic 179, 3) := dk_184 0 179 (dk_at dksX4_lays_1 18 rfl rfl)
theorem dX4_lays_44 : decode cX4_lays 44 = .ok (.ifCond .eq 62, 3) := dk_153 0 62 (dk_at dksX4_lays_1 21 rfl rfl)
theorem dX4_lays_47 : decode cX4_lays 47 = .ok (.aload_n 0, 1) := dk_42 (dk_at dksX4_lays_2 0 rfl rfl)
theorem dX4_lays_48 : decode cX4_lays 48 = .ok (.getfield 85, 3) := dk_180 0 85 (dk_at dksX4_lays_2 1 rfl rfl)
theorem dX4_lays_51 : decode cX4_lays 51 = .ok (.iload_n 3, 1) := dk_29 (dk_at dksX4_lays_2 4 rfl rfl)
theorem dX4_lays_52 : decode cX4_lays 52 = .ok (.iaload, 1) := dk_46 (dk_at dksX4_lays_2 5 rfl rfl)
theorem dX4_lays_53 : decode cX4_lays 53 = .ok (.iconst 1, 1) := dk_4 (dk_at dksX4_lays_2 6 rfl rfl)
theorem dX4_lays_54 : decode cX4_lays 54 = .ok (.if_icmp .ne 52, 3) := dk_160 0 52 (dk_at dksX4_lays_2 7 rfl rfl)
theorem dX4_lays_57 : decode cX4_lays 57 = .ok (.iload_n 2, 1) := dk_28 (dk_at dksX4_lays_2 10 rfl rfl)
theorem dX4_lays_58 : decode cX4_lays 58 = .ok (.i2l, 1) := dk_133 (dk_at dksX4_lays_2 11 rfl rfl)
theorem dX4_lays_59 : decode cX4_lays 59 = .ok (.aload_n 0, 1) := dk_42 (dk_at dksX4_lays_2 12 rfl rfl)
theorem dX4_lays_60 : decode cX4_lays 60 = .ok (.getfield 94, 3) := dk_180 0 94 (dk_at dksX4_lays_2 13 rfl rfl)
theorem dX4_lays_63 : decode cX4_lays 63 = .ok (.iload_n 3, 1) := dk_29 (dk_at dksX4_lays_2 16 rfl rfl)
theorem dX4_lays_64 : decode cX4_lays 64 = .ok (.iaload, 1) := dk_46 (dk_at dksX4_lays_2 17 rfl rfl)
theorem dX4_lays_65 : decode cX4_lays 65 = .ok (.i2l, 1) := dk_133 (dk_at dksX4_lays_2 18 rfl rfl)
theorem dX4_lays_66 : decode cX4_lays 66 = .ok (.aload_n 0, 1) := dk_42 (dk_at dksX4_lays_2 19 rfl rfl)
theorem dX4_lays_67 : decode cX4_lays 67 = .ok (.getfield 97, 3) := dk_180 0 97 (dk_at dksX4_lays_2 20 rfl rfl)
theorem dX4_lays_70 : decode cX4_lays 70 = .ok (.iload_n 3, 1) := dk_29 (dk_at dksX4_lays_2 23 rfl rfl)
theorem dX4_lays_71 : decode cX4_lays 71 = .ok (.iaload, 1) := dk_46 (dk_at dksX4_lays_3 0 rfl rfl)
theorem dX4_lays_72 : decode cX4_lays 72 = .ok (.i2l, 1) := dk_133 (dk_at dksX4_lays_3 1 rfl rfl)
theorem dX4_lays_73 : decode cX4_lays 73 = .ok (.invokestatic 140, 3) := dk_184 0 140 (dk_at dksX4_lays_3 2 rfl rfl)
theorem dX4_lays_76 : decode cX4_lays 76 = .ok (.ifCond .eq 30, 3) := dk_153 0 30 (dk_at dksX4_lays_3 5 rfl rfl)
theorem dX4_lays_79 : decode cX4_lays 79 = .ok (.aload_n 0, 1) := dk_42 (dk_at dksX4_lays_3 8 rfl rfl)
theorem dX4_lays_80 : decode cX4_lays 80 = .ok (.getfield 91, 3) := dk_180 0 91 (dk_at dksX4_lays_3 9 rfl rfl)
theorem dX4_lays_83 : decode cX4_lays 83 = .ok (.iload_n 3, 1) := dk_29 (dk_at dksX4_lays_3 12 rfl rfl)
theorem dX4_lays_84 : decode cX4_lays 84 = .ok (.iaload, 1) := dk_46 (dk_at dksX4_lays_3 13 rfl rfl)
theorem dX4_lays_85 : decode cX4_lays 85 = .ok (.aload_n 0, 1) := dk_42 (dk_at dksX4_lays_3 14 rfl rfl)
theorem dX4_lays_86 : decode cX4_lays 86 = .ok (.getfield 27, 3) := dk_180 0 27 (dk_at dksX4_lays_3 15 rfl rfl)
theorem dX4_lays_89 : decode cX4_lays 89 = .ok (.iload_n 2, 1) := dk_28 (dk_at dksX4_lays_3 18 rfl rfl)
theorem dX4_lays_90 : decode cX4_lays 90 = .ok (.iaload, 1) := dk_46 (dk_at dksX4_lays_3 19 rfl rfl)
theorem dX4_lays_91 : decode cX4_lays 91 = .ok (.if_icmp .le 15, 3) := dk_164 0 15 (dk_at dksX4_lays_3 20 rfl rfl)
theorem dX4_lays_94 : decode cX4_lays 94 = .ok (.aload_n 0, 1) := dk_42 (dk_at dksX4_lays_3 23 rfl rfl)
theorem dX4_lays_95 : decode cX4_lays 95 = .ok (.getfield 27, 3) := dk_180 0 27 (dk_at dksX4_lays_4 0 rfl rfl)
theorem dX4_lays_98 : decode cX4_lays 98 = .ok (.iload_n 2, 1) := dk_28 (dk_at dksX4_lays_4 3 rfl rfl)
theorem dX4_lays_99 : decode cX4_lays 99 = .ok (.aload_n 0, 1) := dk_42 (dk_at dksX4_lays_4 4 rfl rfl)
theorem dX4_lays_100 : decode cX4_lays 100 = .ok (.getfield 91, 3) := dk_180 0 91 (dk_at dksX4_lays_4 5 rfl rfl)
theorem dX4_lays_103 : decode cX4_lays 103 = .ok (.iload_n 3, 1) := dk_29 (dk_at dksX4_lays_4 8 rfl rfl)
theorem dX4_lays_104 : decode cX4_lays 104 = .ok (.iaload, 1) := dk_46 (dk_at dksX4_lays_4 9 rfl rfl)
theorem dX4_lays_105 : decode cX4_lays 105 = .ok (.iastore, 1) := dk_79 (dk_at dksX4_lays_4 10 rfl rfl)
theorem dX4_lays_106 : decode cX4_lays 106 = .ok (.iinc 3 1, 3) := dk_132 3 1 (dk_at dksX4_lays_4 11 rfl rfl)
theorem dX4_lays_109 : decode cX4_lays 109 = .ok (.goto (-78), 3) := dk_167 255 178 (dk_at dksX4_lays_4 14 rfl rfl)
theorem dX4_lays_112 : decode cX4_lays 112 = .ok (.iconst 0, 1) := dk_3 (dk_at dksX4_lays_4 17 rfl rfl)
theorem dX4_lays_113 : decode cX4_lays 113 = .ok (.istore_n 3, 1) := dk_62 (dk_at dksX4_lays_4 18 rfl rfl)
theorem dX4_lays_114 : decode cX4_lays 114 = .ok (.iload_n 3, 1) := dk_29 (dk_at dksX4_lays_4 19 rfl rfl)
theorem dX4_lays_115 : decode cX4_lays 115 = .ok (.aload_n 0, 1) := dk_42 (dk_at dksX4_lays_4 20 rfl rfl)
theorem dX4_lays_116 : decode cX4_lays 116 = .ok (.getfield 24, 3) := dk_180 0 24 (dk_at dksX4_lays_4 21 rfl rfl)
theorem dX4_lays_119 : decode cX4_lays 119 = .ok (.if_icmp .gt 33, 3) := dk_163 0 33 (dk_at dksX4_lays_5 0 rfl rfl)
theorem dX4_lays_122 : decode cX4_lays 122 = .ok (.aload_n 0, 1) := dk_42 (dk_at dksX4_lays_5 3 rfl rfl)
theorem dX4_lays_123 : decode cX4_lays 123 = .ok (.getfield 30, 3) := dk_180 0 30 (dk_at dksX4_lays_5 4 rfl rfl)
theorem dX4_lays_126 : decode cX4_lays 126 = .ok (.bipush 100, 2) := dk_16 100 (dk_at dksX4_lays_5 7 rfl rfl)
theorem dX4_lays_128 : decode cX4_lays 128 = .ok (.iload_n 3, 1) := dk_29 (dk_at dksX4_lays_5 9 rfl rfl)
theorem dX4_lays_129 : decode cX4_lays 129 = .ok (.imul, 1) := dk_104 (dk_at dksX4_lays_5 10 rfl rfl)
theorem dX4_lays_130 : decode cX4_lays 130 = .ok (.iload_n 2, 1) := dk_28 (dk_at dksX4_lays_5 11 rfl rfl)
theorem dX4_lays_131 : decode cX4_lays 131 = .ok (.iadd, 1) := dk_96 (dk_at dksX4_lays_5 12 rfl rfl)
theorem dX4_lays_132 : decode cX4_lays 132 = .ok (.iconst 0, 1) := dk_3 (dk_at dksX4_lays_5 13 rfl rfl)
theorem dX4_lays_133 : decode cX4_lays 133 = .ok (.iastore, 1) := dk_79 (dk_at dksX4_lays_5 14 rfl rfl)
theorem dX4_lays_134 : decode cX4_lays 134 = .ok (.aload_n 0, 1) := dk_42 (dk_at dksX4_lays_5 15 rfl rfl)
theorem dX4_lays_135 : decode cX4_lays 135 = .ok (.getfield 33, 3) := dk_180 0 33 (dk_at dksX4_lays_5 16 rfl rfl)
theorem dX4_lays_138 : decode cX4_lays 138 = .ok (.bipush 100, 2) := dk_16 100 (dk_at dksX4_lays_5 19 rfl rfl)
theorem dX4_lays_140 : decode cX4_lays 140 = .ok (.iload_n 3, 1) := dk_29 (dk_at dksX4_lays_5 21 rfl rfl)
theorem dX4_lays_141 : decode cX4_lays 141 = .ok (.imul, 1) := dk_104 (dk_at dksX4_lays_5 22 rfl rfl)
theorem dX4_lays_142 : decode cX4_lays 142 = .ok (.iload_n 2, 1) := dk_28 (dk_at dksX4_lays_5 23 rfl rfl)
theorem dX4_lays_143 : decode cX4_lays 143 = .ok (.iadd, 1) := dk_96 (dk_at dksX4_lays_6 0 rfl rfl)
theorem dX4_lays_144 : decode cX4_lays 144 = .ok (.iconst 0, 1) := dk_3 (dk_at dksX4_lays_6 1 rfl rfl)
theorem dX4_lays_145 : decode cX4_lays 145 = .ok (.iastore, 1) := dk_79 (dk_at dksX4_lays_6 2 rfl rfl)
theorem dX4_lays_146 : decode cX4_lays 146 = .ok (.iinc 3 1, 3) := dk_132 3 1 (dk_at dksX4_lays_6 3 rfl rfl)
theorem dX4_lays_149 : decode cX4_lays 149 = .ok (.goto (-35), 3) := dk_167 255 221 (dk_at dksX4_lays_6 6 rfl rfl)
theorem dX4_lays_152 : decode cX4_lays 152 = .ok (.iconst 0, 1) := dk_3 (dk_at dksX4_lays_6 9 rfl rfl)
theorem dX4_lays_153 : decode cX4_lays 153 = .ok (.istore_n 3, 1) := dk_62 (dk_at dksX4_lays_6 10 rfl rfl)
theorem dX4_lays_154 : decode cX4_lays 154 = .ok (.iload_n 3, 1) := dk_29 (dk_at dksX4_lays_6 11 rfl rfl)
theorem dX4_lays_155 : decode cX4_lays 155 = .ok (.aload_n 0, 1) := dk_42 (dk_at dksX4_lays_6 12 rfl rfl)
theorem dX4_lays_156 : decode cX4_lays 156 = .ok (.getfield 24, 3) := dk_180 0 24 (dk_at dksX4_lays_6 13 rfl rfl)
theorem dX4_lays_159 : decode cX4_lays 159 = .ok (.if_icmp .ge 104, 3) := dk_162 0 104 (dk_at dksX4_lays_6 16 rfl rfl)
theorem dX4_lays_162 : decode cX4_lays 162 = .ok (.aload_n 0, 1) := dk_42 (dk_at dksX4_lays_6 19 rfl rfl)
theorem dX4_lays_163 : decode cX4_lays 163 = .ok (.iload_n 3, 1) := dk_29 (dk_at dksX4_lays_6 20 rfl rfl)
theorem dX4_lays_164 : decode cX4_lays 164 = .ok (.iload_n 2, 1) := dk_28 (dk_at dksX4_lays_6 21 rfl rfl)
theorem dX4_lays_165 : decode cX4_lays 165 = .ok (.iload_n 1, 1) := dk_27 (dk_at dksX4_lays_6 22 rfl rfl)
theorem dX4_lays_166 : decode cX4_lays 166 = .ok (.invokevirtual 192, 3) := dk_182 0 192 (dk_at dksX4_lays_7 0 rfl rfl)
theorem dX4_lays_169 : decode cX4_lays 169 = .ok (.istore 4, 2) := dk_54 4 (dk_at dksX4_lays_7 3 rfl rfl)
theorem dX4_lays_171 : decode cX4_lays 171 = .ok (.aload_n 0, 1) := dk_42 (dk_at dksX4_lays_7 5 rfl rfl)
theorem dX4_lays_172 : decode cX4_lays 172 = .ok (.iload_n 3, 1) := dk_29 (dk_at dksX4_lays_7 6 rfl rfl)
theorem dX4_lays_173 : decode cX4_lays 173 = .ok (.iload_n 2, 1) := dk_28 (dk_at dksX4_lays_7 7 rfl rfl)
theorem dX4_lays_174 : decode cX4_lays 174 = .ok (.iload_n 1, 1) := dk_27 (dk_at dksX4_lays_7 8 rfl rfl)
theorem dX4_lays_175 : decode cX4_lays 175 = .ok (.invokevirtual 185, 3) := dk_182 0 185 (dk_at dksX4_lays_7 9 rfl rfl)
theorem dX4_lays_178 : decode cX4_lays 178 = .ok (.iconst (-1), 1) := dk_2 (dk_at dksX4_lays_7 12 rfl rfl)
theorem dX4_lays_179 : decode cX4_lays 179 = .ok (.if_icmp .eq 15, 3) := dk_159 0 15 (dk_at dksX4_lays_7 13 rfl rfl)
theorem dX4_lays_182 : decode cX4_lays 182 = .ok (.aload_n 0, 1) := dk_42 (dk_at dksX4_lays_7 16 rfl rfl)
theorem dX4_lays_183 : decode cX4_lays 183 = .ok (.getfield 42, 3) := dk_180 0 42 (dk_at dksX4_lays_7 17 rfl rfl)
theorem dX4_lays_186 : decode cX4_lays 186 = .ok (.iload_n 2, 1) := dk_28 (dk_at dksX4_lays_7 20 rfl rfl)
theorem dX4_lays_187 : decode cX4_lays 187 = .ok (.dup2, 1) := dk_92 (dk_at dksX4_lays_7 21 rfl rfl)
theorem dX4_lays_188 : decode cX4_lays 188 = .ok (.iaload, 1) := dk_46 (dk_at dksX4_lays_7 22 rfl rfl)
theorem dX4_lays_189 : decode cX4_lays 189 = .ok (.iconst 1, 1) := dk_4 (dk_at dksX4_lays_7 23 rfl rfl)
theorem dX4_lays_190 : decode cX4_lays 190 = .ok (.iload_n 3, 1) := dk_29 (dk_at dksX4_lays_8 0 rfl rfl)
theorem dX4_lays_191 : decode cX4_lays 191 = .ok (.ishl, 1) := dk_120 (dk_at dksX4_lays_8 1 rfl rfl)
theorem dX4_lays_192 : decode cX4_lays 192 = .ok (.ior, 1) := dk_128 (dk_at dksX4_lays_8 2 rfl rfl)
theorem dX4_lays_193 : decode cX4_lays 193 = .ok (.iastore, 1) := dk_79 (dk_at dksX4_lays_8 3 rfl rfl)
theorem dX4_lays_194 : decode cX4_lays 194 = .ok (.iload 4, 2) := dk_21 4 (dk_at dksX4_lays_8 4 rfl rfl)
theorem dX4_lays_196 : decode cX4_lays 196 = .ok (.iconst (-1), 1) := dk_2 (dk_at dksX4_lays_8 6 rfl rfl)
theorem dX4_lays_197 : decode cX4_lays 197 = .ok (.if_icmp .ne 6, 3) := dk_160 0 6 (dk_at dksX4_lays_8 7 rfl rfl)
theorem dX4_lays_200 : decode cX4_lays 200 = .ok (.goto 57, 3) := dk_167 0 57 (dk_at dksX4_lays_8 10 rfl rfl)
theorem dX4_lays_203 : decode cX4_lays 203 = .ok (.aload_n 0, 1) := dk_42 (dk_at dksX4_lays_8 13 rfl rfl)
theorem dX4_lays_204 : decode cX4_lays 204 = .ok (.getfield 30, 3) := dk_180 0 30 (dk_at dksX4_lays_8 14 rfl rfl)
theorem dX4_lays_207 : decode cX4_lays 207 = .ok (.bipush 100, 2) := dk_16 100 (dk_at dksX4_lays_8 17 rfl rfl)
theorem dX4_lays_209 : decode cX4_lays 209 = .ok (.iload 4, 2) := dk_21 4 (dk_at dksX4_lays_8 19 rfl rfl)
theorem dX4_lays_211 : decode cX4_lays 211 = .ok (.imul, 1) := dk_104 (dk_at dksX4_lays_8 21 rfl rfl)
theorem dX4_lays_212 : decode cX4_lays 212 = .ok (.iload_n 2, 1) := dk_28 (dk_at dksX4_lays_8 22 rfl rfl)
theorem dX4_lays_213 : decode cX4_lays 213 = .ok (.iadd, 1) := dk_96 (dk_at dksX4_lays_8 23 rfl rfl)
theorem dX4_lays_214 : decode cX4_lays 214 = .ok (.dup2, 1) := dk_92 (dk_at dksX4_lays_9 0 rfl rfl)
theorem dX4_lays_215 : decode cX4_lays 215 = .ok (.iaload, 1) := dk_46 (dk_at dksX4_lays_9 1 rfl rfl)
theorem dX4_lays_216 : decode cX4_lays 216 = .ok (.iconst 1, 1) := dk_4 (dk_at dksX4_lays_9 2 rfl rfl)
theorem dX4_lays_217 : decode cX4_lays 217 = .ok (.iload_n 3, 1) := dk_29 (dk_at dksX4_lays_9 3 rfl rfl)
theorem dX4_lays_218 : decode cX4_lays 218 = .ok (.ishl, 1) := dk_120 (dk_at dksX4_lays_9 4 rfl rfl)
theorem dX4_lays_219 : decode cX4_lays 219 = .ok (.ior, 1) := dk_128 (dk_at dksX4_lays_9 5 rfl rfl)
theorem dX4_lays_220 : decode cX4_lays 220 = .ok (.iastore, 1) := dk_79 (dk_at dksX4_lays_9 6 rfl rfl)
theorem dX4_lays_221 : decode cX4_lays 221 = .ok (.aload_n 0, 1) := dk_42 (dk_at dksX4_lays_9 7 rfl rfl)
theorem dX4_lays_222 : decode cX4_lays 222 = .ok (.getfield 27, 3) := dk_180 0 27 (dk_at dksX4_lays_9 8 rfl rfl)
theorem dX4_lays_225 : decode cX4_lays 225 = .ok (.iload_n 2, 1) := dk_28 (dk_at dksX4_lays_9 11 rfl rfl)
theorem dX4_lays_226 : decode cX4_lays 226 = .ok (.iaload, 1) := dk_46 (dk_at dksX4_lays_9 12 rfl rfl)
theorem dX4_lays_227 : decode cX4_lays 227 = .ok (.aload_n 0, 1) := dk_42 (dk_at dksX4_lays_9 13 rfl rfl)
theorem dX4_lays_228 : decode cX4_lays 228 = .ok (.getfield 17, 3) := dk_180 0 17 (dk_at dksX4_lays_9 14 rfl rfl)
theorem dX4_lays_231 : decode cX4_lays 231 = .ok (.bipush 100, 2) := dk_16 100 (dk_at dksX4_lays_9 17 rfl rfl)
theorem dX4_lays_233 : decode cX4_lays 233 = .ok (.iload_n 3, 1) := dk_29 (dk_at dksX4_lays_9 19 rfl rfl)
theorem dX4_lays_234 : decode cX4_lays 234 = .ok (.iadd, 1) := dk_96 (dk_at dksX4_lays_9 20 rfl rfl)
theorem dX4_lays_235 : decode cX4_lays 235 = .ok (.iaload, 1) := dk_46 (dk_at dksX4_lays_9 21 rfl rfl)
theorem dX4_lays_236 : decode cX4_lays 236 = .ok (.if_icmp .lt 21, 3) := dk_161 0 21 (dk_at dksX4_lays_10 0 rfl rfl)
theorem dX4_lays_239 : decode cX4_lays 239 = .ok (.aload_n 0, 1) := dk_42 (dk_at dksX4_lays_10 3 rfl rfl)
theorem dX4_lays_240 : decode cX4_lays 240 = .ok (.getfield 33, 3) := dk_180 0 33 (dk_at dksX4_lays_10 4 rfl rfl)
theorem dX4_lays_243 : decode cX4_lays 243 = .ok (.bipush 100, 2) := dk_16 100 (dk_at dksX4_lays_10 7 rfl rfl)
theorem dX4_lays_245 : decode cX4_lays 245 = .ok (.iload 4, 2) := dk_21 4 (dk_at dksX4_lays_10 9 rfl rfl)
theorem dX4_lays_247 : decode cX4_lays 247 = .ok (.imul, 1) := dk_104 (dk_at dksX4_lays_10 11 rfl rfl)
theorem dX4_lays_248 : decode cX4_lays 248 = .ok (.iload_n 2, 1) := dk_28 (dk_at dksX4_lays_10 12 rfl rfl)
theorem dX4_lays_249 : decode cX4_lays 249 = .ok (.iadd, 1) := dk_96 (dk_at dksX4_lays_10 13 rfl rfl)
theorem dX4_lays_250 : decode cX4_lays 250 = .ok (.dup2, 1) := dk_92 (dk_at dksX4_lays_10 14 rfl rfl)
theorem dX4_lays_251 : decode cX4_lays 251 = .ok (.iaload, 1) := dk_46 (dk_at dksX4_lays_10 15 rfl rfl)
theorem dX4_lays_252 : decode cX4_lays 252 = .ok (.iconst 1, 1) := dk_4 (dk_at dksX4_lays_10 16 rfl rfl)
theorem dX4_lays_253 : decode cX4_lays 253 = .ok (.iload_n 3, 1) := dk_29 (dk_at dksX4_lays_10 17 rfl rfl)
theorem dX4_lays_254 : decode cX4_lays 254 = .ok (.ishl, 1) := dk_120 (dk_at dksX4_lays_10 18 rfl rfl)
theorem dX4_lays_255 : decode cX4_lays 255 = .ok (.ior, 1) := dk_128 (dk_at dksX4_lays_10 19 rfl rfl)
theorem dX4_lays_256 : decode cX4_lays 256 = .ok (.iastore, 1) := dk_79 (dk_at dksX4_lays_10 20 rfl rfl)
theorem dX4_lays_257 : decode cX4_lays 257 = .ok (.iinc 3 1, 3) := dk_132 3 1 (dk_at dksX4_lays_10 21 rfl rfl)
theorem dX4_lays_260 : decode cX4_lays 260 = .ok (.goto (-106), 3) := dk_167 255 150 (dk_at dksX4_lays_11 0 rfl rfl)
theorem dX4_lays_263 : decode cX4_lays 263 = .ok (.iconst 0, 1) := dk_3 (dk_at dksX4_lays_11 3 rfl rfl)
theorem dX4_lays_264 : decode cX4_lays 264 = .ok (.istore_n 3, 1) := dk_62 (dk_at dksX4_lays_11 4 rfl rfl)
theorem dX4_lays_265 : decode cX4_lays 265 = .ok (.iload_n 3, 1) := dk_29 (dk_at dksX4_lays_11 5 rfl rfl)
theorem dX4_lays_266 : decode cX4_lays 266 = .ok (.iconst 2, 1) := dk_5 (dk_at dksX4_lays_11 6 rfl rfl)
theorem dX4_lays_267 : decode cX4_lays 267 = .ok (.aload_n 0, 1) := dk_42 (dk_at dksX4_lays_11 7 rfl rfl)
theorem dX4_lays_268 : decode cX4_lays 268 = .ok (.getfield 24, 3) := dk_180 0 24 (dk_at dksX4_lays_11 8 rfl rfl)
theorem dX4_lays_271 : decode cX4_lays 271 = .ok (.imul, 1) := dk_104 (dk_at dksX4_lays_11 11 rfl rfl)
theorem dX4_lays_272 : decode cX4_lays 272 = .ok (.if_icmp .ge 68, 3) := dk_162 0 68 (dk_at dksX4_lays_11 12 rfl rfl)
theorem dX4_lays_275 : decode cX4_lays 275 = .ok (.aload_n 0, 1) := dk_42 (dk_at dksX4_lays_11 15 rfl rfl)
theorem dX4_lays_276 : decode cX4_lays 276 = .ok (.getfield 45, 3) := dk_180 0 45 (dk_at dksX4_lays_11 16 rfl rfl)
theorem dX4_lays_279 : decode cX4_lays 279 = .ok (.bipush 100, 2) := dk_16 100 (dk_at dksX4_lays_11 19 rfl rfl)
theorem dX4_lays_281 : decode cX4_lays 281 = .ok (.iload_n 3, 1) := dk_29 (dk_at dksX4_lays_11 21 rfl rfl)
theorem dX4_lays_282 : decode cX4_lays 282 = .ok (.imul, 1) := dk_104 (dk_at dksX4_lays_11 22 rfl rfl)
theorem dX4_lays_283 : decode cX4_lays 283 = .ok (.iload_n 2, 1) := dk_28 (dk_at dksX4_lays_11 23 rfl rfl)
theorem dX4_lays_284 : decode cX4_lays 284 = .ok (.iadd, 1) := dk_96 (dk_at dksX4_lays_12 0 rfl rfl)
theorem dX4_lays_285 : decode cX4_lays 285 = .ok (.aload_n 0, 1) := dk_42 (dk_at dksX4_lays_12 1 rfl rfl)
theorem dX4_lays_286 : decode cX4_lays 286 = .ok (.getfield 17, 3) := dk_180 0 17 (dk_at dksX4_lays_12 2 rfl rfl)
theorem dX4_lays_289 : decode cX4_lays 289 = .ok (.sipush 2870, 3) := dk_17 11 54 (dk_at dksX4_lays_12 5 rfl rfl)
theorem dX4_lays_292 : decode cX4_lays 292 = .ok (.bipush 100, 2) := dk_16 100 (dk_at dksX4_lays_12 8 rfl rfl)
theorem dX4_lays_294 : decode cX4_lays 294 = .ok (.iload_n 3, 1) := dk_29 (dk_at dksX4_lays_12 10 rfl rfl)
theorem dX4_lays_295 : decode cX4_lays 295 = .ok (.imul, 1) := dk_104 (dk_at dksX4_lays_12 11 rfl rfl)
theorem dX4_lays_296 : decode cX4_lays 296 = .ok (.iadd, 1) := dk_96 (dk_at dksX4_lays_12 12 rfl rfl)
theorem dX4_lays_297 : decode cX4_lays 297 = .ok (.iload_n 2, 1) := dk_28 (dk_at dksX4_lays_12 13 rfl rfl)
theorem dX4_lays_298 : decode cX4_lays 298 = .ok (.iadd, 1) := dk_96 (dk_at dksX4_lays_12 14 rfl rfl)
theorem dX4_lays_299 : decode cX4_lays 299 = .ok (.iaload, 1) := dk_46 (dk_at dksX4_lays_12 15 rfl rfl)
theorem dX4_lays_300 : decode cX4_lays 300 = .ok (.iconst (-1), 1) := dk_2 (dk_at dksX4_lays_12 16 rfl rfl)
theorem dX4_lays_301 : decode cX4_lays 301 = .ok (.if_icmp .ne 7, 3) := dk_160 0 7 (dk_at dksX4_lays_12 17 rfl rfl)
theorem dX4_lays_304 : decode cX4_lays 304 = .ok (.iconst 1, 1) := dk_4 (dk_at dksX4_lays_12 20 rfl rfl)
theorem dX4_lays_305 : decode cX4_lays 305 = .ok (.goto 4, 3) := dk_167 0 4 (dk_at dksX4_lays_12 21 rfl rfl)
theorem dX4_lays_308 : decode cX4_lays 308 = .ok (.iconst 0, 1) := dk_3 (dk_at dksX4_lays_13 0 rfl rfl)
theorem dX4_lays_309 : decode cX4_lays 309 = .ok (.bastore, 1) := dk_84 (dk_at dksX4_lays_13 1 rfl rfl)
theorem dX4_lays_310 : decode cX4_lays 310 = .ok (.aload_n 0, 1) := dk_42 (dk_at dksX4_lays_13 2 rfl rfl)
theorem dX4_lays_311 : decode cX4_lays 311 = .ok (.getfield 48, 3) := dk_180 0 48 (dk_at dksX4_lays_13 3 rfl rfl)
theorem dX4_lays_314 : decode cX4_lays 314 = .ok (.bipush 100, 2) := dk_16 100 (dk_at dksX4_lays_13 6 rfl rfl)
theorem dX4_lays_316 : decode cX4_lays 316 = .ok (.iload_n 3, 1) := dk_29 (dk_at dksX4_lays_13 8 rfl rfl)
theorem dX4_lays_317 : decode cX4_lays 317 = .ok (.imul, 1) := dk_104 (dk_at dksX4_lays_13 9 rfl rfl)
theorem dX4_lays_318 : decode cX4_lays 318 = .ok (.iload_n 2, 1) := dk_28 (dk_at dksX4_lays_13 10 rfl rfl)
theorem dX4_lays_319 : decode cX4_lays 319 = .ok (.iadd, 1) := dk_96 (dk_at dksX4_lays_13 11 rfl rfl)
theorem dX4_lays_320 : decode cX4_lays 320 = .ok (.iconst 0, 1) := dk_3 (dk_at dksX4_lays_13 12 rfl rfl)
theorem dX4_lays_321 : decode cX4_lays 321 = .ok (.bastore, 1) := dk_84 (dk_at dksX4_lays_13 13 rfl rfl)
theorem dX4_lays_322 : decode cX4_lays 322 = .ok (.aload_n 0, 1) := dk_42 (dk_at dksX4_lays_13 14 rfl rfl)
theorem dX4_lays_323 : decode cX4_lays 323 = .ok (.getfield 39, 3) := dk_180 0 39 (dk_at dksX4_lays_13 15 rfl rfl)
theorem dX4_lays_326 : decode cX4_lays 326 = .ok (.bipush 100, 2) := dk_16 100 (dk_at dksX4_lays_13 18 rfl rfl)
theorem dX4_lays_328 : decode cX4_lays 328 = .ok (.iload_n 3, 1) := dk_29 (dk_at dksX4_lays_13 20 rfl rfl)
theorem dX4_lays_329 : decode cX4_lays 329 = .ok (.imul, 1) := dk_104 (dk_at dksX4_lays_13 21 rfl rfl)
theorem dX4_lays_330 : decode cX4_lays 330 = .ok (.iload_n 2, 1) := dk_28 (dk_at dksX4_lays_13 22 rfl rfl)
theorem dX4_lays_331 : decode cX4_lays 331 = .ok (.iadd, 1) := dk_96 (dk_at dksX4_lays_13 23 rfl rfl)
theorem dX4_lays_332 : decode cX4_lays 332 = .ok (.iconst 0, 1) := dk_3 (dk_at dksX4_lays_14 0 rfl rfl)
theorem dX4_lays_333 : decode cX4_lays 333 = .ok (.iastore, 1) := dk_79 (dk_at dksX4_lays_14 1 rfl rfl)
theorem dX4_lays_334 : decode cX4_lays 334 = .ok (.iinc 3 1, 3) := dk_132 3 1 (dk_at dksX4_lays_14 2 rfl rfl)
theorem dX4_lays_337 : decode cX4_lays 337 = .ok (.goto (-72), 3) := dk_167 255 184 (dk_at dksX4_lays_14 5 rfl rfl)
theorem dX4_lays_340 : decode cX4_lays 340 = .ok (.iconst 0, 1) := dk_3 (dk_at dksX4_lays_14 8 rfl rfl)
theorem dX4_lays_341 : decode cX4_lays 341 = .ok (.istore_n 3, 1) := dk_62 (dk_at dksX4_lays_14 9 rfl rfl)
theorem dX4_lays_342 : decode cX4_lays 342 = .ok (.iload_n 3, 1) := dk_29 (dk_at dksX4_lays_14 10 rfl rfl)
theorem dX4_lays_343 : decode cX4_lays 343 = .ok (.iconst 2, 1) := dk_5 (dk_at dksX4_lays_14 11 rfl rfl)
theorem dX4_lays_344 : decode cX4_lays 344 = .ok (.aload_n 0, 1) := dk_42 (dk_at dksX4_lays_14 12 rfl rfl)
theorem dX4_lays_345 : decode cX4_lays 345 = .ok (.getfield 24, 3) := dk_180 0 24 (dk_at dksX4_lays_14 13 rfl rfl)
theorem dX4_lays_348 : decode cX4_lays 348 = .ok (.imul, 1) := dk_104 (dk_at dksX4_lays_14 16 rfl rfl)
theorem dX4_lays_349 : decode cX4_lays 349 = .ok (.if_icmp .ge 68, 3) := dk_162 0 68 (dk_at dksX4_lays_14 17 rfl rfl)
theorem dX4_lays_352 : decode cX4_lays 352 = .ok (.aload_n 0, 1) := dk_42 (dk_at dksX4_lays_14 20 rfl rfl)
theorem dX4_lays_353 : decode cX4_lays 353 = .ok (.getfield 17, 3) := dk_180 0 17 (dk_at dksX4_lays_14 21 rfl rfl)
theorem dX4_lays_356 : decode cX4_lays 356 = .ok (.sipush 2870, 3) := dk_17 11 54 (dk_at dksX4_lays_15 0 rfl rfl)
theorem dX4_lays_359 : decode cX4_lays 359 = .ok (.bipush 100, 2) := dk_16 100 (dk_at dksX4_lays_15 3 rfl rfl)
theorem dX4_lays_361 : decode cX4_lays 361 = .ok (.iload_n 3, 1) := dk_29 (dk_at dksX4_lays_15 5 rfl rfl)
theorem dX4_lays_362 : decode cX4_lays 362 = .ok (.imul, 1) := dk_104 (dk_at dksX4_lays_15 6 rfl rfl)
theorem dX4_lays_363 : decode cX4_lays 363 = .ok (.iadd, 1) := dk_96 (dk_at dksX4_lays_15 7 rfl rfl)
theorem dX4_lays_364 : decode cX4_lays 364 = .ok (.iload_n 2, 1) := dk_28 (dk_at dksX4_lays_15 8 rfl rfl)
theorem dX4_lays_365 : decode cX4_lays 365 = .ok (.iadd, 1) := dk_96 (dk_at dksX4_lays_15 9 rfl rfl)
theorem dX4_lays_366 : decode cX4_lays 366 = .ok (.iaload, 1) := dk_46 (dk_at dksX4_lays_15 10 rfl rfl)
theorem dX4_lays_367 : decode cX4_lays 367 = .ok (.istore 4, 2) := dk_54 4 (dk_at dksX4_lays_15 11 rfl rfl)
theorem dX4_lays_369 : decode cX4_lays 369 = .ok (.iload 4, 2) := dk_21 4 (dk_at dksX4_lays_15 13 rfl rfl)
theorem dX4_lays_371 : decode cX4_lays 371 = .ok (.iconst (-1), 1) := dk_2 (dk_at dksX4_lays_15 15 rfl rfl)
theorem dX4_lays_372 : decode cX4_lays 372 = .ok (.if_icmp .ne 6, 3) := dk_160 0 6 (dk_at dksX4_lays_15 16 rfl rfl)
theorem dX4_lays_375 : decode cX4_lays 375 = .ok (.goto 36, 3) := dk_167 0 36 (dk_at dksX4_lays_15 19 rfl rfl)
theorem dX4_lays_378 : decode cX4_lays 378 = .ok (.aload_n 0, 1) := dk_42 (dk_at dksX4_lays_15 22 rfl rfl)
theorem dX4_lays_379 : decode cX4_lays 379 = .ok (.getfield 39, 3) := dk_180 0 39 (dk_at dksX4_lays_16 0 rfl rfl)
theorem dX4_lays_382 : decode cX4_lays 382 = .ok (.bipush 100, 2) := dk_16 100 (dk_at dksX4_lays_16 3 rfl rfl)
theorem dX4_lays_384 : decode cX4_lays 384 = .ok (.iload 4, 2) := dk_21 4 (dk_at dksX4_lays_16 5 rfl rfl)
theorem dX4_lays_386 : decode cX4_lays 386 = .ok (.imul, 1) := dk_104 (dk_at dksX4_lays_16 7 rfl rfl)
theorem dX4_lays_387 : decode cX4_lays 387 = .ok (.iload_n 2, 1) := dk_28 (dk_at dksX4_lays_16 8 rfl rfl)
theorem dX4_lays_388 : decode cX4_lays 388 = .ok (.iadd, 1) := dk_96 (dk_at dksX4_lays_16 9 rfl rfl)
theorem dX4_lays_389 : decode cX4_lays 389 = .ok (.dup2, 1) := dk_92 (dk_at dksX4_lays_16 10 rfl rfl)
theorem dX4_lays_390 : decode cX4_lays 390 = .ok (.iaload, 1) := dk_46 (dk_at dksX4_lays_16 11 rfl rfl)
theorem dX4_lays_391 : decode cX4_lays 391 = .ok (.iconst 1, 1) := dk_4 (dk_at dksX4_lays_16 12 rfl rfl)
theorem dX4_lays_392 : decode cX4_lays 392 = .ok (.iload_n 3, 1) := dk_29 (dk_at dksX4_lays_16 13 rfl rfl)
theorem dX4_lays_393 : decode cX4_lays 393 = .ok (.iconst 2, 1) := dk_5 (dk_at dksX4_lays_16 14 rfl rfl)
theorem dX4_lays_394 : decode cX4_lays 394 = .ok (.idiv, 1) := dk_108 (dk_at dksX4_lays_16 15 rfl rfl)
theorem dX4_lays_395 : decode cX4_lays 395 = .ok (.ishl, 1) := dk_120 (dk_at dksX4_lays_16 16 rfl rfl)
theorem dX4_lays_396 : decode cX4_lays 396 = .ok (.ior, 1) := dk_128 (dk_at dksX4_lays_16 17 rfl rfl)
theorem dX4_lays_397 : decode cX4_lays 397 = .ok (.iastore, 1) := dk_79 (dk_at dksX4_lays_16 18 rfl rfl)
theorem dX4_lays_398 : decode cX4_lays 398 = .ok (.aload_n 0, 1) := dk_42 (dk_at dksX4_lays_16 19 rfl rfl)
theorem dX4_lays_399 : decode cX4_lays 399 = .ok (.getfield 45, 3) := dk_180 0 45 (dk_at dksX4_lays_16 20 rfl rfl)
theorem dX4_lays_402 : decode cX4_lays 402 = .ok (.bipush 100, 2) := dk_16 100 (dk_at dksX4_lays_17 0 rfl rfl)
theorem dX4_lays_404 : decode cX4_lays 404 = .ok (.iload 4, 2) := dk_21 4 (dk_at dksX4_lays_17 2 rfl rfl)
theorem dX4_lays_406 : decode cX4_lays 406 = .ok (.imul, 1) := dk_104 (dk_at dksX4_lays_17 4 rfl rfl)
theorem dX4_lays_407 : decode cX4_lays 407 = .ok (.iload_n 2, 1) := dk_28 (dk_at dksX4_lays_17 5 rfl rfl)
theorem dX4_lays_408 : decode cX4_lays 408 = .ok (.iadd, 1) := dk_96 (dk_at dksX4_lays_17 6 rfl rfl)
theorem dX4_lays_409 : decode cX4_lays 409 = .ok (.iconst 0, 1) := dk_3 (dk_at dksX4_lays_17 7 rfl rfl)
theorem dX4_lays_410 : decode cX4_lays 410 = .ok (.bastore, 1) := dk_84 (dk_at dksX4_lays_17 8 rfl rfl)
theorem dX4_lays_411 : decode cX4_lays 411 = .ok (.iinc 3 1, 3) := dk_132 3 1 (dk_at dksX4_lays_17 9 rfl rfl)
theorem dX4_lays_414 : decode cX4_lays 414 = .ok (.goto (-72), 3) := dk_167 255 184 (dk_at dksX4_lays_17 12 rfl rfl)
theorem dX4_lays_417 : decode cX4_lays 417 = .ok (.iconst 0, 1) := dk_3 (dk_at dksX4_lays_17 15 rfl rfl)
theorem dX4_lays_418 : decode cX4_lays 418 = .ok (.istore_n 3, 1) := dk_62 (dk_at dksX4_lays_17 16 rfl rfl)
theorem dX4_lays_419 : decode cX4_lays 419 = .ok (.iload_n 3, 1) := dk_29 (dk_at dksX4_lays_17 17 rfl rfl)
theorem dX4_lays_420 : decode cX4_lays 420 = .ok (.aload_n 0, 1) := dk_42 (dk_at dksX4_lays_17 18 rfl rfl)
theorem dX4_lays_421 : decode cX4_lays 421 = .ok (.getfield 122, 3) := dk_180 0 122 (dk_at dksX4_lays_17 19 rfl rfl)
theorem dX4_lays_424 : decode cX4_lays 424 = .ok (.if_icmp .ge 85, 3) := dk_162 0 85 (dk_at dksX4_lays_18 0 rfl rfl)
theorem dX4_lays_427 : decode cX4_lays 427 = .ok (.iload_n 1, 1) := dk_27 (dk_at dksX4_lays_18 3 rfl rfl)
theorem dX4_lays_428 : decode cX4_lays 428 = .ok (.iload_n 3, 1) := dk_29 (dk_at dksX4_lays_18 4 rfl rfl)
theorem dX4_lays_429 : decode cX4_lays 429 = .ok (.invokestatic 179, 3) := dk_184 0 179 (dk_at dksX4_lays_18 5 rfl rfl)
theorem dX4_lays_432 : decode cX4_lays 432 = .ok (.ifCond .eq 71, 3) := dk_153 0 71 (dk_at dksX4_lays_18 8 rfl rfl)
theorem dX4_lays_435 : decode cX4_lays 435 = .ok (.aload_n 0, 1) := dk_42 (dk_at dksX4_lays_18 11 rfl rfl)
theorem dX4_lays_436 : decode cX4_lays 436 = .ok (.getfield 85, 3) := dk_180 0 85 (dk_at dksX4_lays_18 12 rfl rfl)
theorem dX4_lays_439 : decode cX4_lays 439 = .ok (.iload_n 3, 1) := dk_29 (dk_at dksX4_lays_18 15 rfl rfl)
theorem dX4_lays_440 : decode cX4_lays 440 = .ok (.iaload, 1) := dk_46 (dk_at dksX4_lays_18 16 rfl rfl)
theorem dX4_lays_441 : decode cX4_lays 441 = .ok (.ifCond .ne 62, 3) := dk_154 0 62 (dk_at dksX4_lays_18 17 rfl rfl)
theorem dX4_lays_444 : decode cX4_lays 444 = .ok (.iload_n 2, 1) := dk_28 (dk_at dksX4_lays_18 20 rfl rfl)
theorem dX4_lays_445 : decode cX4_lays 445 = .ok (.i2l, 1) := dk_133 (dk_at dksX4_lays_18 21 rfl rfl)
theorem dX4_lays_446 : decode cX4_lays 446 = .ok (.aload_n 0, 1) := dk_42 (dk_at dksX4_lays_18 22 rfl rfl)
theorem dX4_lays_447 : decode cX4_lays 447 = .ok (.getfield 94, 3) := dk_180 0 94 (dk_at dksX4_lays_19 0 rfl rfl)
theorem dX4_lays_450 : decode cX4_lays 450 = .ok (.iload_n 3, 1) := dk_29 (dk_at dksX4_lays_19 3 rfl rfl)
theorem dX4_lays_451 : decode cX4_lays 451 = .ok (.iaload, 1) := dk_46 (dk_at dksX4_lays_19 4 rfl rfl)
theorem dX4_lays_452 : decode cX4_lays 452 = .ok (.i2l, 1) := dk_133 (dk_at dksX4_lays_19 5 rfl rfl)
theorem dX4_lays_453 : decode cX4_lays 453 = .ok (.aload_n 0, 1) := dk_42 (dk_at dksX4_lays_19 6 rfl rfl)
theorem dX4_lays_454 : decode cX4_lays 454 = .ok (.getfield 97, 3) := dk_180 0 97 (dk_at dksX4_lays_19 7 rfl rfl)
theorem dX4_lays_457 : decode cX4_lays 457 = .ok (.iload_n 3, 1) := dk_29 (dk_at dksX4_lays_19 10 rfl rfl)
theorem dX4_lays_458 : decode cX4_lays 458 = .ok (.iaload, 1) := dk_46 (dk_at dksX4_lays_19 11 rfl rfl)
theorem dX4_lays_459 : decode cX4_lays 459 = .ok (.i2l, 1) := dk_133 (dk_at dksX4_lays_19 12 rfl rfl)
theorem dX4_lays_460 : decode cX4_lays 460 = .ok (.invokestatic 140, 3) := dk_184 0 140 (dk_at dksX4_lays_19 13 rfl rfl)
theorem dX4_lays_463 : decode cX4_lays 463 = .ok (.ifCond .ne 6, 3) := dk_154 0 6 (dk_at dksX4_lays_19 16 rfl rfl)
theorem dX4_lays_466 : decode cX4_lays 466 = .ok (.goto 37, 3) := dk_167 0 37 (dk_at dksX4_lays_19 19 rfl rfl)
theorem dX4_lays_469 : decode cX4_lays 469 = .ok (.aload_n 0, 1) := dk_42 (dk_at dksX4_lays_19 22 rfl rfl)
theorem dX4_lays_470 : decode cX4_lays 470 = .ok (.getfield 45, 3) := dk_180 0 45 (dk_at dksX4_lays_20 0 rfl rfl)
theorem dX4_lays_473 : decode cX4_lays 473 = .ok (.bipush 100, 2) := dk_16 100 (dk_at dksX4_lays_20 3 rfl rfl)
theorem dX4_lays_475 : decode cX4_lays 475 = .ok (.aload_n 0, 1) := dk_42 (dk_at dksX4_lays_20 5 rfl rfl)
theorem dX4_lays_476 : decode cX4_lays 476 = .ok (.getfield 88, 3) := dk_180 0 88 (dk_at dksX4_lays_20 6 rfl rfl)
theorem dX4_lays_479 : decode cX4_lays 479 = .ok (.iload_n 3, 1) := dk_29 (dk_at dksX4_lays_20 9 rfl rfl)
theorem dX4_lays_480 : decode cX4_lays 480 = .ok (.iaload, 1) := dk_46 (dk_at dksX4_lays_20 10 rfl rfl)
theorem dX4_lays_481 : decode cX4_lays 481 = .ok (.imul, 1) := dk_104 (dk_at dksX4_lays_20 11 rfl rfl)
theorem dX4_lays_482 : decode cX4_lays 482 = .ok (.iload_n 2, 1) := dk_28 (dk_at dksX4_lays_20 12 rfl rfl)
theorem dX4_lays_483 : decode cX4_lays 483 = .ok (.iadd, 1) := dk_96 (dk_at dksX4_lays_20 13 rfl rfl)
theorem dX4_lays_484 : decode cX4_lays 484 = .ok (.iconst 0, 1) := dk_3 (dk_at dksX4_lays_20 14 rfl rfl)
theorem dX4_lays_485 : decode cX4_lays 485 = .ok (.bastore, 1) := dk_84 (dk_at dksX4_lays_20 15 rfl rfl)
theorem dX4_lays_486 : decode cX4_lays 486 = .ok (.aload_n 0, 1) := dk_42 (dk_at dksX4_lays_20 16 rfl rfl)
theorem dX4_lays_487 : decode cX4_lays 487 = .ok (.getfield 48, 3) := dk_180 0 48 (dk_at dksX4_lays_20 17 rfl rfl)
theorem dX4_lays_490 : decode cX4_lays 490 = .ok (.bipush 100, 2) := dk_16 100 (dk_at dksX4_lays_20 20 rfl rfl)
theorem dX4_lays_492 : decode cX4_lays 492 = .ok (.aload_n 0, 1) := dk_42 (dk_at dksX4_lays_20 22 rfl rfl)
theorem dX4_lays_493 : decode cX4_lays 493 = .ok (.getfield 88, 3) := dk_180 0 88 (dk_at dksX4_lays_21 0 rfl rfl)
theorem dX4_lays_496 : decode cX4_lays 496 = .ok (.iload_n 3, 1) := dk_29 (dk_at dksX4_lays_21 3 rfl rfl)
theorem dX4_lays_497 : decode cX4_lays 497 = .ok (.iaload, 1) := dk_46 (dk_at dksX4_lays_21 4 rfl rfl)
theorem dX4_lays_498 : decode cX4_lays 498 = .ok (.imul, 1) := dk_104 (dk_at dksX4_lays_21 5 rfl rfl)
theorem dX4_lays_499 : decode cX4_lays 499 = .ok (.iload_n 2, 1) := dk_28 (dk_at dksX4_lays_21 6 rfl rfl)
theorem dX4_lays_500 : decode cX4_lays 500 = .ok (.iadd, 1) := dk_96 (dk_at dksX4_lays_21 7 rfl rfl)
theorem dX4_lays_501 : decode cX4_lays 501 = .ok (.iconst 1, 1) := dk_4 (dk_at dksX4_lays_21 8 rfl rfl)
theorem dX4_lays_502 : decode cX4_lays 502 = .ok (.bastore, 1) := dk_84 (dk_at dksX4_lays_21 9 rfl rfl)
theorem dX4_lays_503 : decode cX4_lays 503 = .ok (.iinc 3 1, 3) := dk_132 3 1 (dk_at dksX4_lays_21 10 rfl rfl)
theorem dX4_lays_506 : decode cX4_lays 506 = .ok (.goto (-87), 3) := dk_167 255 169 (dk_at dksX4_lays_21 13 rfl rfl)
theorem dX4_lays_509 : decode cX4_lays 509 = .ok (.iconst 0, 1) := dk_3 (dk_at dksX4_lays_21 16 rfl rfl)
theorem dX4_lays_510 : decode cX4_lays 510 = .ok (.istore_n 3, 1) := dk_62 (dk_at dksX4_lays_21 17 rfl rfl)
theorem dX4_lays_511 : decode cX4_lays 511 = .ok (.iload_n 3, 1) := dk_29 (dk_at dksX4_lays_21 18 rfl rfl)
theorem dX4_lays_512 : decode cX4_lays 512 = .ok (.iconst 2, 1) := dk_5 (dk_at dksX4_lays_21 19 rfl rfl)
theorem dX4_lays_513 : decode cX4_lays 513 = .ok (.aload_n 0, 1) := dk_42 (dk_at dksX4_lays_21 20 rfl rfl)
theorem dX4_lays_514 : decode cX4_lays 514 = .ok (.getfield 24, 3) := dk_180 0 24 (dk_at dksX4_lays_21 21 rfl rfl)
theorem dX4_lays_517 : decode cX4_lays 517 = .ok (.imul, 1) := dk_104 (dk_at dksX4_lays_22 0 rfl rfl)
theorem dX4_lays_518 : decode cX4_lays 518 = .ok (.if_icmp .ge 53, 3) := dk_162 0 53 (dk_at dksX4_lays_22 1 rfl rfl)
theorem dX4_lays_521 : decode cX4_lays 521 = .ok (.aload_n 0, 1) := dk_42 (dk_at dksX4_lays_22 4 rfl rfl)
theorem dX4_lays_522 : decode cX4_lays 522 = .ok (.getfield 36, 3) := dk_180 0 36 (dk_at dksX4_lays_22 5 rfl rfl)
theorem dX4_lays_525 : decode cX4_lays 525 = .ok (.bipush 100, 2) := dk_16 100 (dk_at dksX4_lays_22 8 rfl rfl)
theorem dX4_lays_527 : decode cX4_lays 527 = .ok (.iload_n 3, 1) := dk_29 (dk_at dksX4_lays_22 10 rfl rfl)
theorem dX4_lays_528 : decode cX4_lays 528 = .ok (.imul, 1) := dk_104 (dk_at dksX4_lays_22 11 rfl rfl)
theorem dX4_lays_529 : decode cX4_lays 529 = .ok (.iload_n 2, 1) := dk_28 (dk_at dksX4_lays_22 12 rfl rfl)
theorem dX4_lays_530 : decode cX4_lays 530 = .ok (.iadd, 1) := dk_96 (dk_at dksX4_lays_22 13 rfl rfl)
theorem dX4_lays_531 : decode cX4_lays 531 = .ok (.aload_n 0, 1) := dk_42 (dk_at dksX4_lays_22 14 rfl rfl)
theorem dX4_lays_532 : decode cX4_lays 532 = .ok (.getfield 39, 3) := dk_180 0 39 (dk_at dksX4_lays_22 15 rfl rfl)
theorem dX4_lays_535 : decode cX4_lays 535 = .ok (.bipush 100, 2) := dk_16 100 (dk_at dksX4_lays_22 18 rfl rfl)
theorem dX4_lays_537 : decode cX4_lays 537 = .ok (.iload_n 3, 1) := dk_29 (dk_at dksX4_lays_22 20 rfl rfl)
theorem dX4_lays_538 : decode cX4_lays 538 = .ok (.imul, 1) := dk_104 (dk_at dksX4_lays_22 21 rfl rfl)
theorem dX4_lays_539 : decode cX4_lays 539 = .ok (.iload_n 2, 1) := dk_28 (dk_at dksX4_lays_22 22 rfl rfl)
theorem dX4_lays_540 : decode cX4_lays 540 = .ok (.iadd, 1) := dk_96 (dk_at dksX4_lays_22 23 rfl rfl)
theorem dX4_lays_541 : decode cX4_lays 541 = .ok (.iaload, 1) := dk_46 (dk_at dksX4_lays_23 0 rfl rfl)
theorem dX4_lays_542 : decode cX4_lays 542 = .ok (.aload_n 0, 1) := dk_42 (dk_at dksX4_lays_23 1 rfl rfl)
theorem dX4_lays_543 : decode cX4_lays 543 = .ok (.getfield 33, 3) := dk_180 0 33 (dk_at dksX4_lays_23 2 rfl rfl)
theorem dX4_lays_546 : decode cX4_lays 546 = .ok (.bipush 100, 2) := dk_16 100 (dk_at dksX4_lays_23 5 rfl rfl)
theorem dX4_lays_548 : decode cX4_lays 548 = .ok (.iload_n 3, 1) := dk_29 (dk_at dksX4_lays_23 7 rfl rfl)
theorem dX4_lays_549 : decode cX4_lays 549 = .ok (.iconst 2, 1) := dk_5 (dk_at dksX4_lays_23 8 rfl rfl)
theorem dX4_lays_550 : decode cX4_lays 550 = .ok (.idiv, 1) := dk_108 (dk_at dksX4_lays_23 9 rfl rfl)
theorem dX4_lays_551 : decode cX4_lays 551 = .ok (.imul, 1) := dk_104 (dk_at dksX4_lays_23 10 rfl rfl)
theorem dX4_lays_552 : decode cX4_lays 552 = .ok (.iload_n 2, 1) := dk_28 (dk_at dksX4_lays_23 11 rfl rfl)
theorem dX4_lays_553 : decode cX4_lays 553 = .ok (.iadd, 1) := dk_96 (dk_at dksX4_lays_23 12 rfl rfl)
theorem dX4_lays_554 : decode cX4_lays 554 = .ok (.iaload, 1) := dk_46 (dk_at dksX4_lays_23 13 rfl rfl)
theorem dX4_lays_555 : decode cX4_lays 555 = .ok (.iconst 1, 1) := dk_4 (dk_at dksX4_lays_23 14 rfl rfl)
theorem dX4_lays_556 : decode cX4_lays 556 = .ok (.iload_n 3, 1) := dk_29 (dk_at dksX4_lays_23 15 rfl rfl)
theorem dX4_lays_557 : decode cX4_lays 557 = .ok (.iconst 2, 1) := dk_5 (dk_at dksX4_lays_23 16 rfl rfl)
theorem dX4_lays_558 : decode cX4_lays 558 = .ok (.idiv, 1) := dk_108 (dk_at dksX4_lays_23 17 rfl rfl)
theorem dX4_lays_559 : decode cX4_lays 559 = .ok (.ishl, 1) := dk_120 (dk_at dksX4_lays_23 18 rfl rfl)
theorem dX4_lays_560 : decode cX4_lays 560 = .ok (.iconst (-1), 1) := dk_2 (dk_at dksX4_lays_23 19 rfl rfl)
theorem dX4_lays_561 : decode cX4_lays 561 = .ok (.ixor, 1) := dk_130 (dk_at dksX4_lays_23 20 rfl rfl)
theorem dX4_lays_562 : decode cX4_lays 562 = .ok (.iand, 1) := dk_126 (dk_at dksX4_lays_23 21 rfl rfl)
theorem dX4_lays_563 : decode cX4_lays 563 = .ok (.ior, 1) := dk_128 (dk_at dksX4_lays_23 22 rfl rfl)
theorem dX4_lays_564 : decode cX4_lays 564 = .ok (.iastore, 1) := dk_79 (dk_at dksX4_lays_23 23 rfl rfl)
theorem dX4_lays_565 : decode cX4_lays 565 = .ok (.iinc 3 1, 3) := dk_132 3 1 (dk_at dksX4_lays_24 0 rfl rfl)
theorem dX4_lays_568 : decode cX4_lays 568 = .ok (.goto (-57), 3) := dk_167 255 199 (dk_at dksX4_lays_24 3 rfl rfl)
theorem dX4_lays_571 : decode cX4_lays 571 = .ok (.iinc 2 1, 3) := dk_132 2 1 (dk_at dksX4_lays_24 6 rfl rfl)
theorem dX4_lays_574 : decode cX4_lays 574 = .ok (.goto (-572), 3) := dk_167 253 196 (dk_at dksX4_lays_24 9 rfl rfl)
theorem dX4_lays_577 : decode cX4_lays 577 = .ok (.return_, 1) := dk_177 (dk_at dksX4_lays_24 12 rfl rfl)
abbrev cX4_has : ByteArray := prog_26_method_3_code
def yX4_has : MethodName := ⟨RX4, "has", "(II)Z"⟩
def dkwX4_has_0 : List UInt8 := [26, 27, 122, 4, 126, 4, 160, 0, 7, 4, 167, 0, 4, 3, 172]
abbrev dktX4_has_0 : List UInt8 := dkwX4_has_0 ++ []
theorem dksX4_has_0 : cX4_has.data.toList.drop 0 = dktX4_has_0 := by decide +kernel
theorem dX4_has_0 : decode cX4_has 0 = .ok (.iload_n 0, 1) := dk_26 (dk_at dksX4_has_0 0 rfl rfl)
theorem dX4_has_1 : decode cX4_has 1 = .ok (.iload_n 1, 1) := dk_27 (dk_at dksX4_has_0 1 rfl rfl)
theorem dX4_has_2 : decode cX4_has 2 = .ok (.ishr, 1) := dk_122 (dk_at dksX4_has_0 2 rfl rfl)
theorem dX4_has_3 : decode cX4_has 3 = .ok (.iconst 1, 1) := dk_4 (dk_at dksX4_has_0 3 rfl rfl)
theorem dX4_has_4 : decode cX4_has 4 = .ok (.iand, 1) := dk_126 (dk_at dksX4_has_0 4 rfl rfl)
theorem dX4_has_5 : decode cX4_has 5 = .ok (.iconst 1, 1) := dk_4 (dk_at dksX4_has_0 5 rfl rfl)
theorem dX4_has_6 : decode cX4_has 6 = .ok (.if_icmp .ne 7, 3) := dk_160 0 7 (dk_at dksX4_has_0 6 rfl rfl)
theorem dX4_has_9 : decode cX4_has 9 = .ok (.iconst 1, 1) := dk_4 (dk_at dksX4_has_0 9 rfl rfl)
theorem dX4_has_10 : decode cX4_has 10 = .ok (.goto 4, 3) := dk_167 0 4 (dk_at dksX4_has_0 10 rfl rfl)
theorem dX4_has_13 : decode cX4_has 13 = .ok (.iconst 0, 1) := dk_3 (dk_at dksX4_has_0 13 rfl rfl)
theorem dX4_has_14 : decode cX4_has 14 = .ok (.ireturn, 1) := dk_172 (dk_at dksX4_has_0 14 rfl rfl)
abbrev cX4_eyesOf : ByteArray := prog_26_method_32_code
def yX4_eyesOf : MethodName := ⟨RX4, "eyesOf", "(III)I"⟩
def dkwX4_eyesOf_2 : List UInt8 := [28, 96, 46, 167, 0, 16, 42, 180, 0, 17, 17, 3, 252, 7, 21, 5, 104, 96, 46, 172]
abbrev dktX4_eyesOf_2 : List UInt8 := dkwX4_eyesOf_2 ++ []
def dkwX4_eyesOf_1 : List UInt8 := [27, 28, 182, 0, 189, 54, 5, 21, 5, 2, 160, 0, 20, 42, 180, 0, 17, 16, 120, 16, 100, 27, 104, 96]
abbrev dktX4_eyesOf_1 : List UInt8 := dkwX4_eyesOf_1 ++ dktX4_eyesOf_2
def dkwX4_eyesOf_0 : List UInt8 := [42, 27, 28, 29, 182, 0, 185, 54, 4, 21, 4, 2, 159, 0, 11, 42, 180, 0, 91, 21, 4, 46, 172, 42]
abbrev dktX4_eyesOf_0 : List UInt8 := dkwX4_eyesOf_0 ++ dktX4_eyesOf_1
theorem dksX4_eyesOf_0 : cX4_eyesOf.data.toList.drop 0 = dktX4_eyesOf_0 := by decide +kernel
theorem dksX4_eyesOf_1 : cX4_eyesOf.data.toList.drop 24 = dktX4_eyesOf_1 := dk_seg dksX4_eyesOf_0 24 rfl rfl
theorem dksX4_eyesOf_2 : cX4_eyesOf.data.toList.drop 48 = dktX4_eyesOf_2 := dk_seg dksX4_eyesOf_1 24 rfl rfl
theorem dX4_eyesOf_0 : decode cX4_eyesOf 0 = .ok (.aload_n 0, 1) := dk_42 (dk_at dksX4_eyesOf_0 0 rfl rfl)
theorem dX4_eyesOf_1 : decode cX4_eyesOf 1 = .ok (.iload_n 1, 1) := dk_27 (dk_at dksX4_eyesOf_0 1 rfl rfl)
theorem dX4_eyesOf_2 : decode cX4_eyesOf 2 = .ok (.iload_n 2, 1) := dk_28 (dk_at dksX4_eyesOf_0 2 rfl rfl)
theorem dX4_eyesOf_3 : decode cX4_eyesOf 3 = .ok (.iload_n 3, 1) := dk_29 (dk_at dksX4_eyesOf_0 3 rfl rfl)
theorem dX4_eyesOf_4 : decode cX4_eyesOf 4 = .ok (.invokevirtual 185, 3) := dk_182 0 185 (dk_at dksX4_eyesOf_0 4 rfl rfl)
theorem dX4_eyesOf_7 : decode cX4_eyesOf 7 = .ok (.istore 4, 2) := dk_54 4 (dk_at dksX4_eyesOf_0 7 rfl rfl)
theorem dX4_eyesOf_9 : decode cX4_eyesOf 9 = .ok (.iload 4, 2) := dk_21 4 (dk_at dksX4_eyesOf_0 9 rfl rfl)
theorem dX4_eyesOf_11 : decode cX4_eyesOf 11 = .ok (.iconst (-1), 1) := dk_2 (dk_at dksX4_eyesOf_0 11 rfl rfl)
theorem dX4_eyesOf_12 : decode cX4_eyesOf 12 = .ok (.if_icmp .eq 11, 3) := dk_159 0 11 (dk_at dksX4_eyesOf_0 12 rfl rfl)
theorem dX4_eyesOf_15 : decode cX4_eyesOf 15 = .ok (.aload_n 0, 1) := dk_42 (dk_at dksX4_eyesOf_0 15 rfl rfl)
theorem dX4_eyesOf_16 : decode cX4_eyesOf 16 = .ok (.getfield 91, 3) := dk_180 0 91 (dk_at dksX4_eyesOf_0 16 rfl rfl)
theorem dX4_eyesOf_19 : decode cX4_eyesOf 19 = .ok (.iload 4, 2) := dk_21 4 (dk_at dksX4_eyesOf_0 19 rfl rfl)
theorem dX4_eyesOf_21 : decode cX4_eyesOf 21 = .ok (.iaload, 1) := dk_46 (dk_at dksX4_eyesOf_0 21 rfl rfl)
theorem dX4_eyesOf_22 : decode cX4_eyesOf 22 = .ok (.ireturn, 1) := dk_172 (dk_at dksX4_eyesOf_0 22 rfl rfl)
theorem dX4_eyesOf_23 : decode cX4_eyesOf 23 = .ok (.aload_n 0, 1) := dk_42 (dk_at dksX4_eyesOf_0 23 rfl rfl)
theorem dX4_eyesOf_24 : decode cX4_eyesOf 24 = .ok (.iload_n 1, 1) := dk_27 (dk_at dksX4_eyesOf_1 0 rfl rfl)
theorem dX4_eyesOf_25 : decode cX4_eyesOf 25 = .ok (.iload_n 2, 1) := dk_28 (dk_at dksX4_eyesOf_1 1 rfl rfl)
theorem dX4_eyesOf_26 : decode cX4_eyesOf 26 = .ok (.invokevirtual 189, 3) := dk_182 0 189 (dk_at dksX4_eyesOf_1 2 rfl rfl)
theorem dX4_eyesOf_29 : decode cX4_eyesOf 29 = .ok (.istore 5, 2) := dk_54 5 (dk_at dksX4_eyesOf_1 5 rfl rfl)
theorem dX4_eyesOf_31 : decode cX4_eyesOf 31 = .ok (.iload 5, 2) := dk_21 5 (dk_at dksX4_eyesOf_1 7 rfl rfl)
theorem dX4_eyesOf_33 : decode cX4_eyesOf 33 = .ok (.iconst (-1), 1) := dk_2 (dk_at dksX4_eyesOf_1 9 rfl rfl)
theorem dX4_eyesOf_34 : decode cX4_eyesOf 34 = .ok (.if_icmp .ne 20, 3) := dk_160 0 20 (dk_at dksX4_eyesOf_1 10 rfl rfl)
theorem dX4_eyesOf_37 : decode cX4_eyesOf 37 = .ok (.aload_n 0, 1) := dk_42 (dk_at dksX4_eyesOf_1 13 rfl rfl)
theorem dX4_eyesOf_38 : decode cX4_eyesOf 38 = .ok (.getfield 17, 3) := dk_180 0 17 (dk_at dksX4_eyesOf_1 14 rfl rfl)
theorem dX4_eyesOf_41 : decode cX4_eyesOf 41 = .ok (.bipush 120, 2) := dk_16 120 (dk_at dksX4_eyesOf_1 17 rfl rfl)
theorem dX4_eyesOf_43 : decode cX4_eyesOf 43 = .ok (.bipush 100, 2) := dk_16 100 (dk_at dksX4_eyesOf_1 19 rfl rfl)
theorem dX4_eyesOf_45 : decode cX4_eyesOf 45 = .ok (.iload_n 1, 1) := dk_27 (dk_at dksX4_eyesOf_1 21 rfl rfl)
theorem dX4_eyesOf_46 : decode cX4_eyesOf 46 = .ok (.imul, 1) := dk_104 (dk_at dksX4_eyesOf_1 22 rfl rfl)
theorem dX4_eyesOf_47 : decode cX4_eyesOf 47 = .ok (.iadd, 1) := dk_96 (dk_at dksX4_eyesOf_1 23 rfl rfl)
theorem dX4_eyesOf_48 : decode cX4_eyesOf 48 = .ok (.iload_n 2, 1) := dk_28 (dk_at dksX4_eyesOf_2 0 rfl rfl)
theorem dX4_eyesOf_49 : decode cX4_eyesOf 49 = .ok (.iadd, 1) := dk_96 (dk_at dksX4_eyesOf_2 1 rfl rfl)
theorem dX4_eyesOf_50 : decode cX4_eyesOf 50 = .ok (.iaload, 1) := dk_46 (dk_at dksX4_eyesOf_2 2 rfl rfl)
theorem dX4_eyesOf_51 : decode cX4_eyesOf 51 = .ok (.goto 16, 3) := dk_167 0 16 (dk_at dksX4_eyesOf_2 3 rfl rfl)
theorem dX4_eyesOf_54 : decode cX4_eyesOf 54 = .ok (.aload_n 0, 1) := dk_42 (dk_at dksX4_eyesOf_2 6 rfl rfl)
theorem dX4_eyesOf_55 : decode cX4_eyesOf 55 = .ok (.getfield 17, 3) := dk_180 0 17 (dk_at dksX4_eyesOf_2 7 rfl rfl)
theorem dX4_eyesOf_58 : decode cX4_eyesOf 58 = .ok (.sipush 1020, 3) := dk_17 3 252 (dk_at dksX4_eyesOf_2 10 rfl rfl)
theorem dX4_eyesOf_61 : decode cX4_eyesOf 61 = .ok (.iconst 4, 1) := dk_7 (dk_at dksX4_eyesOf_2 13 rfl rfl)
theorem dX4_eyesOf_62 : decode cX4_eyesOf 62 = .ok (.iload 5, 2) := dk_21 5 (dk_at dksX4_eyesOf_2 14 rfl rfl)
theorem dX4_eyesOf_64 : decode cX4_eyesOf 64 = .ok (.imul, 1) := dk_104 (dk_at dksX4_eyesOf_2 16 rfl rfl)
theorem dX4_eyesOf_65 : decode cX4_eyesOf 65 = .ok (.iadd, 1) := dk_96 (dk_at dksX4_eyesOf_2 17 rfl rfl)
theorem dX4_eyesOf_66 : decode cX4_eyesOf 66 = .ok (.iaload, 1) := dk_46 (dk_at dksX4_eyesOf_2 18 rfl rfl)
theorem dX4_eyesOf_67 : decode cX4_eyesOf 67 = .ok (.ireturn, 1) := dk_172 (dk_at dksX4_eyesOf_2 19 rfl rfl)
abbrev cX4_ruler : ByteArray := prog_26_method_31_code
def yX4_ruler : MethodName := ⟨RX4, "ruler", "(III)I"⟩
def dkwX4_ruler_3 : List UInt8 := [132, 4, 255, 167, 255, 190, 2, 172]
abbrev dktX4_ruler_3 : List UInt8 := dkwX4_ruler_3 ++ []
def dkwX4_ruler_2 : List UInt8 := [180, 0, 94, 21, 4, 46, 133, 42, 180, 0, 97, 21, 4, 46, 133, 184, 0, 140, 153, 0, 6, 21, 4, 172]
abbrev dktX4_ruler_2 : List UInt8 := dkwX4_ruler_2 ++ dktX4_ruler_3
def dkwX4_ruler_1 : List UInt8 := [180, 0, 85, 21, 4, 46, 5, 160, 0, 41, 42, 180, 0, 88, 21, 4, 46, 27, 160, 0, 30, 28, 133, 42]
abbrev dktX4_ruler_1 : List UInt8 := dkwX4_ruler_1 ++ dktX4_ruler_2
def dkwX4_ruler_0 : List UInt8 := [42, 180, 0, 122, 4, 100, 54, 4, 21, 4, 155, 0, 67, 29, 21, 4, 184, 0, 179, 153, 0, 52, 42]
abbrev dktX4_ruler_0 : List UInt8 := dkwX4_ruler_0 ++ dktX4_ruler_1
theorem dksX4_ruler_0 : cX4_ruler.data.toList.drop 0 = dktX4_ruler_0 := by decide +kernel
theorem dksX4_ruler_1 : cX4_ruler.data.toList.drop 23 = dktX4_ruler_1 := dk_seg dksX4_ruler_0 23 rfl rfl
theorem dksX4_ruler_2 : cX4_ruler.data.toList.drop 47 = dktX4_ruler_2 := dk_seg dksX4_ruler_1 24 rfl rfl
theorem dksX4_ruler_3 : cX4_ruler.data.toList.drop 71 = dktX4_ruler_3 := dk_seg dksX4_ruler_2 24 rfl rfl
theorem dX4_ruler_0 : decode cX4_ruler 0 = .ok (.aload_n 0, 1) := dk_42 (dk_at dksX4_ruler_0 0 rfl rfl)
theorem dX4_ruler_1 : decode cX4_ruler 1 = .ok (.getfield 122, 3) := dk_180 0 122 (dk_at dksX4_ruler_0 1 rfl rfl)
theorem dX4_ruler_4 : decode cX4_ruler 4 = .ok (.iconst 1, 1) := dk_4 (dk_at dksX4_ruler_0 4 rfl rfl)
theorem dX4_ruler_5 : decode cX4_ruler 5 = .ok (.isub, 1) := dk_100 (dk_at dksX4_ruler_0 5 rfl rfl)
theorem dX4_ruler_6 : decode cX4_ruler 6 = .ok (.istore 4, 2) := dk_54 4 (dk_at dksX4_ruler_0 6 rfl rfl)
theorem dX4_ruler_8 : decode cX4_ruler 8 = .ok (.iload 4, 2) := dk_21 4 (dk_at dksX4_ruler_0 8 rfl rfl)
theorem dX4_ruler_10 : decode cX4_ruler 10 = .ok (.ifCond .lt 67, 3) := dk_155 0 67 (dk_at dksX4_ruler_0 10 rfl rfl)
theorem dX4_ruler_13 : decode cX4_ruler 13 = .ok (.iload_n 3, 1) := dk_29 (dk_at dksX4_ruler_0 13 rfl rfl)
theorem dX4_ruler_14 : decode cX4_ruler 14 = .ok (.iload 4, 2) := dk_21 4 (dk_at dksX4_ruler_0 14 rfl rfl)
theorem dX4_ruler_16 : decode cX4_ruler 16 = .ok (.invokestatic 179, 3) := dk_184 0 179 (dk_at dksX4_ruler_0 16 rfl rfl)
theorem dX4_ruler_19 : decode cX4_ruler 19 = .ok (.ifCond .eq 52, 3) := dk_153 0 52 (dk_at dksX4_ruler_0 19 rfl rfl)
theorem dX4_ruler_22 : decode cX4_ruler 22 = .ok (.aload_n 0, 1) := dk_42 (dk_at dksX4_ruler_0 22 rfl rfl)
theorem dX4_ruler_23 : decode cX4_ruler 23 = .ok (.getfield 85, 3) := dk_180 0 85 (dk_at dksX4_ruler_1 0 rfl rfl)
theorem dX4_ruler_26 : decode cX4_ruler 26 = .ok (.iload 4, 2) := dk_21 4 (dk_at dksX4_ruler_1 3 rfl rfl)
theorem dX4_ruler_28 : decode cX4_ruler 28 = .ok (.iaload, 1) := dk_46 (dk_at dksX4_ruler_1 5 rfl rfl)
theorem dX4_ruler_29 : decode cX4_ruler 29 = .ok (.iconst 2, 1) := dk_5 (dk_at dksX4_ruler_1 6 rfl rfl)
theorem dX4_ruler_30 : decode cX4_ruler 30 = .ok (.if_icmp .ne 41, 3) := dk_160 0 41 (dk_at dksX4_ruler_1 7 rfl rfl)
theorem dX4_ruler_33 : decode cX4_ruler 33 = .ok (.aload_n 0, 1) := dk_42 (dk_at dksX4_ruler_1 10 rfl rfl)
theorem dX4_ruler_34 : decode cX4_ruler 34 = .ok (.getfield 88, 3) := dk_180 0 88 (dk_at dksX4_ruler_1 11 rfl rfl)
theorem dX4_ruler_37 : decode cX4_ruler 37 = .ok (.iload 4, 2) := dk_21 4 (dk_at dksX4_ruler_1 14 rfl rfl)
theorem dX4_ruler_39 : decode cX4_ruler 39 = .ok (.iaload, 1) := dk_46 (dk_at dksX4_ruler_1 16 rfl rfl)
theorem dX4_ruler_40 : decode cX4_ruler 40 = .ok (.iload_n 1, 1) := dk_27 (dk_at dksX4_ruler_1 17 rfl rfl)
theorem dX4_ruler_41 : decode cX4_ruler 41 = .ok (.if_icmp .ne 30, 3) := dk_160 0 30 (dk_at dksX4_ruler_1 18 rfl rfl)
theorem dX4_ruler_44 : decode cX4_ruler 44 = .ok (.iload_n 2, 1) := dk_28 (dk_at dksX4_ruler_1 21 rfl rfl)
theorem dX4_ruler_45 : decode cX4_ruler 45 = .ok (.i2l, 1) := dk_133 (dk_at dksX4_ruler_1 22 rfl rfl)
theorem dX4_ruler_46 : decode cX4_ruler 46 = .ok (.aload_n 0, 1) := dk_42 (dk_at dksX4_ruler_1 23 rfl rfl)
theorem dX4_ruler_47 : decode cX4_ruler 47 = .ok (.getfield 94, 3) := dk_180 0 94 (dk_at dksX4_ruler_2 0 rfl rfl)
theorem dX4_ruler_50 : decode cX4_ruler 50 = .ok (.iload 4, 2) := dk_21 4 (dk_at dksX4_ruler_2 3 rfl rfl)
theorem dX4_ruler_52 : decode cX4_ruler 52 = .ok (.iaload, 1) := dk_46 (dk_at dksX4_ruler_2 5 rfl rfl)
theorem dX4_ruler_53 : decode cX4_ruler 53 = .ok (.i2l, 1) := dk_133 (dk_at dksX4_ruler_2 6 rfl rfl)
theorem dX4_ruler_54 : decode cX4_ruler 54 = .ok (.aload_n 0, 1) := dk_42 (dk_at dksX4_ruler_2 7 rfl rfl)
theorem dX4_ruler_55 : decode cX4_ruler 55 = .ok (.getfield 97, 3) := dk_180 0 97 (dk_at dksX4_ruler_2 8 rfl rfl)
theorem dX4_ruler_58 : decode cX4_ruler 58 = .ok (.iload 4, 2) := dk_21 4 (dk_at dksX4_ruler_2 11 rfl rfl)
theorem dX4_ruler_60 : decode cX4_ruler 60 = .ok (.iaload, 1) := dk_46 (dk_at dksX4_ruler_2 13 rfl rfl)
theorem dX4_ruler_61 : decode cX4_ruler 61 = .ok (.i2l, 1) := dk_133 (dk_at dksX4_ruler_2 14 rfl rfl)
theorem dX4_ruler_62 : decode cX4_ruler 62 = .ok (.invokestatic 140, 3) := dk_184 0 140 (dk_at dksX4_ruler_2 15 rfl rfl)
theorem dX4_ruler_65 : decode cX4_ruler 65 = .ok (.ifCond .eq 6, 3) := dk_153 0 6 (dk_at dksX4_ruler_2 18 rfl rfl)
theorem dX4_ruler_68 : decode cX4_ruler 68 = .ok (.iload 4, 2) := dk_21 4 (dk_at dksX4_ruler_2 21 rfl rfl)
theorem dX4_ruler_70 : decode cX4_ruler 70 = .ok (.ireturn, 1) := dk_172 (dk_at dksX4_ruler_2 23 rfl rfl)
theorem dX4_ruler_71 : decode cX4_ruler 71 = .ok (.iinc 4 (-1), 3) := dk_132 4 255 (dk_at dksX4_ruler_3 0 rfl rfl)
theorem dX4_ruler_74 : decode cX4_ruler 74 = .ok (.goto (-66), 3) := dk_167 255 190 (dk_at dksX4_ruler_3 3 rfl rfl)
theorem dX4_ruler_77 : decode cX4_ruler 77 = .ok (.iconst (-1), 1) := dk_2 (dk_at dksX4_ruler_3 6 rfl rfl)
theorem dX4_ruler_78 : decode cX4_ruler 78 = .ok (.ireturn, 1) := dk_172 (dk_at dksX4_ruler_3 7 rfl rfl)
abbrev cX4_leadOf : ByteArray := prog_26_method_30_code
def yX4_leadOf : MethodName := ⟨RX4, "leadOf", "(II)I"⟩
def dkwX4_leadOf_5 : List UInt8 := [167, 255, 144, 29, 172]
abbrev dktX4_leadOf_5 : List UInt8 := dkwX4_leadOf_5 ++ []
def dkwX4_leadOf_4 : List UInt8 := [180, 0, 17, 17, 3, 252, 7, 29, 104, 96, 5, 96, 46, 161, 0, 6, 21, 4, 62, 132, 4, 1]
abbrev dktX4_leadOf_4 : List UInt8 := dkwX4_leadOf_4 ++ dktX4_leadOf_5
def dkwX4_leadOf_3 : List UInt8 := [96, 46, 161, 0, 6, 167, 0, 37, 29, 2, 159, 0, 29, 42, 180, 0, 17, 21, 5, 5, 96, 46, 42]
abbrev dktX4_leadOf_3 : List UInt8 := dkwX4_leadOf_3 ++ dktX4_leadOf_4
def dkwX4_leadOf_2 : List UInt8 := [46, 133, 184, 0, 140, 153, 0, 61, 42, 180, 0, 17, 16, 110, 27, 96, 46, 42, 180, 0, 17, 21, 5, 4]
abbrev dktX4_leadOf_2 : List UInt8 := dkwX4_leadOf_2 ++ dktX4_leadOf_3
def dkwX4_leadOf_1 : List UInt8 := [104, 96, 54, 5, 28, 133, 42, 180, 0, 17, 21, 5, 5, 96, 46, 133, 42, 180, 0, 17, 21, 5, 6, 96]
abbrev dktX4_leadOf_1 : List UInt8 := dkwX4_leadOf_1 ++ dktX4_leadOf_2
def dkwX4_leadOf_0 : List UInt8 := [2, 62, 3, 54, 4, 21, 4, 42, 180, 0, 17, 17, 19, 16, 46, 162, 0, 105, 17, 3, 252, 7, 21, 4]
abbrev dktX4_leadOf_0 : List UInt8 := dkwX4_leadOf_0 ++ dktX4_leadOf_1
theorem dksX4_leadOf_0 : cX4_leadOf.data.toList.drop 0 = dktX4_leadOf_0 := by decide +kernel
theorem dksX4_leadOf_1 : cX4_leadOf.data.toList.drop 24 = dktX4_leadOf_1 := dk_seg dksX4_leadOf_0 24 rfl rfl
theorem dksX4_leadOf_2 : cX4_leadOf.data.toList.drop 48 = dktX4_leadOf_2 := dk_seg dksX4_leadOf_1 24 rfl rfl
theorem dksX4_leadOf_3 : cX4_leadOf.data.toList.drop 72 = dktX4_leadOf_3 := dk_seg dksX4_leadOf_2 24 rfl rfl
theorem dksX4_leadOf_4 : cX4_leadOf.data.toList.drop 95 = dktX4_leadOf_4 := dk_seg dksX4_leadOf_3 23 rfl rfl
theorem dksX4_leadOf_5 : cX4_leadOf.data.toList.drop 117 = dktX4_leadOf_5 := dk_seg dksX4_leadOf_4 22 rfl rfl
theorem dX4_leadOf_0 : decode cX4_leadOf 0 = .ok (.iconst (-1), 1) := dk_2 (dk_at dksX4_leadOf_0 0 rfl rfl)
theorem dX4_leadOf_1 : decode cX4_leadOf 1 = .ok (.istore_n 3, 1) := dk_62 (dk_at dksX4_leadOf_0 1 rfl rfl)
theorem dX4_leadOf_2 : decode cX4_leadOf 2 = .ok (.iconst 0, 1) := dk_3 (dk_at dksX4_leadOf_0 2 rfl rfl)
theorem dX4_leadOf_3 : decode cX4_leadOf 3 = .ok (.istore 4, 2) := dk_54 4 (dk_at dksX4_leadOf_0 3 rfl rfl)
theorem dX4_leadOf_5 : decode cX4_leadOf 5 = .ok (.iload 4, 2) := dk_21 4 (dk_at dksX4_leadOf_0 5 rfl rfl)
theorem dX4_leadOf_7 : decode cX4_leadOf 7 = .ok (.aload_n 0, 1) := dk_42 (dk_at dksX4_leadOf_0 7 rfl rfl)
theorem dX4_leadOf_8 : decode cX4_leadOf 8 = .ok (.getfield 17, 3) := dk_180 0 17 (dk_at dksX4_leadOf_0 8 rfl rfl)
theorem dX4_leadOf_11 : decode cX4_leadOf 11 = .ok (.sipush 4880, 3) := dk_17 19 16 (dk_at dksX4_leadOf_0 11 rfl rfl)
theorem dX4_leadOf_14 : decode cX4_leadOf 14 = .ok (.iaload, 1) := dk_46 (dk_at dksX4_leadOf_0 14 rfl rfl)
theorem dX4_leadOf_15 : decode cX4_leadOf 15 = .ok (.if_icmp .ge 105, 3) := dk_162 0 105 (dk_at dksX4_leadOf_0 15 rfl rfl)
theorem dX4_leadOf_18 : decode cX4_leadOf 18 = .ok (.sipush 1020, 3) := dk_17 3 252 (dk_at dksX4_leadOf_0 18 rfl rfl)
theorem dX4_leadOf_21 : decode cX4_leadOf 21 = .ok (.iconst 4, 1) := dk_7 (dk_at dksX4_leadOf_0 21 rfl rfl)
theorem dX4_leadOf_22 : decode cX4_leadOf 22 = .ok (.iload 4, 2) := dk_21 4 (dk_at dksX4_leadOf_0 22 rfl rfl)
theorem dX4_leadOf_24 : decode cX4_leadOf 24 = .ok (.imul, 1) := dk_104 (dk_at dksX4_leadOf_1 0 rfl rfl)
theorem dX4_leadOf_25 : decode cX4_leadOf 25 = .ok (.iadd, 1) := dk_96 (dk_at dksX4_leadOf_1 1 rfl rfl)
theorem dX4_leadOf_26 : decode cX4_leadOf 26 = .ok (.istore 5, 2) := dk_54 5 (dk_at dksX4_leadOf_1 2 rfl rfl)
theorem dX4_leadOf_28 : decode cX4_leadOf 28 = .ok (.iload_n 2, 1) := dk_28 (dk_at dksX4_leadOf_1 4 rfl rfl)
theorem dX4_leadOf_29 : decode cX4_leadOf 29 = .ok (.i2l, 1) := dk_133 (dk_at dksX4_leadOf_1 5 rfl rfl)
theorem dX4_leadOf_30 : decode cX4_leadOf 30 = .ok (.aload_n 0, 1) := dk_42 (dk_at dksX4_leadOf_1 6 rfl rfl)
theorem dX4_leadOf_31 : decode cX4_leadOf 31 = .ok (.getfield 17, 3) := dk_180 0 17 (dk_at dksX4_leadOf_1 7 rfl rfl)
theorem dX4_leadOf_34 : decode cX4_leadOf 34 = .ok (.iload 5, 2) := dk_21 5 (dk_at dksX4_leadOf_1 10 rfl rfl)
theorem dX4_leadOf_36 : decode cX4_leadOf 36 = .ok (.iconst 2, 1) := dk_5 (dk_at dksX4_leadOf_1 12 rfl rfl)
theorem dX4_leadOf_37 : decode cX4_leadOf 37 = .ok (.iadd, 1) := dk_96 (dk_at dksX4_leadOf_1 13 rfl rfl)
theorem dX4_leadOf_38 : decode cX4_leadOf 38 = .ok (.iaload, 1) := dk_46 (dk_at dksX4_leadOf_1 14 rfl rfl)
theorem dX4_leadOf_39 : decode cX4_leadOf 39 = .ok (.i2l, 1) := dk_133 (dk_at dksX4_leadOf_1 15 rfl rfl)
theorem dX4_leadOf_40 : decode cX4_leadOf 40 = .ok (.aload_n 0, 1) := dk_42 (dk_at dksX4_leadOf_1 16 rfl rfl)
theorem dX4_leadOf_41 : decode cX4_leadOf 41 = .ok (.getfield 17, 3) := dk_180 0 17 (dk_at dksX4_leadOf_1 17 rfl rfl)
theorem dX4_leadOf_44 : decode cX4_leadOf 44 = .ok (.iload 5, 2) := dk_21 5 (dk_at dksX4_leadOf_1 20 rfl rfl)
theorem dX4_leadOf_46 : decode cX4_leadOf 46 = .ok (.iconst 3, 1) := dk_6 (dk_at dksX4_leadOf_1 22 rfl rfl)
theorem dX4_leadOf_47 : decode cX4_leadOf 47 = .ok (.iadd, 1) := dk_96 (dk_at dksX4_leadOf_1 23 rfl rfl)
theorem dX4_leadOf_48 : decode cX4_leadOf 48 = .ok (.iaload, 1) := dk_46 (dk_at dksX4_leadOf_2 0 rfl rfl)
theorem dX4_leadOf_49 : decode cX4_leadOf 49 = .ok (.i2l, 1) := dk_133 (dk_at dksX4_leadOf_2 1 rfl rfl)
theorem dX4_leadOf_50 : decode cX4_leadOf 50 = .ok (.invokestatic 140, 3) := dk_184 0 140 (dk_at dksX4_leadOf_2 2 rfl rfl)
theorem dX4_leadOf_53 : decode cX4_leadOf 53 = .ok (.ifCond .eq 61, 3) := dk_153 0 61 (dk_at dksX4_leadOf_2 5 rfl rfl)
theorem dX4_leadOf_56 : decode cX4_leadOf 56 = .ok (.aload_n 0, 1) := dk_42 (dk_at dksX4_leadOf_2 8 rfl rfl)
theorem dX4_leadOf_57 : decode cX4_leadOf 57 = .ok (.getfield 17, 3) := dk_180 0 17 (dk_at dksX4_leadOf_2 9 rfl rfl)
theorem dX4_leadOf_60 : decode cX4_leadOf 60 = .ok (.bipush 110, 2) := dk_16 110 (dk_at dksX4_leadOf_2 12 rfl rfl)
theorem dX4_leadOf_62 : decode cX4_leadOf 62 = .ok (.iload_n 1, 1) := dk_27 (dk_at dksX4_leadOf_2 14 rfl rfl)
theorem dX4_leadOf_63 : decode cX4_leadOf 63 = .ok (.iadd, 1) := dk_96 (dk_at dksX4_leadOf_2 15 rfl rfl)
theorem dX4_leadOf_64 : decode cX4_leadOf 64 = .ok (.iaload, 1) := dk_46 (dk_at dksX4_leadOf_2 16 rfl rfl)
theorem dX4_leadOf_65 : decode cX4_leadOf 65 = .ok (.aload_n 0, 1) := dk_42 (dk_at dksX4_leadOf_2 17 rfl rfl)
theorem dX4_leadOf_66 : decode cX4_leadOf 66 = .ok (.getfield 17, 3) := dk_180 0 17 (dk_at dksX4_leadOf_2 18 rfl rfl)
theorem dX4_leadOf_69 : decode cX4_leadOf 69 = .ok (.iload 5, 2) := dk_21 5 (dk_at dksX4_leadOf_2 21 rfl rfl)
theorem dX4_leadOf_71 : decode cX4_leadOf 71 = .ok (.iconst 1, 1) := dk_4 (dk_at dksX4_leadOf_2 23 rfl rfl)
theorem dX4_leadOf_72 : decode cX4_leadOf 72 = .ok (.iadd, 1) := dk_96 (dk_at dksX4_leadOf_3 0 rfl rfl)
theorem dX4_leadOf_73 : decode cX4_leadOf 73 = .ok (.iaload, 1) := dk_46 (dk_at dksX4_leadOf_3 1 rfl rfl)
theorem dX4_leadOf_74 : decode cX4_leadOf 74 = .ok (.if_icmp .lt 6, 3) := dk_161 0 6 (dk_at dksX4_leadOf_3 2 rfl rfl)
theorem dX4_leadOf_77 : decode cX4_leadOf 77 = .ok (.goto 37, 3) := dk_167 0 37 (dk_at dksX4_leadOf_3 5 rfl rfl)
theorem dX4_leadOf_80 : decode cX4_leadOf 80 = .ok (.iload_n 3, 1) := dk_29 (dk_at dksX4_leadOf_3 8 rfl rfl)
theorem dX4_leadOf_81 : decode cX4_leadOf 81 = .ok (.iconst (-1), 1) := dk_2 (dk_at dksX4_leadOf_3 9 rfl rfl)
theorem dX4_leadOf_82 : decode cX4_leadOf 82 = .ok (.if_icmp .eq 29, 3) := dk_159 0 29 (dk_at dksX4_leadOf_3 10 rfl rfl)
theorem dX4_leadOf_85 : decode cX4_leadOf 85 = .ok (.aload_n 0, 1) := dk_42 (dk_at dksX4_leadOf_3 13 rfl rfl)
theorem dX4_leadOf_86 : decode cX4_leadOf 86 = .ok (.getfield 17, 3) := dk_180 0 17 (dk_at dksX4_leadOf_3 14 rfl rfl)
theorem dX4_leadOf_89 : decode cX4_leadOf 89 = .ok (.iload 5, 2) := dk_21 5 (dk_at dksX4_leadOf_3 17 rfl rfl)
theorem dX4_leadOf_91 : decode cX4_leadOf 91 = .ok (.iconst 2, 1) := dk_5 (dk_at dksX4_leadOf_3 19 rfl rfl)
theorem dX4_leadOf_92 : decode cX4_leadOf 92 = .ok (.iadd, 1) := dk_96 (dk_at dksX4_leadOf_3 20 rfl rfl)
theorem dX4_leadOf_93 : decode cX4_leadOf 93 = .ok (.iaload, 1) := dk_46 (dk_at dksX4_leadOf_3 21 rfl rfl)
theorem dX4_leadOf_94 : decode cX4_leadOf 94 = .ok (.aload_n 0, 1) := dk_42 (dk_at dksX4_leadOf_3 22 rfl rfl)
theorem dX4_leadOf_95 : decode cX4_leadOf 95 = .ok (.getfield 17, 3) := dk_180 0 17 (dk_at dksX4_leadOf_4 0 rfl rfl)
theorem dX4_leadOf_98 : decode cX4_leadOf 98 = .ok (.sipush 1020, 3) := dk_17 3 252 (dk_at dksX4_leadOf_4 3 rfl rfl)
theorem dX4_leadOf_101 : decode cX4_leadOf 101 = .ok (.iconst 4, 1) := dk_7 (dk_at dksX4_leadOf_4 6 rfl rfl)
theorem dX4_leadOf_102 : decode cX4_leadOf 102 = .ok (.iload_n 3, 1) := dk_29 (dk_at dksX4_leadOf_4 7 rfl rfl)
theorem dX4_leadOf_103 : decode cX4_leadOf 103 = .ok (.imul, 1) := dk_104 (dk_at dksX4_leadOf_4 8 rfl rfl)
theorem dX4_leadOf_104 : decode cX4_leadOf 104 = .ok (.iadd, 1) := dk_96 (dk_at dksX4_leadOf_4 9 rfl rfl)
theorem dX4_leadOf_105 : decode cX4_leadOf 105 = .ok (.iconst 2, 1) := dk_5 (dk_at dksX4_leadOf_4 10 rfl rfl)
theorem dX4_leadOf_106 : decode cX4_leadOf 106 = .ok (.iadd, 1) := dk_96 (dk_at dksX4_leadOf_4 11 rfl rfl)
theorem dX4_leadOf_107 : decode cX4_leadOf 107 = .ok (.iaload, 1) := dk_46 (dk_at dksX4_leadOf_4 12 rfl rfl)
theorem dX4_leadOf_108 : decode cX4_leadOf 108 = .ok (.if_icmp .lt 6, 3) := dk_161 0 6 (dk_at dksX4_leadOf_4 13 rfl rfl)
theorem dX4_leadOf_111 : decode cX4_leadOf 111 = .ok (.iload 4, 2) := dk_21 4 (dk_at dksX4_leadOf_4 16 rfl rfl)
theorem dX4_leadOf_113 : decode cX4_leadOf 113 = .ok (.istore_n 3, 1) := dk_62 (dk_at dksX4_leadOf_4 18 rfl rfl)
theorem dX4_leadOf_114 : decode cX4_leadOf 114 = .ok (.iinc 4 1, 3) := dk_132 4 1 (dk_at dksX4_leadOf_4 19 rfl rfl)
theorem dX4_leadOf_117 : decode cX4_leadOf 117 = .ok (.goto (-112), 3) := dk_167 255 144 (dk_at dksX4_leadOf_5 0 rfl rfl)
theorem dX4_leadOf_120 : decode cX4_leadOf 120 = .ok (.iload_n 3, 1) := dk_29 (dk_at dksX4_leadOf_5 3 rfl rfl)
theorem dX4_leadOf_121 : decode cX4_leadOf 121 = .ok (.ireturn, 1) := dk_172 (dk_at dksX4_leadOf_5 4 rfl rfl)
abbrev cX4_ahead : ByteArray := prog_26_method_25_code
def yX4_ahead : MethodName := ⟨RX4, "ahead", "(II)I"⟩
def dkwX4_ahead_2 : List UInt8 := [162, 0, 11, 42, 21, 4, 5, 182, 0, 163, 62, 132, 4, 1, 167, 255, 210, 29, 172]
abbrev dktX4_ahead_2 : List UInt8 := dkwX4_ahead_2 ++ []
def dkwX4_ahead_1 : List UInt8 := [162, 0, 39, 42, 21, 4, 4, 182, 0, 163, 27, 160, 0, 22, 42, 21, 4, 6, 182, 0, 163, 28]
abbrev dktX4_ahead_1 : List UInt8 := dkwX4_ahead_1 ++ dktX4_ahead_2
def dkwX4_ahead_0 : List UInt8 := [42, 180, 0, 17, 17, 18, 62, 27, 96, 46, 62, 3, 54, 4, 21, 4, 42, 180, 0, 17, 17, 19, 18, 46]
abbrev dktX4_ahead_0 : List UInt8 := dkwX4_ahead_0 ++ dktX4_ahead_1
theorem dksX4_ahead_0 : cX4_ahead.data.toList.drop 0 = dktX4_ahead_0 := by decide +kernel
theorem dksX4_ahead_1 : cX4_ahead.data.toList.drop 24 = dktX4_ahead_1 := dk_seg dksX4_ahead_0 24 rfl rfl
theorem dksX4_ahead_2 : cX4_ahead.data.toList.drop 46 = dktX4_ahead_2 := dk_seg dksX4_ahead_1 22 rfl rfl
theorem dX4_ahead_0 : decode cX4_ahead 0 = .ok (.aload_n 0, 1) := dk_42 (dk_at dksX4_ahead_0 0 rfl rfl)
theorem dX4_ahead_1 : decode cX4_ahead 1 = .ok (.getfield 17, 3) := dk_180 0 17 (dk_at dksX4_ahead_0 1 rfl rfl)
theorem dX4_ahead_4 : decode cX4_ahead 4 = .ok (.sipush 4670, 3) := dk_17 18 62 (dk_at dksX4_ahead_0 4 rfl rfl)
theorem dX4_ahead_7 : decode cX4_ahead 7 = .ok (.iload_n 1, 1) := dk_27 (dk_at dksX4_ahead_0 7 rfl rfl)
theorem dX4_ahead_8 : decode cX4_ahead 8 = .ok (.iadd, 1) := dk_96 (dk_at dksX4_ahead_0 8 rfl rfl)
theorem dX4_ahead_9 : decode cX4_ahead 9 = .ok (.iaload, 1) := dk_46 (dk_at dksX4_ahead_0 9 rfl rfl)
theorem dX4_ahead_10 : decode cX4_ahead 10 = .ok (.istore_n 3, 1) := dk_62 (dk_at dksX4_ahead_0 10 rfl rfl)
theorem dX4_ahead_11 : decode cX4_ahead 11 = .ok (.iconst 0, 1) := dk_3 (dk_at dksX4_ahead_0 11 rfl rfl)
theorem dX4_ahead_12 : decode cX4_ahead 12 = .ok (.istore 4, 2) := dk_54 4 (dk_at dksX4_ahead_0 12 rfl rfl)
theorem dX4_ahead_14 : decode cX4_ahead 14 = .ok (.iload 4, 2) := dk_21 4 (dk_at dksX4_ahead_0 14 rfl rfl)
theorem dX4_ahead_16 : decode cX4_ahead 16 = .ok (.aload_n 0, 1) := dk_42 (dk_at dksX4_ahead_0 16 rfl rfl)
theorem dX4_ahead_17 : decode cX4_ahead 17 = .ok (.getfield 17, 3) := dk_180 0 17 (dk_at dksX4_ahead_0 17 rfl rfl)
theorem dX4_ahead_20 : decode cX4_ahead 20 = .ok (.sipush 4882, 3) := dk_17 19 18 (dk_at dksX4_ahead_0 20 rfl rfl)
theorem dX4_ahead_23 : decode cX4_ahead 23 = .ok (.iaload, 1) := dk_46 (dk_at dksX4_ahead_0 23 rfl rfl)
theorem dX4_ahead_24 : decode cX4_ahead 24 = .ok (.if_icmp .ge 39, 3) := dk_162 0 39 (dk_at dksX4_ahead_1 0 rfl rfl)
theorem dX4_ahead_27 : decode cX4_ahead 27 = .ok (.aload_n 0, 1) := dk_42 (dk_at dksX4_ahead_1 3 rfl rfl)
theorem dX4_ahead_28 : decode cX4_ahead 28 = .ok (.iload 4, 2) := dk_21 4 (dk_at dksX4_ahead_1 4 rfl rfl)
theorem dX4_ahead_30 : decode cX4_ahead 30 = .ok (.iconst 1, 1) := dk_4 (dk_at dksX4_ahead_1 6 rfl rfl)
theorem dX4_ahead_31 : decode cX4_ahead 31 = .ok (.invokevirtual 163, 3) := dk_182 0 163 (dk_at dksX4_ahead_1 7 rfl rfl)
theorem dX4_ahead_34 : decode cX4_ahead 34 = .ok (.iload_n 1, 1) := dk_27 (dk_at dksX4_ahead_1 10 rfl rfl)
theorem dX4_ahead_35 : decode cX4_ahead 35 = .ok (.if_icmp .ne 22, 3) := dk_160 0 22 (dk_at dksX4_ahead_1 11 rfl rfl)
theorem dX4_ahead_38 : decode cX4_ahead 38 = .ok (.aload_n 0, 1) := dk_42 (dk_at dksX4_ahead_1 14 rfl rfl)
theorem dX4_ahead_39 : decode cX4_ahead 39 = .ok (.iload 4, 2) := dk_21 4 (dk_at dksX4_ahead_1 15 rfl rfl)
theorem dX4_ahead_41 : decode cX4_ahead 41 = .ok (.iconst 3, 1) := dk_6 (dk_at dksX4_ahead_1 17 rfl rfl)
theorem dX4_ahead_42 : decode cX4_ahead 42 = .ok (.invokevirtual 163, 3) := dk_182 0 163 (dk_at dksX4_ahead_1 18 rfl rfl)
theorem dX4_ahead_45 : decode cX4_ahead 45 = .ok (.iload_n 2, 1) := dk_28 (dk_at dksX4_ahead_1 21 rfl rfl)
theorem dX4_ahead_46 : decode cX4_ahead 46 = .ok (.if_icmp .ge 11, 3) := dk_162 0 11 (dk_at dksX4_ahead_2 0 rfl rfl)
theorem dX4_ahead_49 : decode cX4_ahead 49 = .ok (.aload_n 0, 1) := dk_42 (dk_at dksX4_ahead_2 3 rfl rfl)
theorem dX4_ahead_50 : decode cX4_ahead 50 = .ok (.iload 4, 2) := dk_21 4 (dk_at dksX4_ahead_2 4 rfl rfl)
theorem dX4_ahead_52 : decode cX4_ahead 52 = .ok (.iconst 2, 1) := dk_5 (dk_at dksX4_ahead_2 6 rfl rfl)
theorem dX4_ahead_53 : decode cX4_ahead 53 = .ok (.invokevirtual 163, 3) := dk_182 0 163 (dk_at dksX4_ahead_2 7 rfl rfl)
theorem dX4_ahead_56 : decode cX4_ahead 56 = .ok (.istore_n 3, 1) := dk_62 (dk_at dksX4_ahead_2 10 rfl rfl)
theorem dX4_ahead_57 : decode cX4_ahead 57 = .ok (.iinc 4 1, 3) := dk_132 4 1 (dk_at dksX4_ahead_2 11 rfl rfl)
theorem dX4_ahead_60 : decode cX4_ahead 60 = .ok (.goto (-46), 3) := dk_167 255 210 (dk_at dksX4_ahead_2 14 rfl rfl)
theorem dX4_ahead_63 : decode cX4_ahead 63 = .ok (.iload_n 3, 1) := dk_29 (dk_at dksX4_ahead_2 17 rfl rfl)
theorem dX4_ahead_64 : decode cX4_ahead 64 = .ok (.ireturn, 1) := dk_172 (dk_at dksX4_ahead_2 18 rfl rfl)
abbrev cX4_moveOf : ByteArray := prog_26_method_24_code
def yX4_moveOf : MethodName := ⟨RX4, "moveOf", "(II)I"⟩
def dkwX4_moveOf_0 : List UInt8 := [42, 180, 0, 17, 17, 18, 72, 8, 27, 104, 96, 28, 96, 46, 172]
abbrev dktX4_moveOf_0 : List UInt8 := dkwX4_moveOf_0 ++ []
theorem dksX4_moveOf_0 : cX4_moveOf.data.toList.drop 0 = dktX4_moveOf_0 := by decide +kernel
theorem dX4_moveOf_0 : decode cX4_moveOf 0 = .ok (.aload_n 0, 1) := dk_42 (dk_at dksX4_moveOf_0 0 rfl rfl)
theorem dX4_moveOf_1 : decode cX4_moveOf 1 = .ok (.getfield 17, 3) := dk_180 0 17 (dk_at dksX4_moveOf_0 1 rfl rfl)
theorem dX4_moveOf_4 : decode cX4_moveOf 4 = .ok (.sipush 4680, 3) := dk_17 18 72 (dk_at dksX4_moveOf_0 4 rfl rfl)
theorem dX4_moveOf_7 : decode cX4_moveOf 7 = .ok (.iconst 5, 1) := dk_8 (dk_at dksX4_moveOf_0 7 rfl rfl)
theorem dX4_moveOf_8 : decode cX4_moveOf 8 = .ok (.iload_n 1, 1) := dk_27 (dk_at dksX4_moveOf_0 8 rfl rfl)
theorem dX4_moveOf_9 : decode cX4_moveOf 9 = .ok (.imul, 1) := dk_104 (dk_at dksX4_moveOf_0 9 rfl rfl)
theorem dX4_moveOf_10 : decode cX4_moveOf 10 = .ok (.iadd, 1) := dk_96 (dk_at dksX4_moveOf_0 10 rfl rfl)
theorem dX4_moveOf_11 : decode cX4_moveOf 11 = .ok (.iload_n 2, 1) := dk_28 (dk_at dksX4_moveOf_0 11 rfl rfl)
theorem dX4_moveOf_12 : decode cX4_moveOf 12 = .ok (.iadd, 1) := dk_96 (dk_at dksX4_moveOf_0 12 rfl rfl)
theorem dX4_moveOf_13 : decode cX4_moveOf 13 = .ok (.iaload, 1) := dk_46 (dk_at dksX4_moveOf_0 13 rfl rfl)
theorem dX4_moveOf_14 : decode cX4_moveOf 14 = .ok (.ireturn, 1) := dk_172 (dk_at dksX4_moveOf_0 14 rfl rfl)
abbrev cX4_reaches : ByteArray := prog_26_method_15_code
def yX4_reaches : MethodName := ⟨RX4, "reaches", "(II)Z"⟩
def dkwX4_reaches_1 : List UInt8 := [167, 0, 4, 3, 172]
abbrev dktX4_reaches_1 : List UInt8 := dkwX4_reaches_1 ++ []
def dkwX4_reaches_0 : List UInt8 := [28, 42, 180, 0, 24, 159, 0, 17, 28, 27, 159, 0, 12, 42, 27, 28, 182, 0, 132, 153, 0, 7, 4]
abbrev dktX4_reaches_0 : List UInt8 := dkwX4_reaches_0 ++ dktX4_reaches_1
theorem dksX4_reaches_0 : cX4_reaches.data.toList.drop 0 = dktX4_reaches_0 := by decide +kernel
theorem dksX4_reaches_1 : cX4_reaches.data.toList.drop 23 = dktX4_reaches_1 := dk_seg dksX4_reaches_0 23 rfl rfl
theorem dX4_reaches_0 : decode cX4_reaches 0 = .ok (.iload_n 2, 1) := dk_28 (dk_at dksX4_reaches_0 0 rfl rfl)
theorem dX4_reaches_1 : decode cX4_reaches 1 = .ok (.aload_n 0, 1) := dk_42 (dk_at dksX4_reaches_0 1 rfl rfl)
theorem dX4_reaches_2 : decode cX4_reaches 2 = .ok (.getfield 24, 3) := dk_180 0 24 (dk_at dksX4_reaches_0 2 rfl rfl)
theorem dX4_reaches_5 : decode cX4_reaches 5 = .ok (.if_icmp .eq 17, 3) := dk_159 0 17 (dk_at dksX4_reaches_0 5 rfl rfl)
theorem dX4_reaches_8 : decode cX4_reaches 8 = .ok (.iload_n 2, 1) := dk_28 (dk_at dksX4_reaches_0 8 rfl rfl)
theorem dX4_reaches_9 : decode cX4_reaches 9 = .ok (.iload_n 1, 1) := dk_27 (dk_at dksX4_reaches_0 9 rfl rfl)
theorem dX4_reaches_10 : decode cX4_reaches 10 = .ok (.if_icmp .eq 12, 3) := dk_159 0 12 (dk_at dksX4_reaches_0 10 rfl rfl)
theorem dX4_reaches_13 : decode cX4_reaches 13 = .ok (.aload_n 0, 1) := dk_42 (dk_at dksX4_reaches_0 13 rfl rfl)
theorem dX4_reaches_14 : decode cX4_reaches 14 = .ok (.iload_n 1, 1) := dk_27 (dk_at dksX4_reaches_0 14 rfl rfl)
theorem dX4_reaches_15 : decode cX4_reaches 15 = .ok (.iload_n 2, 1) := dk_28 (dk_at dksX4_reaches_0 15 rfl rfl)
theorem dX4_reaches_16 : decode cX4_reaches 16 = .ok (.invokevirtual 132, 3) := dk_182 0 132 (dk_at dksX4_reaches_0 16 rfl rfl)
theorem dX4_reaches_19 : decode cX4_reaches 19 = .ok (.ifCond .eq 7, 3) := dk_153 0 7 (dk_at dksX4_reaches_0 19 rfl rfl)
theorem dX4_reaches_22 : decode cX4_reaches 22 = .ok (.iconst 1, 1) := dk_4 (dk_at dksX4_reaches_0 22 rfl rfl)
theorem dX4_reaches_23 : decode cX4_reaches 23 = .ok (.goto 4, 3) := dk_167 0 4 (dk_at dksX4_reaches_1 0 rfl rfl)
theorem dX4_reaches_26 : decode cX4_reaches 26 = .ok (.iconst 0, 1) := dk_3 (dk_at dksX4_reaches_1 3 rfl rfl)
theorem dX4_reaches_27 : decode cX4_reaches 27 = .ok (.ireturn, 1) := dk_172 (dk_at dksX4_reaches_1 4 rfl rfl)
abbrev cX4_where : ByteArray := prog_26_method_27_code
def yX4_where : MethodName := ⟨RX4, "where", "(II)I"⟩
def dkwX4_where_1 : List UInt8 := [154, 0, 5, 2, 172, 42, 27, 28, 4, 96, 182, 0, 173, 172]
abbrev dktX4_where_1 : List UInt8 := dkwX4_where_1 ++ []
def dkwX4_where_0 : List UInt8 := [42, 3, 181, 0, 1, 42, 27, 182, 0, 167, 153, 0, 15, 28, 2, 159, 0, 12, 28, 184, 0, 128]
abbrev dktX4_where_0 : List UInt8 := dkwX4_where_0 ++ dktX4_where_1
theorem dksX4_where_0 : cX4_where.data.toList.drop 0 = dktX4_where_0 := by decide +kernel
theorem dksX4_where_1 : cX4_where.data.toList.drop 22 = dktX4_where_1 := dk_seg dksX4_where_0 22 rfl rfl
theorem dX4_where_0 : decode cX4_where 0 = .ok (.aload_n 0, 1) := dk_42 (dk_at dksX4_where_0 0 rfl rfl)
theorem dX4_where_1 : decode cX4_where 1 = .ok (.iconst 0, 1) := dk_3 (dk_at dksX4_where_0 1 rfl rfl)
theorem dX4_where_2 : decode cX4_where 2 = .ok (.putfield 1, 3) := dk_181 0 1 (dk_at dksX4_where_0 2 rfl rfl)
theorem dX4_where_5 : decode cX4_where 5 = .ok (.aload_n 0, 1) := dk_42 (dk_at dksX4_where_0 5 rfl rfl)
theorem dX4_where_6 : decode cX4_where 6 = .ok (.iload_n 1, 1) := dk_27 (dk_at dksX4_where_0 6 rfl rfl)
theorem dX4_where_7 : decode cX4_where 7 = .ok (.invokevirtual 167, 3) := dk_182 0 167 (dk_at dksX4_where_0 7 rfl rfl)
theorem dX4_where_10 : decode cX4_where 10 = .ok (.ifCond .eq 15, 3) := dk_153 0 15 (dk_at dksX4_where_0 10 rfl rfl)
theorem dX4_where_13 : decode cX4_where 13 = .ok (.iload_n 2, 1) := dk_28 (dk_at dksX4_where_0 13 rfl rfl)
theorem dX4_where_14 : decode cX4_where 14 = .ok (.iconst (-1), 1) := dk_2 (dk_at dksX4_where_0 14 rfl rfl)
theorem dX4_where_15 : decode cX4_where 15 = .ok (.if_icmp .eq 12, 3) := dk_159 0 12 (dk_at dksX4_where_0 15 rfl rfl)
theorem dX4_where_18 : decode cX4_where 18 = .ok (.iload_n 2, 1) := dk_28 (dk_at dksX4_where_0 18 rfl rfl)
theorem dX4_where_19 : decode cX4_where 19 = .ok (.invokestatic 128, 3) := dk_184 0 128 (dk_at dksX4_where_0 19 rfl rfl)
theorem dX4_where_22 : decode cX4_where 22 = .ok (.ifCond .ne 5, 3) := dk_154 0 5 (dk_at dksX4_where_1 0 rfl rfl)
theorem dX4_where_25 : decode cX4_where 25 = .ok (.iconst (-1), 1) := dk_2 (dk_at dksX4_where_1 3 rfl rfl)
theorem dX4_where_26 : decode cX4_where 26 = .ok (.ireturn, 1) := dk_172 (dk_at dksX4_where_1 4 rfl rfl)
theorem dX4_where_27 : decode cX4_where 27 = .ok (.aload_n 0, 1) := dk_42 (dk_at dksX4_where_1 5 rfl rfl)
theorem dX4_where_28 : decode cX4_where 28 = .ok (.iload_n 1, 1) := dk_27 (dk_at dksX4_where_1 6 rfl rfl)
theorem dX4_where_29 : decode cX4_where 29 = .ok (.iload_n 2, 1) := dk_28 (dk_at dksX4_where_1 7 rfl rfl)
theorem dX4_where_30 : decode cX4_where 30 = .ok (.iconst 1, 1) := dk_4 (dk_at dksX4_where_1 8 rfl rfl)
theorem dX4_where_31 : decode cX4_where 31 = .ok (.iadd, 1) := dk_96 (dk_at dksX4_where_1 9 rfl rfl)
theorem dX4_where_32 : decode cX4_where 32 = .ok (.invokevirtual 173, 3) := dk_182 0 173 (dk_at dksX4_where_1 10 rfl rfl)
theorem dX4_where_35 : decode cX4_where 35 = .ok (.ireturn, 1) := dk_172 (dk_at dksX4_where_1 13 rfl rfl)
abbrev cX4_saw : ByteArray := prog_26_method_29_code
def yX4_saw : MethodName := ⟨RX4, "saw", "(II)I"⟩
def dkwX4_saw_2 : List UInt8 := [172, 42, 3, 182, 0, 170, 42, 27, 28, 182, 0, 182, 153, 0, 7, 4, 167, 0, 4, 3, 172]
abbrev dktX4_saw_2 : List UInt8 := dkwX4_saw_2 ++ []
def dkwX4_saw_1 : List UInt8 := [153, 0, 23, 42, 28, 182, 0, 147, 153, 0, 15, 42, 27, 3, 182, 0, 163, 5, 108, 28, 160, 0, 5, 2]
abbrev dktX4_saw_1 : List UInt8 := dkwX4_saw_1 ++ dktX4_saw_2
def dkwX4_saw_0 : List UInt8 := [42, 3, 181, 0, 1, 27, 133, 9, 42, 180, 0, 17, 17, 19, 18, 46, 4, 100, 133, 184, 0, 140]
abbrev dktX4_saw_0 : List UInt8 := dkwX4_saw_0 ++ dktX4_saw_1
theorem dksX4_saw_0 : cX4_saw.data.toList.drop 0 = dktX4_saw_0 := by decide +kernel
theorem dksX4_saw_1 : cX4_saw.data.toList.drop 22 = dktX4_saw_1 := dk_seg dksX4_saw_0 22 rfl rfl
theorem dksX4_saw_2 : cX4_saw.data.toList.drop 46 = dktX4_saw_2 := dk_seg dksX4_saw_1 24 rfl rfl
theorem dX4_saw_0 : decode cX4_saw 0 = .ok (.aload_n 0, 1) := dk_42 (dk_at dksX4_saw_0 0 rfl rfl)
theorem dX4_saw_1 : decode cX4_saw 1 = .ok (.iconst 0, 1) := dk_3 (dk_at dksX4_saw_0 1 rfl rfl)
theorem dX4_saw_2 : decode cX4_saw 2 = .ok (.putfield 1, 3) := dk_181 0 1 (dk_at dksX4_saw_0 2 rfl rfl)
theorem dX4_saw_5 : decode cX4_saw 5 = .ok (.iload_n 1, 1) := dk_27 (dk_at dksX4_saw_0 5 rfl rfl)
theorem dX4_saw_6 : decode cX4_saw 6 = .ok (.i2l, 1) := dk_133 (dk_at dksX4_saw_0 6 rfl rfl)
theorem dX4_saw_7 : decode cX4_saw 7 = .ok (.lconst 0, 1) := dk_9 (dk_at dksX4_saw_0 7 rfl rfl)
theorem dX4_saw_8 : decode cX4_saw 8 = .ok (.aload_n 0, 1) := dk_42 (dk_at dksX4_saw_0 8 rfl rfl)
theorem dX4_saw_9 : decode cX4_saw 9 = .ok (.getfield 17, 3) := dk_180 0 17 (dk_at dksX4_saw_0 9 rfl rfl)
theorem dX4_saw_12 : decode cX4_saw 12 = .ok (.sipush 4882, 3) := dk_17 19 18 (dk_at dksX4_saw_0 12 rfl rfl)
theorem dX4_saw_15 : decode cX4_saw 15 = .ok (.iaload, 1) := dk_46 (dk_at dksX4_saw_0 15 rfl rfl)
theorem dX4_saw_16 : decode cX4_saw 16 = .ok (.iconst 1, 1) := dk_4 (dk_at dksX4_saw_0 16 rfl rfl)
theorem dX4_saw_17 : decode cX4_saw 17 = .ok (.isub, 1) := dk_100 (dk_at dksX4_saw_0 17 rfl rfl)
theorem dX4_saw_18 : decode cX4_saw 18 = .ok (.i2l, 1) := dk_133 (dk_at dksX4_saw_0 18 rfl rfl)
theorem dX4_saw_19 : decode cX4_saw 19 = .ok (.invokestatic 140, 3) := dk_184 0 140 (dk_at dksX4_saw_0 19 rfl rfl)
theorem dX4_saw_22 : decode cX4_saw 22 = .ok (.ifCond .eq 23, 3) := dk_153 0 23 (dk_at dksX4_saw_1 0 rfl rfl)
theorem dX4_saw_25 : decode cX4_saw 25 = .ok (.aload_n 0, 1) := dk_42 (dk_at dksX4_saw_1 3 rfl rfl)
theorem dX4_saw_26 : decode cX4_saw 26 = .ok (.iload_n 2, 1) := dk_28 (dk_at dksX4_saw_1 4 rfl rfl)
theorem dX4_saw_27 : decode cX4_saw 27 = .ok (.invokevirtual 147, 3) := dk_182 0 147 (dk_at dksX4_saw_1 5 rfl rfl)
theorem dX4_saw_30 : decode cX4_saw 30 = .ok (.ifCond .eq 15, 3) := dk_153 0 15 (dk_at dksX4_saw_1 8 rfl rfl)
theorem dX4_saw_33 : decode cX4_saw 33 = .ok (.aload_n 0, 1) := dk_42 (dk_at dksX4_saw_1 11 rfl rfl)
theorem dX4_saw_34 : decode cX4_saw 34 = .ok (.iload_n 1, 1) := dk_27 (dk_at dksX4_saw_1 12 rfl rfl)
theorem dX4_saw_35 : decode cX4_saw 35 = .ok (.iconst 0, 1) := dk_3 (dk_at dksX4_saw_1 13 rfl rfl)
theorem dX4_saw_36 : decode cX4_saw 36 = .ok (.invokevirtual 163, 3) := dk_182 0 163 (dk_at dksX4_saw_1 14 rfl rfl)
theorem dX4_saw_39 : decode cX4_saw 39 = .ok (.iconst 2, 1) := dk_5 (dk_at dksX4_saw_1 17 rfl rfl)
theorem dX4_saw_40 : decode cX4_saw 40 = .ok (.idiv, 1) := dk_108 (dk_at dksX4_saw_1 18 rfl rfl)
theorem dX4_saw_41 : decode cX4_saw 41 = .ok (.iload_n 2, 1) := dk_28 (dk_at dksX4_saw_1 19 rfl rfl)
theorem dX4_saw_42 : decode cX4_saw 42 = .ok (.if_icmp .ne 5, 3) := dk_160 0 5 (dk_at dksX4_saw_1 20 rfl rfl)
theorem dX4_saw_45 : decode cX4_saw 45 = .ok (.iconst (-1), 1) := dk_2 (dk_at dksX4_saw_1 23 rfl rfl)
theorem dX4_saw_46 : decode cX4_saw 46 = .ok (.ireturn, 1) := dk_172 (dk_at dksX4_saw_2 0 rfl rfl)
theorem dX4_saw_47 : decode cX4_saw 47 = .ok (.aload_n 0, 1) := dk_42 (dk_at dksX4_saw_2 1 rfl rfl)
theorem dX4_saw_48 : decode cX4_saw 48 = .ok (.iconst 0, 1) := dk_3 (dk_at dksX4_saw_2 2 rfl rfl)
theorem dX4_saw_49 : decode cX4_saw 49 = .ok (.invokevirtual 170, 3) := dk_182 0 170 (dk_at dksX4_saw_2 3 rfl rfl)
theorem dX4_saw_52 : decode cX4_saw 52 = .ok (.aload_n 0, 1) := dk_42 (dk_at dksX4_saw_2 6 rfl rfl)
theorem dX4_saw_53 : decode cX4_saw 53 = .ok (.iload_n 1, 1) := dk_27 (dk_at dksX4_saw_2 7 rfl rfl)
theorem dX4_saw_54 : decode cX4_saw 54 = .ok (.iload_n 2, 1) := dk_28 (dk_at dksX4_saw_2 8 rfl rfl)
theorem dX4_saw_55 : decode cX4_saw 55 = .ok (.invokevirtual 182, 3) := dk_182 0 182 (dk_at dksX4_saw_2 9 rfl rfl)
theorem dX4_saw_58 : decode cX4_saw 58 = .ok (.ifCond .eq 7, 3) := dk_153 0 7 (dk_at dksX4_saw_2 12 rfl rfl)
theorem dX4_saw_61 : decode cX4_saw 61 = .ok (.iconst 1, 1) := dk_4 (dk_at dksX4_saw_2 15 rfl rfl)
theorem dX4_saw_62 : decode cX4_saw 62 = .ok (.goto 4, 3) := dk_167 0 4 (dk_at dksX4_saw_2 16 rfl rfl)
theorem dX4_saw_65 : decode cX4_saw 65 = .ok (.iconst 0, 1) := dk_3 (dk_at dksX4_saw_2 19 rfl rfl)
theorem dX4_saw_66 : decode cX4_saw 66 = .ok (.ireturn, 1) := dk_172 (dk_at dksX4_saw_2 20 rfl rfl)
abbrev cX4_sawIt : ByteArray := prog_26_method_28_code
def yX4_sawIt : MethodName := ⟨RX4, "sawIt", "(II)Z"⟩
def dkwX4_sawIt_2 : List UInt8 := [3, 182, 0, 163, 5, 108, 28, 159, 0, 15, 29, 28, 184, 0, 179, 153, 0, 7, 4, 167, 0, 4, 3, 172]
abbrev dktX4_sawIt_2 : List UInt8 := dkwX4_sawIt_2 ++ []
def dkwX4_sawIt_1 : List UInt8 := [180, 0, 33, 16, 100, 42, 27, 7, 182, 0, 163, 104, 42, 27, 6, 182, 0, 163, 96, 46, 128, 62, 42, 27]
abbrev dktX4_sawIt_1 : List UInt8 := dkwX4_sawIt_1 ++ dktX4_sawIt_2
def dkwX4_sawIt_0 : List UInt8 := [42, 180, 0, 33, 16, 100, 42, 27, 5, 182, 0, 163, 104, 42, 27, 6, 182, 0, 163, 96, 46, 42]
abbrev dktX4_sawIt_0 : List UInt8 := dkwX4_sawIt_0 ++ dktX4_sawIt_1
theorem dksX4_sawIt_0 : cX4_sawIt.data.toList.drop 0 = dktX4_sawIt_0 := by decide +kernel
theorem dksX4_sawIt_1 : cX4_sawIt.data.toList.drop 22 = dktX4_sawIt_1 := dk_seg dksX4_sawIt_0 22 rfl rfl
theorem dksX4_sawIt_2 : cX4_sawIt.data.toList.drop 46 = dktX4_sawIt_2 := dk_seg dksX4_sawIt_1 24 rfl rfl
theorem dX4_sawIt_0 : decode cX4_sawIt 0 = .ok (.aload_n 0, 1) := dk_42 (dk_at dksX4_sawIt_0 0 rfl rfl)
theorem dX4_sawIt_1 : decode cX4_sawIt 1 = .ok (.getfield 33, 3) := dk_180 0 33 (dk_at dksX4_sawIt_0 1 rfl rfl)
theorem dX4_sawIt_4 : decode cX4_sawIt 4 = .ok (.bipush 100, 2) := dk_16 100 (dk_at dksX4_sawIt_0 4 rfl rfl)
theorem dX4_sawIt_6 : decode cX4_sawIt 6 = .ok (.aload_n 0, 1) := dk_42 (dk_at dksX4_sawIt_0 6 rfl rfl)
theorem dX4_sawIt_7 : decode cX4_sawIt 7 = .ok (.iload_n 1, 1) := dk_27 (dk_at dksX4_sawIt_0 7 rfl rfl)
theorem dX4_sawIt_8 : decode cX4_sawIt 8 = .ok (.iconst 2, 1) := dk_5 (dk_at dksX4_sawIt_0 8 rfl rfl)
theorem dX4_sawIt_9 : decode cX4_sawIt 9 = .ok (.invokevirtual 163, 3) := dk_182 0 163 (dk_at dksX4_sawIt_0 9 rfl rfl)
theorem dX4_sawIt_12 : decode cX4_sawIt 12 = .ok (.imul, 1) := dk_104 (dk_at dksX4_sawIt_0 12 rfl rfl)
theorem dX4_sawIt_13 : decode cX4_sawIt 13 = .ok (.aload_n 0, 1) := dk_42 (dk_at dksX4_sawIt_0 13 rfl rfl)
theorem dX4_sawIt_14 : decode cX4_sawIt 14 = .ok (.iload_n 1, 1) := dk_27 (dk_at dksX4_sawIt_0 14 rfl rfl)
theorem dX4_sawIt_15 : decode cX4_sawIt 15 = .ok (.iconst 3, 1) := dk_6 (dk_at dksX4_sawIt_0 15 rfl rfl)
theorem dX4_sawIt_16 : decode cX4_sawIt 16 = .ok (.invokevirtual 163, 3) := dk_182 0 163 (dk_at dksX4_sawIt_0 16 rfl rfl)
theorem dX4_sawIt_19 : decode cX4_sawIt 19 = .ok (.iadd, 1) := dk_96 (dk_at dksX4_sawIt_0 19 rfl rfl)
theorem dX4_sawIt_20 : decode cX4_sawIt 20 = .ok (.iaload, 1) := dk_46 (dk_at dksX4_sawIt_0 20 rfl rfl)
theorem dX4_sawIt_21 : decode cX4_sawIt 21 = .ok (.aload_n 0, 1) := dk_42 (dk_at dksX4_sawIt_0 21 rfl rfl)
theorem dX4_sawIt_22 : decode cX4_sawIt 22 = .ok (.getfield 33, 3) := dk_180 0 33 (dk_at dksX4_sawIt_1 0 rfl rfl)
theorem dX4_sawIt_25 : decode cX4_sawIt 25 = .ok (.bipush 100, 2) := dk_16 100 (dk_at dksX4_sawIt_1 3 rfl rfl)
theorem dX4_sawIt_27 : decode cX4_sawIt 27 = .ok (.aload_n 0, 1) := dk_42 (dk_at dksX4_sawIt_1 5 rfl rfl)
theorem dX4_sawIt_28 : decode cX4_sawIt 28 = .ok (.iload_n 1, 1) := dk_27 (dk_at dksX4_sawIt_1 6 rfl rfl)
theorem dX4_sawIt_29 : decode cX4_sawIt 29 = .ok (.iconst 4, 1) := dk_7 (dk_at dksX4_sawIt_1 7 rfl rfl)
theorem dX4_sawIt_30 : decode cX4_sawIt 30 = .ok (.invokevirtual 163, 3) := dk_182 0 163 (dk_at dksX4_sawIt_1 8 rfl rfl)
theorem dX4_sawIt_33 : decode cX4_sawIt 33 = .ok (.imul, 1) := dk_104 (dk_at dksX4_sawIt_1 11 rfl rfl)
theorem dX4_sawIt_34 : decode cX4_sawIt 34 = .ok (.aload_n 0, 1) := dk_42 (dk_at dksX4_sawIt_1 12 rfl rfl)
theorem dX4_sawIt_35 : decode cX4_sawIt 35 = .ok (.iload_n 1, 1) := dk_27 (dk_at dksX4_sawIt_1 13 rfl rfl)
theorem dX4_sawIt_36 : decode cX4_sawIt 36 = .ok (.iconst 3, 1) := dk_6 (dk_at dksX4_sawIt_1 14 rfl rfl)
theorem dX4_sawIt_37 : decode cX4_sawIt 37 = .ok (.invokevirtual 163, 3) := dk_182 0 163 (dk_at dksX4_sawIt_1 15 rfl rfl)
theorem dX4_sawIt_40 : decode cX4_sawIt 40 = .ok (.iadd, 1) := dk_96 (dk_at dksX4_sawIt_1 18 rfl rfl)
theorem dX4_sawIt_41 : decode cX4_sawIt 41 = .ok (.iaload, 1) := dk_46 (dk_at dksX4_sawIt_1 19 rfl rfl)
theorem dX4_sawIt_42 : decode cX4_sawIt 42 = .ok (.ior, 1) := dk_128 (dk_at dksX4_sawIt_1 20 rfl rfl)
theorem dX4_sawIt_43 : decode cX4_sawIt 43 = .ok (.istore_n 3, 1) := dk_62 (dk_at dksX4_sawIt_1 21 rfl rfl)
theorem dX4_sawIt_44 : decode cX4_sawIt 44 = .ok (.aload_n 0, 1) := dk_42 (dk_at dksX4_sawIt_1 22 rfl rfl)
theorem dX4_sawIt_45 : decode cX4_sawIt 45 = .ok (.iload_n 1, 1) := dk_27 (dk_at dksX4_sawIt_1 23 rfl rfl)
theorem dX4_sawIt_46 : decode cX4_sawIt 46 = .ok (.iconst 0, 1) := dk_3 (dk_at dksX4_sawIt_2 0 rfl rfl)
theorem dX4_sawIt_47 : decode cX4_sawIt 47 = .ok (.invokevirtual 163, 3) := dk_182 0 163 (dk_at dksX4_sawIt_2 1 rfl rfl)
theorem dX4_sawIt_50 : decode cX4_sawIt 50 = .ok (.iconst 2, 1) := dk_5 (dk_at dksX4_sawIt_2 4 rfl rfl)
theorem dX4_sawIt_51 : decode cX4_sawIt 51 = .ok (.idiv, 1) := dk_108 (dk_at dksX4_sawIt_2 5 rfl rfl)
theorem dX4_sawIt_52 : decode cX4_sawIt 52 = .ok (.iload_n 2, 1) := dk_28 (dk_at dksX4_sawIt_2 6 rfl rfl)
theorem dX4_sawIt_53 : decode cX4_sawIt 53 = .ok (.if_icmp .eq 15, 3) := dk_159 0 15 (dk_at dksX4_sawIt_2 7 rfl rfl)
theorem dX4_sawIt_56 : decode cX4_sawIt 56 = .ok (.iload_n 3, 1) := dk_29 (dk_at dksX4_sawIt_2 10 rfl rfl)
theorem dX4_sawIt_57 : decode cX4_sawIt 57 = .ok (.iload_n 2, 1) := dk_28 (dk_at dksX4_sawIt_2 11 rfl rfl)
theorem dX4_sawIt_58 : decode cX4_sawIt 58 = .ok (.invokestatic 179, 3) := dk_184 0 179 (dk_at dksX4_sawIt_2 12 rfl rfl)
theorem dX4_sawIt_61 : decode cX4_sawIt 61 = .ok (.ifCond .eq 7, 3) := dk_153 0 7 (dk_at dksX4_sawIt_2 15 rfl rfl)
theorem dX4_sawIt_64 : decode cX4_sawIt 64 = .ok (.iconst 1, 1) := dk_4 (dk_at dksX4_sawIt_2 18 rfl rfl)
theorem dX4_sawIt_65 : decode cX4_sawIt 65 = .ok (.goto 4, 3) := dk_167 0 4 (dk_at dksX4_sawIt_2 19 rfl rfl)
theorem dX4_sawIt_68 : decode cX4_sawIt 68 = .ok (.iconst 0, 1) := dk_3 (dk_at dksX4_sawIt_2 22 rfl rfl)
theorem dX4_sawIt_69 : decode cX4_sawIt 69 = .ok (.ireturn, 1) := dk_172 (dk_at dksX4_sawIt_2 23 rfl rfl)
abbrev cX4_at : ByteArray := prog_26_method_35_code
def yX4_at : MethodName := ⟨RX4, "at", "(III)I"⟩
def dkwX4_at_6 : List UInt8 := [160, 0, 9, 17, 4, 46, 167, 0, 6, 17, 11, 54, 16, 100, 28, 104, 96, 29, 96, 46, 172]
abbrev dktX4_at_6 : List UInt8 := dkwX4_at_6 ++ []
def dkwX4_at_5 : List UInt8 := [28, 104, 29, 96, 51, 153, 0, 7, 4, 167, 0, 33, 3, 167, 0, 29, 42, 180, 0, 17, 27, 6]
abbrev dktX4_at_5 : List UInt8 := dkwX4_at_5 ++ dktX4_at_6
def dkwX4_at_4 : List UInt8 := [182, 0, 160, 154, 0, 5, 2, 172, 42, 3, 182, 0, 170, 27, 5, 160, 0, 25, 42, 180, 0, 45, 16, 100]
abbrev dktX4_at_4 : List UInt8 := dkwX4_at_4 ++ dktX4_at_5
def dkwX4_at_3 : List UInt8 := [182, 0, 192, 167, 0, 18, 42, 28, 29, 182, 0, 189, 2, 160, 0, 7, 3, 167, 0, 4, 4, 172, 42, 28]
abbrev dktX4_at_3 : List UInt8 := dkwX4_at_3 ++ dktX4_at_4
def dkwX4_at_2 : List UInt8 := [160, 0, 44, 42, 28, 182, 0, 147, 154, 0, 5, 2, 172, 27, 4, 160, 0, 13, 42, 28, 29, 3]
abbrev dktX4_at_2 : List UInt8 := dkwX4_at_2 ++ dktX4_at_3
def dkwX4_at_1 : List UInt8 := [2, 172, 27, 154, 0, 12, 42, 180, 0, 17, 3, 29, 96, 46, 172, 27, 4, 159, 0, 8, 27, 8]
abbrev dktX4_at_1 : List UInt8 := dkwX4_at_1 ++ dktX4_at_2
def dkwX4_at_0 : List UInt8 := [42, 3, 181, 0, 1, 29, 184, 0, 128, 153, 0, 15, 27, 133, 9, 20, 0, 195, 184, 0, 140, 154, 0, 5]
abbrev dktX4_at_0 : List UInt8 := dkwX4_at_0 ++ dktX4_at_1
theorem dksX4_at_0 : cX4_at.data.toList.drop 0 = dktX4_at_0 := by decide +kernel
theorem dksX4_at_1 : cX4_at.data.toList.drop 24 = dktX4_at_1 := dk_seg dksX4_at_0 24 rfl rfl
theorem dksX4_at_2 : cX4_at.data.toList.drop 46 = dktX4_at_2 := dk_seg dksX4_at_1 22 rfl rfl
theorem dksX4_at_3 : cX4_at.data.toList.drop 68 = dktX4_at_3 := dk_seg dksX4_at_2 22 rfl rfl
theorem dksX4_at_4 : cX4_at.data.toList.drop 92 = dktX4_at_4 := dk_seg dksX4_at_3 24 rfl rfl
theorem dksX4_at_5 : cX4_at.data.toList.drop 116 = dktX4_at_5 := dk_seg dksX4_at_4 24 rfl rfl
theorem dksX4_at_6 : cX4_at.data.toList.drop 138 = dktX4_at_6 := dk_seg dksX4_at_5 22 rfl rfl
theorem dX4_at_0 : decode cX4_at 0 = .ok (.aload_n 0, 1) := dk_42 (dk_at dksX4_at_0 0 rfl rfl)
theorem dX4_at_1 : decode cX4_at 1 = .ok (.iconst 0, 1) := dk_3 (dk_at dksX4_at_0 1 rfl rfl)
theorem dX4_at_2 : decode cX4_at 2 = .ok (.putfield 1, 3) := dk_181 0 1 (dk_at dksX4_at_0 2 rfl rfl)
theorem dX4_at_5 : decode cX4_at 5 = .ok (.iload_n 3, 1) := dk_29 (dk_at dksX4_at_0 5 rfl rfl)
theorem dX4_at_6 : decode cX4_at 6 = .ok (.invokestatic 128, 3) := dk_184 0 128 (dk_at dksX4_at_0 6 rfl rfl)
theorem dX4_at_9 : decode cX4_at 9 = .ok (.ifCond .eq 15, 3) := dk_153 0 15 (dk_at dksX4_at_0 9 rfl rfl)
theorem dX4_at_12 : decode cX4_at 12 = .ok (.iload_n 1, 1) := dk_27 (dk_at dksX4_at_0 12 rfl rfl)
theorem dX4_at_13 : decode cX4_at 13 = .ok (.i2l, 1) := dk_133 (dk_at dksX4_at_0 13 rfl rfl)
theorem dX4_at_14 : decode cX4_at 14 = .ok (.lconst 0, 1) := dk_9 (dk_at dksX4_at_0 14 rfl rfl)
theorem dX4_at_15 : decode cX4_at 15 = .ok (.ldc2_w 195, 3) := dk_20 0 195 (dk_at dksX4_at_0 15 rfl rfl)
theorem dX4_at_18 : decode cX4_at 18 = .ok (.invokestatic 140, 3) := dk_184 0 140 (dk_at dksX4_at_0 18 rfl rfl)
theorem dX4_at_21 : decode cX4_at 21 = .ok (.ifCond .ne 5, 3) := dk_154 0 5 (dk_at dksX4_at_0 21 rfl rfl)
theorem dX4_at_24 : decode cX4_at 24 = .ok (.iconst (-1), 1) := dk_2 (dk_at dksX4_at_1 0 rfl rfl)
theorem dX4_at_25 : decode cX4_at 25 = .ok (.ireturn, 1) := dk_172 (dk_at dksX4_at_1 1 rfl rfl)
theorem dX4_at_26 : decode cX4_at 26 = .ok (.iload_n 1, 1) := dk_27 (dk_at dksX4_at_1 2 rfl rfl)
theorem dX4_at_27 : decode cX4_at 27 = .ok (.ifCond .ne 12, 3) := dk_154 0 12 (dk_at dksX4_at_1 3 rfl rfl)
theorem dX4_at_30 : decode cX4_at 30 = .ok (.aload_n 0, 1) := dk_42 (dk_at dksX4_at_1 6 rfl rfl)
theorem dX4_at_31 : decode cX4_at 31 = .ok (.getfield 17, 3) := dk_180 0 17 (dk_at dksX4_at_1 7 rfl rfl)
theorem dX4_at_34 : decode cX4_at 34 = .ok (.iconst 0, 1) := dk_3 (dk_at dksX4_at_1 10 rfl rfl)
theorem dX4_at_35 : decode cX4_at 35 = .ok (.iload_n 3, 1) := dk_29 (dk_at dksX4_at_1 11 rfl rfl)
theorem dX4_at_36 : decode cX4_at 36 = .ok (.iadd, 1) := dk_96 (dk_at dksX4_at_1 12 rfl rfl)
theorem dX4_at_37 : decode cX4_at 37 = .ok (.iaload, 1) := dk_46 (dk_at dksX4_at_1 13 rfl rfl)
theorem dX4_at_38 : decode cX4_at 38 = .ok (.ireturn, 1) := dk_172 (dk_at dksX4_at_1 14 rfl rfl)
theorem dX4_at_39 : decode cX4_at 39 = .ok (.iload_n 1, 1) := dk_27 (dk_at dksX4_at_1 15 rfl rfl)
theorem dX4_at_40 : decode cX4_at 40 = .ok (.iconst 1, 1) := dk_4 (dk_at dksX4_at_1 16 rfl rfl)
theorem dX4_at_41 : decode cX4_at 41 = .ok (.if_icmp .eq 8, 3) := dk_159 0 8 (dk_at dksX4_at_1 17 rfl rfl)
theorem dX4_at_44 : decode cX4_at 44 = .ok (.iload_n 1, 1) := dk_27 (dk_at dksX4_at_1 20 rfl rfl)
theorem dX4_at_45 : decode cX4_at 45 = .ok (.iconst 5, 1) := dk_8 (dk_at dksX4_at_1 21 rfl rfl)
theorem dX4_at_46 : decode cX4_at 46 = .ok (.if_icmp .ne 44, 3) := dk_160 0 44 (dk_at dksX4_at_2 0 rfl rfl)
theorem dX4_at_49 : decode cX4_at 49 = .ok (.aload_n 0, 1) := dk_42 (dk_at dksX4_at_2 3 rfl rfl)
theorem dX4_at_50 : decode cX4_at 50 = .ok (.iload_n 2, 1) := dk_28 (dk_at dksX4_at_2 4 rfl rfl)
theorem dX4_at_51 : decode cX4_at 51 = .ok (.invokevirtual 147, 3) := dk_182 0 147 (dk_at dksX4_at_2 5 rfl rfl)
theorem dX4_at_54 : decode cX4_at 54 = .ok (.ifCond .ne 5, 3) := dk_154 0 5 (dk_at dksX4_at_2 8 rfl rfl)
theorem dX4_at_57 : decode cX4_at 57 = .ok (.iconst (-1), 1) := dk_2 (dk_at dksX4_at_2 11 rfl rfl)
theorem dX4_at_58 : decode cX4_at 58 = .ok (.ireturn, 1) := dk_172 (dk_at dksX4_at_2 12 rfl rfl)
theorem dX4_at_59 : decode cX4_at 59 = .ok (.iload_n 1, 1) := dk_27 (dk_at dksX4_at_2 13 rfl rfl)
theorem dX4_at_60 : decode cX4_at 60 = .ok (.iconst 1, 1) := dk_4 (dk_at dksX4_at_2 14 rfl rfl)
theorem dX4_at_61 : decode cX4_at 61 = .ok (.if_icmp .ne 13, 3) := dk_160 0 13 (dk_at dksX4_at_2 15 rfl rfl)
theorem dX4_at_64 : decode cX4_at 64 = .ok (.aload_n 0, 1) := dk_42 (dk_at dksX4_at_2 18 rfl rfl)
theorem dX4_at_65 : decode cX4_at 65 = .ok (.iload_n 2, 1) := dk_28 (dk_at dksX4_at_2 19 rfl rfl)
theorem dX4_at_66 : decode cX4_at 66 = .ok (.iload_n 3, 1) := dk_29 (dk_at dksX4_at_2 20 rfl rfl)
theorem dX4_at_67 : decode cX4_at 67 = .ok (.iconst 0, 1) := dk_3 (dk_at dksX4_at_2 21 rfl rfl)
theorem dX4_at_68 : decode cX4_at 68 = .ok (.invokevirtual 192, 3) := dk_182 0 192 (dk_at dksX4_at_3 0 rfl rfl)
theorem dX4_at_71 : decode cX4_at 71 = .ok (.goto 18, 3) := dk_167 0 18 (dk_at dksX4_at_3 3 rfl rfl)
theorem dX4_at_74 : decode cX4_at 74 = .ok (.aload_n 0, 1) := dk_42 (dk_at dksX4_at_3 6 rfl rfl)
theorem dX4_at_75 : decode cX4_at 75 = .ok (.iload_n 2, 1) := dk_28 (dk_at dksX4_at_3 7 rfl rfl)
theorem dX4_at_76 : decode cX4_at 76 = .ok (.iload_n 3, 1) := dk_29 (dk_at dksX4_at_3 8 rfl rfl)
theorem dX4_at_77 : decode cX4_at 77 = .ok (.invokevirtual 189, 3) := dk_182 0 189 (dk_at dksX4_at_3 9 rfl rfl)
theorem dX4_at_80 : decode cX4_at 80 = .ok (.iconst (-1), 1) := dk_2 (dk_at dksX4_at_3 12 rfl rfl)
theorem dX4_at_81 : decode cX4_at 81 = .ok (.if_icmp .ne 7, 3) := dk_160 0 7 (dk_at dksX4_at_3 13 rfl rfl)
theorem dX4_at_84 : decode cX4_at 84 = .ok (.iconst 0, 1) := dk_3 (dk_at dksX4_at_3 16 rfl rfl)
theorem dX4_at_85 : decode cX4_at 85 = .ok (.goto 4, 3) := dk_167 0 4 (dk_at dksX4_at_3 17 rfl rfl)
theorem dX4_at_88 : decode cX4_at 88 = .ok (.iconst 1, 1) := dk_4 (dk_at dksX4_at_3 20 rfl rfl)
theorem dX4_at_89 : decode cX4_at 89 = .ok (.ireturn, 1) := dk_172 (dk_at dksX4_at_3 21 rfl rfl)
theorem dX4_at_90 : decode cX4_at 90 = .ok (.aload_n 0, 1) := dk_42 (dk_at dksX4_at_3 22 rfl rfl)
theorem dX4_at_91 : decode cX4_at 91 = .ok (.iload_n 2, 1) := dk_28 (dk_at dksX4_at_3 23 rfl rfl)
theorem dX4_at_92 : decode cX4_at 92 = .ok (.invokevirtual 160, 3) := dk_182 0 160 (dk_at dksX4_at_4 0 rfl rfl)
theorem dX4_at_95 : decode cX4_at 95 = .ok (.ifCond .ne 5, 3) := dk_154 0 5 (dk_at dksX4_at_4 3 rfl rfl)
theorem dX4_at_98 : decode cX4_at 98 = .ok (.iconst (-1), 1) := dk_2 (dk_at dksX4_at_4 6 rfl rfl)
theorem dX4_at_99 : decode cX4_at 99 = .ok (.ireturn, 1) := dk_172 (dk_at dksX4_at_4 7 rfl rfl)
theorem dX4_at_100 : decode cX4_at 100 = .ok (.aload_n 0, 1) := dk_42 (dk_at dksX4_at_4 8 rfl rfl)
theorem dX4_at_101 : decode cX4_at 101 = .ok (.iconst 0, 1) := dk_3 (dk_at dksX4_at_4 9 rfl rfl)
theorem dX4_at_102 : decode cX4_at 102 = .ok (.invokevirtual 170, 3) := dk_182 0 170 (dk_at dksX4_at_4 10 rfl rfl)
theorem dX4_at_105 : decode cX4_at 105 = .ok (.iload_n 1, 1) := dk_27 (dk_at dksX4_at_4 13 rfl rfl)
theorem dX4_at_106 : decode cX4_at 106 = .ok (.iconst 2, 1) := dk_5 (dk_at dksX4_at_4 14 rfl rfl)
theorem dX4_at_107 : decode cX4_at 107 = .ok (.if_icmp .ne 25, 3) := dk_160 0 25 (dk_at dksX4_at_4 15 rfl rfl)
theorem dX4_at_110 : decode cX4_at 110 = .ok (.aload_n 0, 1) := dk_42 (dk_at dksX4_at_4 18 rfl rfl)
theorem dX4_at_111 : decode cX4_at 111 = .ok (.getfield 45, 3) := dk_180 0 45 (dk_at dksX4_at_4 19 rfl rfl)
theorem dX4_at_114 : decode cX4_at 114 = .ok (.bipush 100, 2) := dk_16 100 (dk_at dksX4_at_4 22 rfl rfl)
theorem dX4_at_116 : decode cX4_at 116 = .ok (.iload_n 2, 1) := dk_28 (dk_at dksX4_at_5 0 rfl rfl)
theorem dX4_at_117 : decode cX4_at 117 = .ok (.imul, 1) := dk_104 (dk_at dksX4_at_5 1 rfl rfl)
theorem dX4_at_118 : decode cX4_at 118 = .ok (.iload_n 3, 1) := dk_29 (dk_at dksX4_at_5 2 rfl rfl)
theorem dX4_at_119 : decode cX4_at 119 = .ok (.iadd, 1) := dk_96 (dk_at dksX4_at_5 3 rfl rfl)
theorem dX4_at_120 : decode cX4_at 120 = .ok (.baload, 1) := dk_51 (dk_at dksX4_at_5 4 rfl rfl)
theorem dX4_at_121 : decode cX4_at 121 = .ok (.ifCond .eq 7, 3) := dk_153 0 7 (dk_at dksX4_at_5 5 rfl rfl)
theorem dX4_at_124 : decode cX4_at 124 = .ok (.iconst 1, 1) := dk_4 (dk_at dksX4_at_5 8 rfl rfl)
theorem dX4_at_125 : decode cX4_at 125 = .ok (.goto 33, 3) := dk_167 0 33 (dk_at dksX4_at_5 9 rfl rfl)
theorem dX4_at_128 : decode cX4_at 128 = .ok (.iconst 0, 1) := dk_3 (dk_at dksX4_at_5 12 rfl rfl)
theorem dX4_at_129 : decode cX4_at 129 = .ok (.goto 29, 3) := dk_167 0 29 (dk_at dksX4_at_5 13 rfl rfl)
theorem dX4_at_132 : decode cX4_at 132 = .ok (.aload_n 0, 1) := dk_42 (dk_at dksX4_at_5 16 rfl rfl)
theorem dX4_at_133 : decode cX4_at 133 = .ok (.getfield 17, 3) := dk_180 0 17 (dk_at dksX4_at_5 17 rfl rfl)
theorem dX4_at_136 : decode cX4_at 136 = .ok (.iload_n 1, 1) := dk_27 (dk_at dksX4_at_5 20 rfl rfl)
theorem dX4_at_137 : decode cX4_at 137 = .ok (.iconst 3, 1) := dk_6 (dk_at dksX4_at_5 21 rfl rfl)
theorem dX4_at_138 : decode cX4_at 138 = .ok (.if_icmp .ne 9, 3) := dk_160 0 9 (dk_at dksX4_at_6 0 rfl rfl)
theorem dX4_at_141 : decode cX4_at 141 = .ok (.sipush 1070, 3) := dk_17 4 46 (dk_at dksX4_at_6 3 rfl rfl)
theorem dX4_at_144 : decode cX4_at 144 = .ok (.goto 6, 3) := dk_167 0 6 (dk_at dksX4_at_6 6 rfl rfl)
theorem dX4_at_147 : decode cX4_at 147 = .ok (.sipush 2870, 3) := dk_17 11 54 (dk_at dksX4_at_6 9 rfl rfl)
theorem dX4_at_150 : decode cX4_at 150 = .ok (.bipush 100, 2) := dk_16 100 (dk_at dksX4_at_6 12 rfl rfl)
theorem dX4_at_152 : decode cX4_at 152 = .ok (.iload_n 2, 1) := dk_28 (dk_at dksX4_at_6 14 rfl rfl)
theorem dX4_at_153 : decode cX4_at 153 = .ok (.imul, 1) := dk_104 (dk_at dksX4_at_6 15 rfl rfl)
theorem dX4_at_154 : decode cX4_at 154 = .ok (.iadd, 1) := dk_96 (dk_at dksX4_at_6 16 rfl rfl)
theorem dX4_at_155 : decode cX4_at 155 = .ok (.iload_n 3, 1) := dk_29 (dk_at dksX4_at_6 17 rfl rfl)
theorem dX4_at_156 : decode cX4_at 156 = .ok (.iadd, 1) := dk_96 (dk_at dksX4_at_6 18 rfl rfl)
theorem dX4_at_157 : decode cX4_at 157 = .ok (.iaload, 1) := dk_46 (dk_at dksX4_at_6 19 rfl rfl)
theorem dX4_at_158 : decode cX4_at 158 = .ok (.ireturn, 1) := dk_172 (dk_at dksX4_at_6 20 rfl rfl)
abbrev cX4_vouch : ByteArray := prog_26_method_36_code
def yX4_vouch : MethodName := ⟨RX4, "vouch", "(IIZ)I"⟩
def dkwX4_vouch_2 : List UInt8 := [182, 0, 197, 172]
abbrev dktX4_vouch_2 : List UInt8 := dkwX4_vouch_2 ++ []
def dkwX4_vouch_1 : List UInt8 := [182, 0, 170, 29, 153, 0, 17, 42, 180, 0, 36, 16, 100, 27, 104, 28, 96, 46, 167, 0, 9, 42, 27, 28]
abbrev dktX4_vouch_1 : List UInt8 := dkwX4_vouch_1 ++ dktX4_vouch_2
def dkwX4_vouch_0 : List UInt8 := [42, 3, 181, 0, 1, 42, 27, 182, 0, 160, 153, 0, 10, 28, 184, 0, 128, 154, 0, 5, 2, 172, 42, 3]
abbrev dktX4_vouch_0 : List UInt8 := dkwX4_vouch_0 ++ dktX4_vouch_1
theorem dksX4_vouch_0 : cX4_vouch.data.toList.drop 0 = dktX4_vouch_0 := by decide +kernel
theorem dksX4_vouch_1 : cX4_vouch.data.toList.drop 24 = dktX4_vouch_1 := dk_seg dksX4_vouch_0 24 rfl rfl
theorem dksX4_vouch_2 : cX4_vouch.data.toList.drop 48 = dktX4_vouch_2 := dk_seg dksX4_vouch_1 24 rfl rfl
theorem dX4_vouch_0 : decode cX4_vouch 0 = .ok (.aload_n 0, 1) := dk_42 (dk_at dksX4_vouch_0 0 rfl rfl)
theorem dX4_vouch_1 : decode cX4_vouch 1 = .ok (.iconst 0, 1) := dk_3 (dk_at dksX4_vouch_0 1 rfl rfl)
theorem dX4_vouch_2 : decode cX4_vouch 2 = .ok (.putfield 1, 3) := dk_181 0 1 (dk_at dksX4_vouch_0 2 rfl rfl)
theorem dX4_vouch_5 : decode cX4_vouch 5 = .ok (.aload_n 0, 1) := dk_42 (dk_at dksX4_vouch_0 5 rfl rfl)
theorem dX4_vouch_6 : decode cX4_vouch 6 = .ok (.iload_n 1, 1) := dk_27 (dk_at dksX4_vouch_0 6 rfl rfl)
theorem dX4_vouch_7 : decode cX4_vouch 7 = .ok (.invokevirtual 160, 3) := dk_182 0 160 (dk_at dksX4_vouch_0 7 rfl rfl)
theorem dX4_vouch_10 : decode cX4_vouch 10 = .ok (.ifCond .eq 10, 3) := dk_153 0 10 (dk_at dksX4_vouch_0 10 rfl rfl)
theorem dX4_vouch_13 : decode cX4_vouch 13 = .ok (.iload_n 2, 1) := dk_28 (dk_at dksX4_vouch_0 13 rfl rfl)
theorem dX4_vouch_14 : decode cX4_vouch 14 = .ok (.invokestatic 128, 3) := dk_184 0 128 (dk_at dksX4_vouch_0 14 rfl rfl)
theorem dX4_vouch_17 : decode cX4_vouch 17 = .ok (.ifCond .ne 5, 3) := dk_154 0 5 (dk_at dksX4_vouch_0 17 rfl rfl)
theorem dX4_vouch_20 : decode cX4_vouch 20 = .ok (.iconst (-1), 1) := dk_2 (dk_at dksX4_vouch_0 20 rfl rfl)
theorem dX4_vouch_21 : decode cX4_vouch 21 = .ok (.ireturn, 1) := dk_172 (dk_at dksX4_vouch_0 21 rfl rfl)
theorem dX4_vouch_22 : decode cX4_vouch 22 = .ok (.aload_n 0, 1) := dk_42 (dk_at dksX4_vouch_0 22 rfl rfl)
theorem dX4_vouch_23 : decode cX4_vouch 23 = .ok (.iconst 0, 1) := dk_3 (dk_at dksX4_vouch_0 23 rfl rfl)
theorem dX4_vouch_24 : decode cX4_vouch 24 = .ok (.invokevirtual 170, 3) := dk_182 0 170 (dk_at dksX4_vouch_1 0 rfl rfl)
theorem dX4_vouch_27 : decode cX4_vouch 27 = .ok (.iload_n 3, 1) := dk_29 (dk_at dksX4_vouch_1 3 rfl rfl)
theorem dX4_vouch_28 : decode cX4_vouch 28 = .ok (.ifCond .eq 17, 3) := dk_153 0 17 (dk_at dksX4_vouch_1 4 rfl rfl)
theorem dX4_vouch_31 : decode cX4_vouch 31 = .ok (.aload_n 0, 1) := dk_42 (dk_at dksX4_vouch_1 7 rfl rfl)
theorem dX4_vouch_32 : decode cX4_vouch 32 = .ok (.getfield 36, 3) := dk_180 0 36 (dk_at dksX4_vouch_1 8 rfl rfl)
theorem dX4_vouch_35 : decode cX4_vouch 35 = .ok (.bipush 100, 2) := dk_16 100 (dk_at dksX4_vouch_1 11 rfl rfl)
theorem dX4_vouch_37 : decode cX4_vouch 37 = .ok (.iload_n 1, 1) := dk_27 (dk_at dksX4_vouch_1 13 rfl rfl)
theorem dX4_vouch_38 : decode cX4_vouch 38 = .ok (.imul, 1) := dk_104 (dk_at dksX4_vouch_1 14 rfl rfl)
theorem dX4_vouch_39 : decode cX4_vouch 39 = .ok (.iload_n 2, 1) := dk_28 (dk_at dksX4_vouch_1 15 rfl rfl)
theorem dX4_vouch_40 : decode cX4_vouch 40 = .ok (.iadd, 1) := dk_96 (dk_at dksX4_vouch_1 16 rfl rfl)
theorem dX4_vouch_41 : decode cX4_vouch 41 = .ok (.iaload, 1) := dk_46 (dk_at dksX4_vouch_1 17 rfl rfl)
theorem dX4_vouch_42 : decode cX4_vouch 42 = .ok (.goto 9, 3) := dk_167 0 9 (dk_at dksX4_vouch_1 18 rfl rfl)
theorem dX4_vouch_45 : decode cX4_vouch 45 = .ok (.aload_n 0, 1) := dk_42 (dk_at dksX4_vouch_1 21 rfl rfl)
theorem dX4_vouch_46 : decode cX4_vouch 46 = .ok (.iload_n 1, 1) := dk_27 (dk_at dksX4_vouch_1 22 rfl rfl)
theorem dX4_vouch_47 : decode cX4_vouch 47 = .ok (.iload_n 2, 1) := dk_28 (dk_at dksX4_vouch_1 23 rfl rfl)
theorem dX4_vouch_48 : decode cX4_vouch 48 = .ok (.invokevirtual 197, 3) := dk_182 0 197 (dk_at dksX4_vouch_2 0 rfl rfl)
theorem dX4_vouch_51 : decode cX4_vouch 51 = .ok (.ireturn, 1) := dk_172 (dk_at dksX4_vouch_2 3 rfl rfl)
abbrev cX4_sayers : ByteArray := prog_26_method_34_code
def yX4_sayers : MethodName := ⟨RX4, "sayers", "(II)I"⟩
def dkwX4_sayers_3 : List UInt8 := [172]
abbrev dktX4_sayers_3 : List UInt8 := dkwX4_sayers_3 ++ []
def dkwX4_sayers_2 : List UInt8 := [29, 4, 21, 4, 5, 108, 120, 128, 62, 132, 4, 1, 167, 255, 213, 29, 4, 27, 5, 108, 120, 2, 130, 126]
abbrev dktX4_sayers_2 : List UInt8 := dkwX4_sayers_2 ++ dktX4_sayers_3
def dkwX4_sayers_1 : List UInt8 := [104, 162, 0, 38, 42, 180, 0, 17, 17, 4, 46, 16, 100, 21, 4, 104, 96, 28, 96, 46, 27, 160, 0, 12]
abbrev dktX4_sayers_1 : List UInt8 := dkwX4_sayers_1 ++ dktX4_sayers_2
def dkwX4_sayers_0 : List UInt8 := [42, 180, 0, 33, 16, 100, 27, 5, 108, 104, 28, 96, 46, 62, 3, 54, 4, 21, 4, 5, 42, 180, 0, 24]
abbrev dktX4_sayers_0 : List UInt8 := dkwX4_sayers_0 ++ dktX4_sayers_1
theorem dksX4_sayers_0 : cX4_sayers.data.toList.drop 0 = dktX4_sayers_0 := by decide +kernel
theorem dksX4_sayers_1 : cX4_sayers.data.toList.drop 24 = dktX4_sayers_1 := dk_seg dksX4_sayers_0 24 rfl rfl
theorem dksX4_sayers_2 : cX4_sayers.data.toList.drop 48 = dktX4_sayers_2 := dk_seg dksX4_sayers_1 24 rfl rfl
theorem dksX4_sayers_3 : cX4_sayers.data.toList.drop 72 = dktX4_sayers_3 := dk_seg dksX4_sayers_2 24 rfl rfl
theorem dX4_sayers_0 : decode cX4_sayers 0 = .ok (.aload_n 0, 1) := dk_42 (dk_at dksX4_sayers_0 0 rfl rfl)
theorem dX4_sayers_1 : decode cX4_sayers 1 = .ok (.getfield 33, 3) := dk_180 0 33 (dk_at dksX4_sayers_0 1 rfl rfl)
theorem dX4_sayers_4 : decode cX4_sayers 4 = .ok (.bipush 100, 2) := dk_16 100 (dk_at dksX4_sayers_0 4 rfl rfl)
theorem dX4_sayers_6 : decode cX4_sayers 6 = .ok (.iload_n 1, 1) := dk_27 (dk_at dksX4_sayers_0 6 rfl rfl)
theorem dX4_sayers_7 : decode cX4_sayers 7 = .ok (.iconst 2, 1) := dk_5 (dk_at dksX4_sayers_0 7 rfl rfl)
theorem dX4_sayers_8 : decode cX4_sayers 8 = .ok (.idiv, 1) := dk_108 (dk_at dksX4_sayers_0 8 rfl rfl)
theorem dX4_sayers_9 : decode cX4_sayers 9 = .ok (.imul, 1) := dk_104 (dk_at dksX4_sayers_0 9 rfl rfl)
theorem dX4_sayers_10 : decode cX4_sayers 10 = .ok (.iload_n 2, 1) := dk_28 (dk_at dksX4_sayers_0 10 rfl rfl)
theorem dX4_sayers_11 : decode cX4_sayers 11 = .ok (.iadd, 1) := dk_96 (dk_at dksX4_sayers_0 11 rfl rfl)
theorem dX4_sayers_12 : decode cX4_sayers 12 = .ok (.iaload, 1) := dk_46 (dk_at dksX4_sayers_0 12 rfl rfl)
theorem dX4_sayers_13 : decode cX4_sayers 13 = .ok (.istore_n 3, 1) := dk_62 (dk_at dksX4_sayers_0 13 rfl rfl)
theorem dX4_sayers_14 : decode cX4_sayers 14 = .ok (.iconst 0, 1) := dk_3 (dk_at dksX4_sayers_0 14 rfl rfl)
theorem dX4_sayers_15 : decode cX4_sayers 15 = .ok (.istore 4, 2) := dk_54 4 (dk_at dksX4_sayers_0 15 rfl rfl)
theorem dX4_sayers_17 : decode cX4_sayers 17 = .ok (.iload 4, 2) := dk_21 4 (dk_at dksX4_sayers_0 17 rfl rfl)
theorem dX4_sayers_19 : decode cX4_sayers 19 = .ok (.iconst 2, 1) := dk_5 (dk_at dksX4_sayers_0 19 rfl rfl)
theorem dX4_sayers_20 : decode cX4_sayers 20 = .ok (.aload_n 0, 1) := dk_42 (dk_at dksX4_sayers_0 20 rfl rfl)
theorem dX4_sayers_21 : decode cX4_sayers 21 = .ok (.getfield 24, 3) := dk_180 0 24 (dk_at dksX4_sayers_0 21 rfl rfl)
theorem dX4_sayers_24 : decode cX4_sayers 24 = .ok (.imul, 1) := dk_104 (dk_at dksX4_sayers_1 0 rfl rfl)
theorem dX4_sayers_25 : decode cX4_sayers 25 = .ok (.if_icmp .ge 38, 3) := dk_162 0 38 (dk_at dksX4_sayers_1 1 rfl rfl)
theorem dX4_sayers_28 : decode cX4_sayers 28 = .ok (.aload_n 0, 1) := dk_42 (dk_at dksX4_sayers_1 4 rfl rfl)
theorem dX4_sayers_29 : decode cX4_sayers 29 = .ok (.getfield 17, 3) := dk_180 0 17 (dk_at dksX4_sayers_1 5 rfl rfl)
theorem dX4_sayers_32 : decode cX4_sayers 32 = .ok (.sipush 1070, 3) := dk_17 4 46 (dk_at dksX4_sayers_1 8 rfl rfl)
theorem dX4_sayers_35 : decode cX4_sayers 35 = .ok (.bipush 100, 2) := dk_16 100 (dk_at dksX4_sayers_1 11 rfl rfl)
theorem dX4_sayers_37 : decode cX4_sayers 37 = .ok (.iload 4, 2) := dk_21 4 (dk_at dksX4_sayers_1 13 rfl rfl)
theorem dX4_sayers_39 : decode cX4_sayers 39 = .ok (.imul, 1) := dk_104 (dk_at dksX4_sayers_1 15 rfl rfl)
theorem dX4_sayers_40 : decode cX4_sayers 40 = .ok (.iadd, 1) := dk_96 (dk_at dksX4_sayers_1 16 rfl rfl)
theorem dX4_sayers_41 : decode cX4_sayers 41 = .ok (.iload_n 2, 1) := dk_28 (dk_at dksX4_sayers_1 17 rfl rfl)
theorem dX4_sayers_42 : decode cX4_sayers 42 = .ok (.iadd, 1) := dk_96 (dk_at dksX4_sayers_1 18 rfl rfl)
theorem dX4_sayers_43 : decode cX4_sayers 43 = .ok (.iaload, 1) := dk_46 (dk_at dksX4_sayers_1 19 rfl rfl)
theorem dX4_sayers_44 : decode cX4_sayers 44 = .ok (.iload_n 1, 1) := dk_27 (dk_at dksX4_sayers_1 20 rfl rfl)
theorem dX4_sayers_45 : decode cX4_sayers 45 = .ok (.if_icmp .ne 12, 3) := dk_160 0 12 (dk_at dksX4_sayers_1 21 rfl rfl)
theorem dX4_sayers_48 : decode cX4_sayers 48 = .ok (.iload_n 3, 1) := dk_29 (dk_at dksX4_sayers_2 0 rfl rfl)
theorem dX4_sayers_49 : decode cX4_sayers 49 = .ok (.iconst 1, 1) := dk_4 (dk_at dksX4_sayers_2 1 rfl rfl)
theorem dX4_sayers_50 : decode cX4_sayers 50 = .ok (.iload 4, 2) := dk_21 4 (dk_at dksX4_sayers_2 2 rfl rfl)
theorem dX4_sayers_52 : decode cX4_sayers 52 = .ok (.iconst 2, 1) := dk_5 (dk_at dksX4_sayers_2 4 rfl rfl)
theorem dX4_sayers_53 : decode cX4_sayers 53 = .ok (.idiv, 1) := dk_108 (dk_at dksX4_sayers_2 5 rfl rfl)
theorem dX4_sayers_54 : decode cX4_sayers 54 = .ok (.ishl, 1) := dk_120 (dk_at dksX4_sayers_2 6 rfl rfl)
theorem dX4_sayers_55 : decode cX4_sayers 55 = .ok (.ior, 1) := dk_128 (dk_at dksX4_sayers_2 7 rfl rfl)
theorem dX4_sayers_56 : decode cX4_sayers 56 = .ok (.istore_n 3, 1) := dk_62 (dk_at dksX4_sayers_2 8 rfl rfl)
theorem dX4_sayers_57 : decode cX4_sayers 57 = .ok (.iinc 4 1, 3) := dk_132 4 1 (dk_at dksX4_sayers_2 9 rfl rfl)
theorem dX4_sayers_60 : decode cX4_sayers 60 = .ok (.goto (-43), 3) := dk_167 255 213 (dk_at dksX4_sayers_2 12 rfl rfl)
theorem dX4_sayers_63 : decode cX4_sayers 63 = .ok (.iload_n 3, 1) := dk_29 (dk_at dksX4_sayers_2 15 rfl rfl)
theorem dX4_sayers_64 : decode cX4_sayers 64 = .ok (.iconst 1, 1) := dk_4 (dk_at dksX4_sayers_2 16 rfl rfl)
theorem dX4_sayers_65 : decode cX4_sayers 65 = .ok (.iload_n 1, 1) := dk_27 (dk_at dksX4_sayers_2 17 rfl rfl)
theorem dX4_sayers_66 : decode cX4_sayers 66 = .ok (.iconst 2, 1) := dk_5 (dk_at dksX4_sayers_2 18 rfl rfl)
theorem dX4_sayers_67 : decode cX4_sayers 67 = .ok (.idiv, 1) := dk_108 (dk_at dksX4_sayers_2 19 rfl rfl)
theorem dX4_sayers_68 : decode cX4_sayers 68 = .ok (.ishl, 1) := dk_120 (dk_at dksX4_sayers_2 20 rfl rfl)
theorem dX4_sayers_69 : decode cX4_sayers 69 = .ok (.iconst (-1), 1) := dk_2 (dk_at dksX4_sayers_2 21 rfl rfl)
theorem dX4_sayers_70 : decode cX4_sayers 70 = .ok (.ixor, 1) := dk_130 (dk_at dksX4_sayers_2 22 rfl rfl)
theorem dX4_sayers_71 : decode cX4_sayers 71 = .ok (.iand, 1) := dk_126 (dk_at dksX4_sayers_2 23 rfl rfl)
theorem dX4_sayers_72 : decode cX4_sayers 72 = .ok (.ireturn, 1) := dk_172 (dk_at dksX4_sayers_3 0 rfl rfl)
abbrev cX4_gap : ByteArray := prog_26_method_37_code
def yX4_gap : MethodName := ⟨RX4, "gap", "(IZI)I"⟩
def dkwX4_gap_9 : List UInt8 := [4, 160, 0, 8, 21, 5, 167, 0, 15, 29, 5, 160, 0, 8, 21, 7, 167, 0, 5, 21, 8, 172]
abbrev dktX4_gap_9 : List UInt8 := dkwX4_gap_9 ++ []
def dkwX4_gap_8 : List UInt8 := [4, 167, 0, 4, 3, 96, 54, 8, 132, 9, 1, 167, 255, 109, 29, 154, 0, 8, 21, 4, 167, 0, 25, 29]
abbrev dktX4_gap_8 : List UInt8 := dkwX4_gap_8 ++ dktX4_gap_9
def dkwX4_gap_7 : List UInt8 := [180, 0, 36, 16, 100, 27, 104, 21, 9, 96, 46, 154, 0, 17, 42, 27, 21, 9, 182, 0, 197, 153, 0, 7]
abbrev dktX4_gap_7 : List UInt8 := dkwX4_gap_7 ++ dktX4_gap_8
def dkwX4_gap_6 : List UInt8 := [3, 54, 6, 21, 6, 21, 7, 164, 0, 8, 21, 6, 167, 0, 5, 21, 7, 54, 7, 21, 8, 42]
abbrev dktX4_gap_6 : List UInt8 := dkwX4_gap_6 ++ dktX4_gap_7
def dkwX4_gap_5 : List UInt8 := [160, 0, 8, 21, 9, 167, 0, 5, 21, 5, 54, 5, 21, 10, 153, 0, 10, 21, 6, 4, 96, 167, 0, 4]
abbrev dktX4_gap_5 : List UInt8 := dkwX4_gap_5 ++ dktX4_gap_6
def dkwX4_gap_4 : List UInt8 := [21, 4, 21, 10, 153, 0, 7, 4, 167, 0, 4, 3, 96, 54, 4, 21, 10, 153, 0, 14, 21, 5, 2]
abbrev dktX4_gap_4 : List UInt8 := dkwX4_gap_4 ++ dktX4_gap_5
def dkwX4_gap_3 : List UInt8 := [21, 9, 96, 46, 167, 0, 10, 42, 27, 21, 9, 182, 0, 197, 154, 0, 7, 4, 167, 0, 4, 3, 54, 10]
abbrev dktX4_gap_3 : List UInt8 := dkwX4_gap_3 ++ dktX4_gap_4
def dkwX4_gap_2 : List UInt8 := [54, 8, 3, 54, 9, 21, 9, 16, 100, 162, 0, 146, 28, 153, 0, 18, 42, 180, 0, 36, 16, 100, 27, 104]
abbrev dktX4_gap_2 : List UInt8 := dkwX4_gap_2 ++ dktX4_gap_3
def dkwX4_gap_1 : List UInt8 := [154, 0, 5, 2, 172, 42, 3, 182, 0, 170, 3, 54, 4, 2, 54, 5, 3, 54, 6, 3, 54, 7, 3]
abbrev dktX4_gap_1 : List UInt8 := dkwX4_gap_1 ++ dktX4_gap_2
def dkwX4_gap_0 : List UInt8 := [42, 3, 181, 0, 1, 42, 27, 182, 0, 160, 153, 0, 15, 29, 133, 9, 20, 0, 136, 184, 0, 140]
abbrev dktX4_gap_0 : List UInt8 := dkwX4_gap_0 ++ dktX4_gap_1
theorem dksX4_gap_0 : cX4_gap.data.toList.drop 0 = dktX4_gap_0 := by decide +kernel
theorem dksX4_gap_1 : cX4_gap.data.toList.drop 22 = dktX4_gap_1 := dk_seg dksX4_gap_0 22 rfl rfl
theorem dksX4_gap_2 : cX4_gap.data.toList.drop 45 = dktX4_gap_2 := dk_seg dksX4_gap_1 23 rfl rfl
theorem dksX4_gap_3 : cX4_gap.data.toList.drop 69 = dktX4_gap_3 := dk_seg dksX4_gap_2 24 rfl rfl
theorem dksX4_gap_4 : cX4_gap.data.toList.drop 93 = dktX4_gap_4 := dk_seg dksX4_gap_3 24 rfl rfl
theorem dksX4_gap_5 : cX4_gap.data.toList.drop 116 = dktX4_gap_5 := dk_seg dksX4_gap_4 23 rfl rfl
theorem dksX4_gap_6 : cX4_gap.data.toList.drop 140 = dktX4_gap_6 := dk_seg dksX4_gap_5 24 rfl rfl
theorem dksX4_gap_7 : cX4_gap.data.toList.drop 162 = dktX4_gap_7 := dk_seg dksX4_gap_6 22 rfl rfl
theorem dksX4_gap_8 : cX4_gap.data.toList.drop 186 = dktX4_gap_8 := dk_seg dksX4_gap_7 24 rfl rfl
theorem dksX4_gap_9 : cX4_gap.data.toList.drop 210 = dktX4_gap_9 := dk_seg dksX4_gap_8 24 rfl rfl
theorem dX4_gap_0 : decode cX4_gap 0 = .ok (.aload_n 0, 1) := dk_42 (dk_at dksX4_gap_0 0 rfl rfl)
theorem dX4_gap_1 : decode cX4_gap 1 = .ok (.iconst 0, 1) := dk_3 (dk_at dksX4_gap_0 1 rfl rfl)
theorem dX4_gap_2 : decode cX4_gap 2 = .ok (.putfield 1, 3) := dk_181 0 1 (dk_at dksX4_gap_0 2 rfl rfl)
theorem dX4_gap_5 : decode cX4_gap 5 = .ok (.aload_n 0, 1) := dk_42 (dk_at dksX4_gap_0 5 rfl rfl)
theorem dX4_gap_6 : decode cX4_gap 6 = .ok (.iload_n 1, 1) := dk_27 (dk_at dksX4_gap_0 6 rfl rfl)
theorem dX4_gap_7 : decode cX4_gap 7 = .ok (.invokevirtual 160, 3) := dk_182 0 160 (dk_at dksX4_gap_0 7 rfl rfl)
theorem dX4_gap_10 : decode cX4_gap 10 = .ok (.ifCond .eq 15, 3) := dk_153 0 15 (dk_at dksX4_gap_0 10 rfl rfl)
theorem dX4_gap_13 : decode cX4_gap 13 = .ok (.iload_n 3, 1) := dk_29 (dk_at dksX4_gap_0 13 rfl rfl)
theorem dX4_gap_14 : decode cX4_gap 14 = .ok (.i2l, 1) := dk_133 (dk_at dksX4_gap_0 14 rfl rfl)
theorem dX4_gap_15 : decode cX4_gap 15 = .ok (.lconst 0, 1) := dk_9 (dk_at dksX4_gap_0 15 rfl rfl)
theorem dX4_gap_16 : decode cX4_gap 16 = .ok (.ldc2_w 136, 3) := dk_20 0 136 (dk_at dksX4_gap_0 16 rfl rfl)
theorem dX4_gap_19 : decode cX4_gap 19 = .ok (.invokestatic 140, 3) := dk_184 0 140 (dk_at dksX4_gap_0 19 rfl rfl)
theorem dX4_gap_22 : decode cX4_gap 22 = .ok (.ifCond .ne 5, 3) := dk_154 0 5 (dk_at dksX4_gap_1 0 rfl rfl)
theorem dX4_gap_25 : decode cX4_gap 25 = .ok (.iconst (-1), 1) := dk_2 (dk_at dksX4_gap_1 3 rfl rfl)
theorem dX4_gap_26 : decode cX4_gap 26 = .ok (.ireturn, 1) := dk_172 (dk_at dksX4_gap_1 4 rfl rfl)
theorem dX4_gap_27 : decode cX4_gap 27 = .ok (.aload_n 0, 1) := dk_42 (dk_at dksX4_gap_1 5 rfl rfl)
theorem dX4_gap_28 : decode cX4_gap 28 = .ok (.iconst 0, 1) := dk_3 (dk_at dksX4_gap_1 6 rfl rfl)
theorem dX4_gap_29 : decode cX4_gap 29 = .ok (.invokevirtual 170, 3) := dk_182 0 170 (dk_at dksX4_gap_1 7 rfl rfl)
theorem dX4_gap_32 : decode cX4_gap 32 = .ok (.iconst 0, 1) := dk_3 (dk_at dksX4_gap_1 10 rfl rfl)
theorem dX4_gap_33 : decode cX4_gap 33 = .ok (.istore 4, 2) := dk_54 4 (dk_at dksX4_gap_1 11 rfl rfl)
theorem dX4_gap_35 : decode cX4_gap 35 = .ok (.iconst (-1), 1) := dk_2 (dk_at dksX4_gap_1 13 rfl rfl)
theorem dX4_gap_36 : decode cX4_gap 36 = .ok (.istore 5, 2) := dk_54 5 (dk_at dksX4_gap_1 14 rfl rfl)
theorem dX4_gap_38 : decode cX4_gap 38 = .ok (.iconst 0, 1) := dk_3 (dk_at dksX4_gap_1 16 rfl rfl)
theorem dX4_gap_39 : decode cX4_gap 39 = .ok (.istore 6, 2) := dk_54 6 (dk_at dksX4_gap_1 17 rfl rfl)
theorem dX4_gap_41 : decode cX4_gap 41 = .ok (.iconst 0, 1) := dk_3 (dk_at dksX4_gap_1 19 rfl rfl)
theorem dX4_gap_42 : decode cX4_gap 42 = .ok (.istore 7, 2) := dk_54 7 (dk_at dksX4_gap_1 20 rfl rfl)
theorem dX4_gap_44 : decode cX4_gap 44 = .ok (.iconst 0, 1) := dk_3 (dk_at dksX4_gap_1 22 rfl rfl)
theorem dX4_gap_45 : decode cX4_gap 45 = .ok (.istore 8, 2) := dk_54 8 (dk_at dksX4_gap_2 0 rfl rfl)
theorem dX4_gap_47 : decode cX4_gap 47 = .ok (.iconst 0, 1) := dk_3 (dk_at dksX4_gap_2 2 rfl rfl)
theorem dX4_gap_48 : decode cX4_gap 48 = .ok (.istore 9, 2) := dk_54 9 (dk_at dksX4_gap_2 3 rfl rfl)
theorem dX4_gap_50 : decode cX4_gap 50 = .ok (.iload 9, 2) := dk_21 9 (dk_at dksX4_gap_2 5 rfl rfl)
theorem dX4_gap_52 : decode cX4_gap 52 = .ok (.bipush 100, 2) := dk_16 100 (dk_at dksX4_gap_2 7 rfl rfl)
theorem dX4_gap_54 : decode cX4_gap 54 = .ok (.if_icmp .ge 146, 3) := dk_162 0 146 (dk_at dksX4_gap_2 9 rfl rfl)
theorem dX4_gap_57 : decode cX4_gap 57 = .ok (.iload_n 2, 1) := dk_28 (dk_at dksX4_gap_2 12 rfl rfl)
theorem dX4_gap_58 : decode cX4_gap 58 = .ok (.ifCond .eq 18, 3) := dk_153 0 18 (dk_at dksX4_gap_2 13 rfl rfl)
theorem dX4_gap_61 : decode cX4_gap 61 = .ok (.aload_n 0, 1) := dk_42 (dk_at dksX4_gap_2 16 rfl rfl)
theorem dX4_gap_62 : decode cX4_gap 62 = .ok (.getfield 36, 3) := dk_180 0 36 (dk_at dksX4_gap_2 17 rfl rfl)
theorem dX4_gap_65 : decode cX4_gap 65 = .ok (.bipush 100, 2) := dk_16 100 (dk_at dksX4_gap_2 20 rfl rfl)
theorem dX4_gap_67 : decode cX4_gap 67 = .ok (.iload_n 1, 1) := dk_27 (dk_at dksX4_gap_2 22 rfl rfl)
theorem dX4_gap_68 : decode cX4_gap 68 = .ok (.imul, 1) := dk_104 (dk_at dksX4_gap_2 23 rfl rfl)
theorem dX4_gap_69 : decode cX4_gap 69 = .ok (.iload 9, 2) := dk_21 9 (dk_at dksX4_gap_3 0 rfl rfl)
theorem dX4_gap_71 : decode cX4_gap 71 = .ok (.iadd, 1) := dk_96 (dk_at dksX4_gap_3 2 rfl rfl)
theorem dX4_gap_72 : decode cX4_gap 72 = .ok (.iaload, 1) := dk_46 (dk_at dksX4_gap_3 3 rfl rfl)
theorem dX4_gap_73 : decode cX4_gap 73 = .ok (.goto 10, 3) := dk_167 0 10 (dk_at dksX4_gap_3 4 rfl rfl)
theorem dX4_gap_76 : decode cX4_gap 76 = .ok (.aload_n 0, 1) := dk_42 (dk_at dksX4_gap_3 7 rfl rfl)
theorem dX4_gap_77 : decode cX4_gap 77 = .ok (.iload_n 1, 1) := dk_27 (dk_at dksX4_gap_3 8 rfl rfl)
theorem dX4_gap_78 : decode cX4_gap 78 = .ok (.iload 9, 2) := dk_21 9 (dk_at dksX4_gap_3 9 rfl rfl)
theorem dX4_gap_80 : decode cX4_gap 80 = .ok (.invokevirtual 197, 3) := dk_182 0 197 (dk_at dksX4_gap_3 11 rfl rfl)
theorem dX4_gap_83 : decode cX4_gap 83 = .ok (.ifCond .ne 7, 3) := dk_154 0 7 (dk_at dksX4_gap_3 14 rfl rfl)
theorem dX4_gap_86 : decode cX4_gap 86 = .ok (.iconst 1, 1) := dk_4 (dk_at dksX4_gap_3 17 rfl rfl)
theorem dX4_gap_87 : decode cX4_gap 87 = .ok (.goto 4, 3) := dk_167 0 4 (dk_at dksX4_gap_3 18 rfl rfl)
theorem dX4_gap_90 : decode cX4_gap 90 = .ok (.iconst 0, 1) := dk_3 (dk_at dksX4_gap_3 21 rfl rfl)
theorem dX4_gap_91 : decode cX4_gap 91 = .ok (.istore 10, 2) := dk_54 10 (dk_at dksX4_gap_3 22 rfl rfl)
theorem dX4_gap_93 : decode cX4_gap 93 = .ok (.iload 4, 2) := dk_21 4 (dk_at dksX4_gap_4 0 rfl rfl)
theorem dX4_gap_95 : decode cX4_gap 95 = .ok (.iload 10, 2) := dk_21 10 (dk_at dksX4_gap_4 2 rfl rfl)
theorem dX4_gap_97 : decode cX4_gap 97 = .ok (.ifCond .eq 7, 3) := dk_153 0 7 (dk_at dksX4_gap_4 4 rfl rfl)
theorem dX4_gap_100 : decode cX4_gap 100 = .ok (.iconst 1, 1) := dk_4 (dk_at dksX4_gap_4 7 rfl rfl)
theorem dX4_gap_101 : decode cX4_gap 101 = .ok (.goto 4, 3) := dk_167 0 4 (dk_at dksX4_gap_4 8 rfl rfl)
theorem dX4_gap_104 : decode cX4_gap 104 = .ok (.iconst 0, 1) := dk_3 (dk_at dksX4_gap_4 11 rfl rfl)
theorem dX4_gap_105 : decode cX4_gap 105 = .ok (.iadd, 1) := dk_96 (dk_at dksX4_gap_4 12 rfl rfl)
theorem dX4_gap_106 : decode cX4_gap 106 = .ok (.istore 4, 2) := dk_54 4 (dk_at dksX4_gap_4 13 rfl rfl)
theorem dX4_gap_108 : decode cX4_gap 108 = .ok (.iload 10, 2) := dk_21 10 (dk_at dksX4_gap_4 15 rfl rfl)
theorem dX4_gap_110 : decode cX4_gap 110 = .ok (.ifCond .eq 14, 3) := dk_153 0 14 (dk_at dksX4_gap_4 17 rfl rfl)
theorem dX4_gap_113 : decode cX4_gap 113 = .ok (.iload 5, 2) := dk_21 5 (dk_at dksX4_gap_4 20 rfl rfl)
theorem dX4_gap_115 : decode cX4_gap 115 = .ok (.iconst (-1), 1) := dk_2 (dk_at dksX4_gap_4 22 rfl rfl)
theorem dX4_gap_116 : decode cX4_gap 116 = .ok (.if_icmp .ne 8, 3) := dk_160 0 8 (dk_at dksX4_gap_5 0 rfl rfl)
theorem dX4_gap_119 : decode cX4_gap 119 = .ok (.iload 9, 2) := dk_21 9 (dk_at dksX4_gap_5 3 rfl rfl)
theorem dX4_gap_121 : decode cX4_gap 121 = .ok (.goto 5, 3) := dk_167 0 5 (dk_at dksX4_gap_5 5 rfl rfl)
theorem dX4_gap_124 : decode cX4_gap 124 = .ok (.iload 5, 2) := dk_21 5 (dk_at dksX4_gap_5 8 rfl rfl)
theorem dX4_gap_126 : decode cX4_gap 126 = .ok (.istore 5, 2) := dk_54 5 (dk_at dksX4_gap_5 10 rfl rfl)
theorem dX4_gap_128 : decode cX4_gap 128 = .ok (.iload 10, 2) := dk_21 10 (dk_at dksX4_gap_5 12 rfl rfl)
theorem dX4_gap_130 : decode cX4_gap 130 = .ok (.ifCond .eq 10, 3) := dk_153 0 10 (dk_at dksX4_gap_5 14 rfl rfl)
theorem dX4_gap_133 : decode cX4_gap 133 = .ok (.iload 6, 2) := dk_21 6 (dk_at dksX4_gap_5 17 rfl rfl)
theorem dX4_gap_135 : decode cX4_gap 135 = .ok (.iconst 1, 1) := dk_4 (dk_at dksX4_gap_5 19 rfl rfl)
theorem dX4_gap_136 : decode cX4_gap 136 = .ok (.iadd, 1) := dk_96 (dk_at dksX4_gap_5 20 rfl rfl)
theorem dX4_gap_137 : decode cX4_gap 137 = .ok (.goto 4, 3) := dk_167 0 4 (dk_at dksX4_gap_5 21 rfl rfl)
theorem dX4_gap_140 : decode cX4_gap 140 = .ok (.iconst 0, 1) := dk_3 (dk_at dksX4_gap_6 0 rfl rfl)
theorem dX4_gap_141 : decode cX4_gap 141 = .ok (.istore 6, 2) := dk_54 6 (dk_at dksX4_gap_6 1 rfl rfl)
theorem dX4_gap_143 : decode cX4_gap 143 = .ok (.iload 6, 2) := dk_21 6 (dk_at dksX4_gap_6 3 rfl rfl)
theorem dX4_gap_145 : decode cX4_gap 145 = .ok (.iload 7, 2) := dk_21 7 (dk_at dksX4_gap_6 5 rfl rfl)
theorem dX4_gap_147 : decode cX4_gap 147 = .ok (.if_icmp .le 8, 3) := dk_164 0 8 (dk_at dksX4_gap_6 7 rfl rfl)
theorem dX4_gap_150 : decode cX4_gap 150 = .ok (.iload 6, 2) := dk_21 6 (dk_at dksX4_gap_6 10 rfl rfl)
theorem dX4_gap_152 : decode cX4_gap 152 = .ok (.goto 5, 3) := dk_167 0 5 (dk_at dksX4_gap_6 12 rfl rfl)
theorem dX4_gap_155 : decode cX4_gap 155 = .ok (.iload 7, 2) := dk_21 7 (dk_at dksX4_gap_6 15 rfl rfl)
theorem dX4_gap_157 : decode cX4_gap 157 = .ok (.istore 7, 2) := dk_54 7 (dk_at dksX4_gap_6 17 rfl rfl)
theorem dX4_gap_159 : decode cX4_gap 159 = .ok (.iload 8, 2) := dk_21 8 (dk_at dksX4_gap_6 19 rfl rfl)
theorem dX4_gap_161 : decode cX4_gap 161 = .ok (.aload_n 0, 1) := dk_42 (dk_at dksX4_gap_6 21 rfl rfl)
theorem dX4_gap_162 : decode cX4_gap 162 = .ok (.getfield 36, 3) := dk_180 0 36 (dk_at dksX4_gap_7 0 rfl rfl)
theorem dX4_gap_165 : decode cX4_gap 165 = .ok (.bipush 100, 2) := dk_16 100 (dk_at dksX4_gap_7 3 rfl rfl)
theorem dX4_gap_167 : decode cX4_gap 167 = .ok (.iload_n 1, 1) := dk_27 (dk_at dksX4_gap_7 5 rfl rfl)
theorem dX4_gap_168 : decode cX4_gap 168 = .ok (.imul, 1) := dk_104 (dk_at dksX4_gap_7 6 rfl rfl)
theorem dX4_gap_169 : decode cX4_gap 169 = .ok (.iload 9, 2) := dk_21 9 (dk_at dksX4_gap_7 7 rfl rfl)
theorem dX4_gap_171 : decode cX4_gap 171 = .ok (.iadd, 1) := dk_96 (dk_at dksX4_gap_7 9 rfl rfl)
theorem dX4_gap_172 : decode cX4_gap 172 = .ok (.iaload, 1) := dk_46 (dk_at dksX4_gap_7 10 rfl rfl)
theorem dX4_gap_173 : decode cX4_gap 173 = .ok (.ifCond .ne 17, 3) := dk_154 0 17 (dk_at dksX4_gap_7 11 rfl rfl)
theorem dX4_gap_176 : decode cX4_gap 176 = .ok (.aload_n 0, 1) := dk_42 (dk_at dksX4_gap_7 14 rfl rfl)
theorem dX4_gap_177 : decode cX4_gap 177 = .ok (.iload_n 1, 1) := dk_27 (dk_at dksX4_gap_7 15 rfl rfl)
theorem dX4_gap_178 : decode cX4_gap 178 = .ok (.iload 9, 2) := dk_21 9 (dk_at dksX4_gap_7 16 rfl rfl)
theorem dX4_gap_180 : decode cX4_gap 180 = .ok (.invokevirtual 197, 3) := dk_182 0 197 (dk_at dksX4_gap_7 18 rfl rfl)
theorem dX4_gap_183 : decode cX4_gap 183 = .ok (.ifCond .eq 7, 3) := dk_153 0 7 (dk_at dksX4_gap_7 21 rfl rfl)
theorem dX4_gap_186 : decode cX4_gap 186 = .ok (.iconst 1, 1) := dk_4 (dk_at dksX4_gap_8 0 rfl rfl)
theorem dX4_gap_187 : decode cX4_gap 187 = .ok (.goto 4, 3) := dk_167 0 4 (dk_at dksX4_gap_8 1 rfl rfl)
theorem dX4_gap_190 : decode cX4_gap 190 = .ok (.iconst 0, 1) := dk_3 (dk_at dksX4_gap_8 4 rfl rfl)
theorem dX4_gap_191 : decode cX4_gap 191 = .ok (.iadd, 1) := dk_96 (dk_at dksX4_gap_8 5 rfl rfl)
theorem dX4_gap_192 : decode cX4_gap 192 = .ok (.istore 8, 2) := dk_54 8 (dk_at dksX4_gap_8 6 rfl rfl)
theorem dX4_gap_194 : decode cX4_gap 194 = .ok (.iinc 9 1, 3) := dk_132 9 1 (dk_at dksX4_gap_8 8 rfl rfl)
theorem dX4_gap_197 : decode cX4_gap 197 = .ok (.goto (-147), 3) := dk_167 255 109 (dk_at dksX4_gap_8 11 rfl rfl)
theorem dX4_gap_200 : decode cX4_gap 200 = .ok (.iload_n 3, 1) := dk_29 (dk_at dksX4_gap_8 14 rfl rfl)
theorem dX4_gap_201 : decode cX4_gap 201 = .ok (.ifCond .ne 8, 3) := dk_154 0 8 (dk_at dksX4_gap_8 15 rfl rfl)
theorem dX4_gap_204 : decode cX4_gap 204 = .ok (.iload 4, 2) := dk_21 4 (dk_at dksX4_gap_8 18 rfl rfl)
theorem dX4_gap_206 : decode cX4_gap 206 = .ok (.goto 25, 3) := dk_167 0 25 (dk_at dksX4_gap_8 20 rfl rfl)
theorem dX4_gap_209 : decode cX4_gap 209 = .ok (.iload_n 3, 1) := dk_29 (dk_at dksX4_gap_8 23 rfl rfl)
theorem dX4_gap_210 : decode cX4_gap 210 = .ok (.iconst 1, 1) := dk_4 (dk_at dksX4_gap_9 0 rfl rfl)
theorem dX4_gap_211 : decode cX4_gap 211 = .ok (.if_icmp .ne 8, 3) := dk_160 0 8 (dk_at dksX4_gap_9 1 rfl rfl)
theorem dX4_gap_214 : decode cX4_gap 214 = .ok (.iload 5, 2) := dk_21 5 (dk_at dksX4_gap_9 4 rfl rfl)
theorem dX4_gap_216 : decode cX4_gap 216 = .ok (.goto 15, 3) := dk_167 0 15 (dk_at dksX4_gap_9 6 rfl rfl)
theorem dX4_gap_219 : decode cX4_gap 219 = .ok (.iload_n 3, 1) := dk_29 (dk_at dksX4_gap_9 9 rfl rfl)
theorem dX4_gap_220 : decode cX4_gap 220 = .ok (.iconst 2, 1) := dk_5 (dk_at dksX4_gap_9 10 rfl rfl)
theorem dX4_gap_221 : decode cX4_gap 221 = .ok (.if_icmp .ne 8, 3) := dk_160 0 8 (dk_at dksX4_gap_9 11 rfl rfl)
theorem dX4_gap_224 : decode cX4_gap 224 = .ok (.iload 7, 2) := dk_21 7 (dk_at dksX4_gap_9 14 rfl rfl)
theorem dX4_gap_226 : decode cX4_gap 226 = .ok (.goto 5, 3) := dk_167 0 5 (dk_at dksX4_gap_9 16 rfl rfl)
theorem dX4_gap_229 : decode cX4_gap 229 = .ok (.iload 8, 2) := dk_21 8 (dk_at dksX4_gap_9 19 rfl rfl)
theorem dX4_gap_231 : decode cX4_gap 231 = .ok (.ireturn, 1) := dk_172 (dk_at dksX4_gap_9 21 rfl rfl)
abbrev cX4_image : ByteArray := prog_26_method_38_code
def yX4_image : MethodName := ⟨RX4, "image", "(I)Z"⟩
def dkwX4_image_2 : List UInt8 := [180, 0, 17, 28, 46, 79, 132, 2, 1, 167, 255, 226, 42, 180, 0, 20, 27, 4, 84, 4, 172]
abbrev dktX4_image_2 : List UInt8 := dkwX4_image_2 ++ []
def dkwX4_image_1 : List UInt8 := [61, 28, 17, 19, 26, 162, 0, 29, 42, 180, 0, 17, 17, 19, 26, 27, 4, 96, 104, 28, 96, 42]
abbrev dktX4_image_1 : List UInt8 := dkwX4_image_1 ++ dktX4_image_2
def dkwX4_image_0 : List UInt8 := [42, 3, 181, 0, 1, 27, 133, 9, 20, 0, 200, 184, 0, 140, 154, 0, 9, 42, 4, 182, 0, 144, 172, 3]
abbrev dktX4_image_0 : List UInt8 := dkwX4_image_0 ++ dktX4_image_1
theorem dksX4_image_0 : cX4_image.data.toList.drop 0 = dktX4_image_0 := by decide +kernel
theorem dksX4_image_1 : cX4_image.data.toList.drop 24 = dktX4_image_1 := dk_seg dksX4_image_0 24 rfl rfl
theorem dksX4_image_2 : cX4_image.data.toList.drop 46 = dktX4_image_2 := dk_seg dksX4_image_1 22 rfl rfl
theorem dX4_image_0 : decode cX4_image 0 = .ok (.aload_n 0, 1) := dk_42 (dk_at dksX4_image_0 0 rfl rfl)
theorem dX4_image_1 : decode cX4_image 1 = .ok (.iconst 0, 1) := dk_3 (dk_at dksX4_image_0 1 rfl rfl)
theorem dX4_image_2 : decode cX4_image 2 = .ok (.putfield 1, 3) := dk_181 0 1 (dk_at dksX4_image_0 2 rfl rfl)
theorem dX4_image_5 : decode cX4_image 5 = .ok (.iload_n 1, 1) := dk_27 (dk_at dksX4_image_0 5 rfl rfl)
theorem dX4_image_6 : decode cX4_image 6 = .ok (.i2l, 1) := dk_133 (dk_at dksX4_image_0 6 rfl rfl)
theorem dX4_image_7 : decode cX4_image 7 = .ok (.lconst 0, 1) := dk_9 (dk_at dksX4_image_0 7 rfl rfl)
theorem dX4_image_8 : decode cX4_image 8 = .ok (.ldc2_w 200, 3) := dk_20 0 200 (dk_at dksX4_image_0 8 rfl rfl)
theorem dX4_image_11 : decode cX4_image 11 = .ok (.invokestatic 140, 3) := dk_184 0 140 (dk_at dksX4_image_0 11 rfl rfl)
theorem dX4_image_14 : decode cX4_image 14 = .ok (.ifCond .ne 9, 3) := dk_154 0 9 (dk_at dksX4_image_0 14 rfl rfl)
theorem dX4_image_17 : decode cX4_image 17 = .ok (.aload_n 0, 1) := dk_42 (dk_at dksX4_image_0 17 rfl rfl)
theorem dX4_image_18 : decode cX4_image 18 = .ok (.iconst 1, 1) := dk_4 (dk_at dksX4_image_0 18 rfl rfl)
theorem dX4_image_19 : decode cX4_image 19 = .ok (.invokevirtual 144, 3) := dk_182 0 144 (dk_at dksX4_image_0 19 rfl rfl)
theorem dX4_image_22 : decode cX4_image 22 = .ok (.ireturn, 1) := dk_172 (dk_at dksX4_image_0 22 rfl rfl)
theorem dX4_image_23 : decode cX4_image 23 = .ok (.iconst 0, 1) := dk_3 (dk_at dksX4_image_0 23 rfl rfl)
theorem dX4_image_24 : decode cX4_image 24 = .ok (.istore_n 2, 1) := dk_61 (dk_at dksX4_image_1 0 rfl rfl)
theorem dX4_image_25 : decode cX4_image 25 = .ok (.iload_n 2, 1) := dk_28 (dk_at dksX4_image_1 1 rfl rfl)
theorem dX4_image_26 : decode cX4_image 26 = .ok (.sipush 4890, 3) := dk_17 19 26 (dk_at dksX4_image_1 2 rfl rfl)
theorem dX4_image_29 : decode cX4_image 29 = .ok (.if_icmp .ge 29, 3) := dk_162 0 29 (dk_at dksX4_image_1 5 rfl rfl)
theorem dX4_image_32 : decode cX4_image 32 = .ok (.aload_n 0, 1) := dk_42 (dk_at dksX4_image_1 8 rfl rfl)
theorem dX4_image_33 : decode cX4_image 33 = .ok (.getfield 17, 3) := dk_180 0 17 (dk_at dksX4_image_1 9 rfl rfl)
theorem dX4_image_36 : decode cX4_image 36 = .ok (.sipush 4890, 3) := dk_17 19 26 (dk_at dksX4_image_1 12 rfl rfl)
theorem dX4_image_39 : decode cX4_image 39 = .ok (.iload_n 1, 1) := dk_27 (dk_at dksX4_image_1 15 rfl rfl)
theorem dX4_image_40 : decode cX4_image 40 = .ok (.iconst 1, 1) := dk_4 (dk_at dksX4_image_1 16 rfl rfl)
theorem dX4_image_41 : decode cX4_image 41 = .ok (.iadd, 1) := dk_96 (dk_at dksX4_image_1 17 rfl rfl)
theorem dX4_image_42 : decode cX4_image 42 = .ok (.imul, 1) := dk_104 (dk_at dksX4_image_1 18 rfl rfl)
theorem dX4_image_43 : decode cX4_image 43 = .ok (.iload_n 2, 1) := dk_28 (dk_at dksX4_image_1 19 rfl rfl)
theorem dX4_image_44 : decode cX4_image 44 = .ok (.iadd, 1) := dk_96 (dk_at dksX4_image_1 20 rfl rfl)
theorem dX4_image_45 : decode cX4_image 45 = .ok (.aload_n 0, 1) := dk_42 (dk_at dksX4_image_1 21 rfl rfl)
theorem dX4_image_46 : decode cX4_image 46 = .ok (.getfield 17, 3) := dk_180 0 17 (dk_at dksX4_image_2 0 rfl rfl)
theorem dX4_image_49 : decode cX4_image 49 = .ok (.iload_n 2, 1) := dk_28 (dk_at dksX4_image_2 3 rfl rfl)
theorem dX4_image_50 : decode cX4_image 50 = .ok (.iaload, 1) := dk_46 (dk_at dksX4_image_2 4 rfl rfl)
theorem dX4_image_51 : decode cX4_image 51 = .ok (.iastore, 1) := dk_79 (dk_at dksX4_image_2 5 rfl rfl)
theorem dX4_image_52 : decode cX4_image 52 = .ok (.iinc 2 1, 3) := dk_132 2 1 (dk_at dksX4_image_2 6 rfl rfl)
theorem dX4_image_55 : decode cX4_image 55 = .ok (.goto (-30), 3) := dk_167 255 226 (dk_at dksX4_image_2 9 rfl rfl)
theorem dX4_image_58 : decode cX4_image 58 = .ok (.aload_n 0, 1) := dk_42 (dk_at dksX4_image_2 12 rfl rfl)
theorem dX4_image_59 : decode cX4_image 59 = .ok (.getfield 20, 3) := dk_180 0 20 (dk_at dksX4_image_2 13 rfl rfl)
theorem dX4_image_62 : decode cX4_image 62 = .ok (.iload_n 1, 1) := dk_27 (dk_at dksX4_image_2 16 rfl rfl)
theorem dX4_image_63 : decode cX4_image 63 = .ok (.iconst 1, 1) := dk_4 (dk_at dksX4_image_2 17 rfl rfl)
theorem dX4_image_64 : decode cX4_image 64 = .ok (.bastore, 1) := dk_84 (dk_at dksX4_image_2 18 rfl rfl)
theorem dX4_image_65 : decode cX4_image 65 = .ok (.iconst 1, 1) := dk_4 (dk_at dksX4_image_2 19 rfl rfl)
theorem dX4_image_66 : decode cX4_image 66 = .ok (.ireturn, 1) := dk_172 (dk_at dksX4_image_2 20 rfl rfl)
abbrev cX4_restore : ByteArray := prog_26_method_39_code
def yX4_restore : MethodName := ⟨RX4, "restore", "(I)Z"⟩
def dkwX4_restore_3 : List UInt8 := [167, 255, 226, 4, 172]
abbrev dktX4_restore_3 : List UInt8 := dkwX4_restore_3 ++ []
def dkwX4_restore_2 : List UInt8 := [180, 0, 17, 28, 42, 180, 0, 17, 17, 19, 26, 27, 4, 96, 104, 28, 96, 46, 79, 132, 2, 1]
abbrev dktX4_restore_2 : List UInt8 := dkwX4_restore_2 ++ dktX4_restore_3
def dkwX4_restore_1 : List UInt8 := [180, 0, 20, 27, 51, 154, 0, 9, 42, 8, 182, 0, 144, 172, 3, 61, 28, 17, 19, 26, 162, 0, 29, 42]
abbrev dktX4_restore_1 : List UInt8 := dkwX4_restore_1 ++ dktX4_restore_2
def dkwX4_restore_0 : List UInt8 := [42, 3, 181, 0, 1, 27, 133, 9, 20, 0, 200, 184, 0, 140, 154, 0, 9, 42, 4, 182, 0, 144, 172, 42]
abbrev dktX4_restore_0 : List UInt8 := dkwX4_restore_0 ++ dktX4_restore_1
theorem dksX4_restore_0 : cX4_restore.data.toList.drop 0 = dktX4_restore_0 := by decide +kernel
theorem dksX4_restore_1 : cX4_restore.data.toList.drop 24 = dktX4_restore_1 := dk_seg dksX4_restore_0 24 rfl rfl
theorem dksX4_restore_2 : cX4_restore.data.toList.drop 48 = dktX4_restore_2 := dk_seg dksX4_restore_1 24 rfl rfl
theorem dksX4_restore_3 : cX4_restore.data.toList.drop 70 = dktX4_restore_3 := dk_seg dksX4_restore_2 22 rfl rfl
theorem dX4_restore_0 : decode cX4_restore 0 = .ok (.aload_n 0, 1) := dk_42 (dk_at dksX4_restore_0 0 rfl rfl)
theorem dX4_restore_1 : decode cX4_restore 1 = .ok (.iconst 0, 1) := dk_3 (dk_at dksX4_restore_0 1 rfl rfl)
theorem dX4_restore_2 : decode cX4_restore 2 = .ok (.putfield 1, 3) := dk_181 0 1 (dk_at dksX4_restore_0 2 rfl rfl)
theorem dX4_restore_5 : decode cX4_restore 5 = .ok (.iload_n 1, 1) := dk_27 (dk_at dksX4_restore_0 5 rfl rfl)
theorem dX4_restore_6 : decode cX4_restore 6 = .ok (.i2l, 1) := dk_133 (dk_at dksX4_restore_0 6 rfl rfl)
theorem dX4_restore_7 : decode cX4_restore 7 = .ok (.lconst 0, 1) := dk_9 (dk_at dksX4_restore_0 7 rfl rfl)
theorem dX4_restore_8 : decode cX4_restore 8 = .ok (.ldc2_w 200, 3) := dk_20 0 200 (dk_at dksX4_restore_0 8 rfl rfl)
theorem dX4_restore_11 : decode cX4_restore 11 = .ok (.invokestatic 140, 3) := dk_184 0 140 (dk_at dksX4_restore_0 11 rfl rfl)
theorem dX4_restore_14 : decode cX4_restore 14 = .ok (.ifCond .ne 9, 3) := dk_154 0 9 (dk_at dksX4_restore_0 14 rfl rfl)
theorem dX4_restore_17 : decode cX4_restore 17 = .ok (.aload_n 0, 1) := dk_42 (dk_at dksX4_restore_0 17 rfl rfl)
theorem dX4_restore_18 : decode cX4_restore 18 = .ok (.iconst 1, 1) := dk_4 (dk_at dksX4_restore_0 18 rfl rfl)
theorem dX4_restore_19 : decode cX4_restore 19 = .ok (.invokevirtual 144, 3) := dk_182 0 144 (dk_at dksX4_restore_0 19 rfl rfl)
theorem dX4_restore_22 : decode cX4_restore 22 = .ok (.ireturn, 1) := dk_172 (dk_at dksX4_restore_0 22 rfl rfl)
theorem dX4_restore_23 : decode cX4_restore 23 = .ok (.aload_n 0, 1) := dk_42 (dk_at dksX4_restore_0 23 rfl rfl)
theorem dX4_restore_24 : decode cX4_restore 24 = .ok (.getfield 20, 3) := dk_180 0 20 (dk_at dksX4_restore_1 0 rfl rfl)
theorem dX4_restore_27 : decode cX4_restore 27 = .ok (.iload_n 1, 1) := dk_27 (dk_at dksX4_restore_1 3 rfl rfl)
theorem dX4_restore_28 : decode cX4_restore 28 = .ok (.baload, 1) := dk_51 (dk_at dksX4_restore_1 4 rfl rfl)
theorem dX4_restore_29 : decode cX4_restore 29 = .ok (.ifCond .ne 9, 3) := dk_154 0 9 (dk_at dksX4_restore_1 5 rfl rfl)
theorem dX4_restore_32 : decode cX4_restore 32 = .ok (.aload_n 0, 1) := dk_42 (dk_at dksX4_restore_1 8 rfl rfl)
theorem dX4_restore_33 : decode cX4_restore 33 = .ok (.iconst 5, 1) := dk_8 (dk_at dksX4_restore_1 9 rfl rfl)
theorem dX4_restore_34 : decode cX4_restore 34 = .ok (.invokevirtual 144, 3) := dk_182 0 144 (dk_at dksX4_restore_1 10 rfl rfl)
theorem dX4_restore_37 : decode cX4_restore 37 = .ok (.ireturn, 1) := dk_172 (dk_at dksX4_restore_1 13 rfl rfl)
theorem dX4_restore_38 : decode cX4_restore 38 = .ok (.iconst 0, 1) := dk_3 (dk_at dksX4_restore_1 14 rfl rfl)
theorem dX4_restore_39 : decode cX4_restore 39 = .ok (.istore_n 2, 1) := dk_61 (dk_at dksX4_restore_1 15 rfl rfl)
theorem dX4_restore_40 : decode cX4_restore 40 = .ok (.iload_n 2, 1) := dk_28 (dk_at dksX4_restore_1 16 rfl rfl)
theorem dX4_restore_41 : decode cX4_restore 41 = .ok (.sipush 4890, 3) := dk_17 19 26 (dk_at dksX4_restore_1 17 rfl rfl)
theorem dX4_restore_44 : decode cX4_restore 44 = .ok (.if_icmp .ge 29, 3) := dk_162 0 29 (dk_at dksX4_restore_1 20 rfl rfl)
theorem dX4_restore_47 : decode cX4_restore 47 = .ok (.aload_n 0, 1) := dk_42 (dk_at dksX4_restore_1 23 rfl rfl)
theorem dX4_restore_48 : decode cX4_restore 48 = .ok (.getfield 17, 3) := dk_180 0 17 (dk_at dksX4_restore_2 0 rfl rfl)
theorem dX4_restore_51 : decode cX4_restore 51 = .ok (.iload_n 2, 1) := dk_28 (dk_at dksX4_restore_2 3 rfl rfl)
theorem dX4_restore_52 : decode cX4_restore 52 = .ok (.aload_n 0, 1) := dk_42 (dk_at dksX4_restore_2 4 rfl rfl)
theorem dX4_restore_53 : decode cX4_restore 53 = .ok (.getfield 17, 3) := dk_180 0 17 (dk_at dksX4_restore_2 5 rfl rfl)
theorem dX4_restore_56 : decode cX4_restore 56 = .ok (.sipush 4890, 3) := dk_17 19 26 (dk_at dksX4_restore_2 8 rfl rfl)
theorem dX4_restore_59 : decode cX4_restore 59 = .ok (.iload_n 1, 1) := dk_27 (dk_at dksX4_restore_2 11 rfl rfl)
theorem dX4_restore_60 : decode cX4_restore 60 = .ok (.iconst 1, 1) := dk_4 (dk_at dksX4_restore_2 12 rfl rfl)
theorem dX4_restore_61 : decode cX4_restore 61 = .ok (.iadd, 1) := dk_96 (dk_at dksX4_restore_2 13 rfl rfl)
theorem dX4_restore_62 : decode cX4_restore 62 = .ok (.imul, 1) := dk_104 (dk_at dksX4_restore_2 14 rfl rfl)
theorem dX4_restore_63 : decode cX4_restore 63 = .ok (.iload_n 2, 1) := dk_28 (dk_at dksX4_restore_2 15 rfl rfl)
theorem dX4_restore_64 : decode cX4_restore 64 = .ok (.iadd, 1) := dk_96 (dk_at dksX4_restore_2 16 rfl rfl)
theorem dX4_restore_65 : decode cX4_restore 65 = .ok (.iaload, 1) := dk_46 (dk_at dksX4_restore_2 17 rfl rfl)
theorem dX4_restore_66 : decode cX4_restore 66 = .ok (.iastore, 1) := dk_79 (dk_at dksX4_restore_2 18 rfl rfl)
theorem dX4_restore_67 : decode cX4_restore 67 = .ok (.iinc 2 1, 3) := dk_132 2 1 (dk_at dksX4_restore_2 19 rfl rfl)
theorem dX4_restore_70 : decode cX4_restore 70 = .ok (.goto (-30), 3) := dk_167 255 226 (dk_at dksX4_restore_3 0 rfl rfl)
theorem dX4_restore_73 : decode cX4_restore 73 = .ok (.iconst 1, 1) := dk_4 (dk_at dksX4_restore_3 3 rfl rfl)
theorem dX4_restore_74 : decode cX4_restore 74 = .ok (.ireturn, 1) := dk_172 (dk_at dksX4_restore_3 4 rfl rfl)
abbrev cX4_feed : ByteArray := prog_26_method_40_code
def yX4_feed : MethodName := ⟨RX4, "feed", "(IIIII)I"⟩
def dkwX4_feed_5 : List UInt8 := [167, 255, 162, 42, 180, 0, 202, 172]
abbrev dktX4_feed_5 : List UInt8 := dkwX4_feed_5 ++ []
def dkwX4_feed_4 : List UInt8 := [112, 104, 100, 122, 17, 0, 255, 126, 79, 42, 89, 180, 0, 202, 4, 96, 181, 0, 202, 132, 6, 1]
abbrev dktX4_feed_4 : List UInt8 := dkwX4_feed_4 ++ dktX4_feed_5
def dkwX4_feed_3 : List UInt8 := [167, 0, 5, 21, 5, 54, 7, 42, 180, 0, 51, 42, 180, 0, 202, 21, 7, 16, 24, 16, 8, 21, 6, 7]
abbrev dktX4_feed_3 : List UInt8 := dkwX4_feed_3 ++ dktX4_feed_4
def dkwX4_feed_2 : List UInt8 := [28, 167, 0, 28, 21, 6, 16, 12, 162, 0, 7, 29, 167, 0, 17, 21, 6, 16, 16, 162, 0, 8, 21, 4]
abbrev dktX4_feed_2 : List UInt8 := dkwX4_feed_2 ++ dktX4_feed_3
def dkwX4_feed_1 : List UInt8 := [21, 6, 16, 20, 162, 0, 93, 21, 6, 7, 162, 0, 7, 27, 167, 0, 39, 21, 6, 16, 8, 162, 0, 7]
abbrev dktX4_feed_1 : List UInt8 := dkwX4_feed_1 ++ dktX4_feed_2
def dkwX4_feed_0 : List UInt8 := [42, 3, 181, 0, 1, 42, 180, 0, 202, 16, 20, 96, 17, 1, 144, 164, 0, 5, 2, 172, 3, 54, 6]
abbrev dktX4_feed_0 : List UInt8 := dkwX4_feed_0 ++ dktX4_feed_1
theorem dksX4_feed_0 : cX4_feed.data.toList.drop 0 = dktX4_feed_0 := by decide +kernel
theorem dksX4_feed_1 : cX4_feed.data.toList.drop 23 = dktX4_feed_1 := dk_seg dksX4_feed_0 23 rfl rfl
theorem dksX4_feed_2 : cX4_feed.data.toList.drop 47 = dktX4_feed_2 := dk_seg dksX4_feed_1 24 rfl rfl
theorem dksX4_feed_3 : cX4_feed.data.toList.drop 71 = dktX4_feed_3 := dk_seg dksX4_feed_2 24 rfl rfl
theorem dksX4_feed_4 : cX4_feed.data.toList.drop 95 = dktX4_feed_4 := dk_seg dksX4_feed_3 24 rfl rfl
theorem dksX4_feed_5 : cX4_feed.data.toList.drop 117 = dktX4_feed_5 := dk_seg dksX4_feed_4 22 rfl rfl
theorem dX4_feed_0 : decode cX4_feed 0 = .ok (.aload_n 0, 1) := dk_42 (dk_at dksX4_feed_0 0 rfl rfl)
theorem dX4_feed_1 : decode cX4_feed 1 = .ok (.iconst 0, 1) := dk_3 (dk_at dksX4_feed_0 1 rfl rfl)
theorem dX4_feed_2 : decode cX4_feed 2 = .ok (.putfield 1, 3) := dk_181 0 1 (dk_at dksX4_feed_0 2 rfl rfl)
theorem dX4_feed_5 : decode cX4_feed 5 = .ok (.aload_n 0, 1) := dk_42 (dk_at dksX4_feed_0 5 rfl rfl)
theorem dX4_feed_6 : decode cX4_feed 6 = .ok (.getfield 202, 3) := dk_180 0 202 (dk_at dksX4_feed_0 6 rfl rfl)
theorem dX4_feed_9 : decode cX4_feed 9 = .ok (.bipush 20, 2) := dk_16 20 (dk_at dksX4_feed_0 9 rfl rfl)
theorem dX4_feed_11 : decode cX4_feed 11 = .ok (.iadd, 1) := dk_96 (dk_at dksX4_feed_0 11 rfl rfl)
theorem dX4_feed_12 : decode cX4_feed 12 = .ok (.sipush 400, 3) := dk_17 1 144 (dk_at dksX4_feed_0 12 rfl rfl)
theorem dX4_feed_15 : decode cX4_feed 15 = .ok (.if_icmp .le 5, 3) := dk_164 0 5 (dk_at dksX4_feed_0 15 rfl rfl)
theorem dX4_feed_18 : decode cX4_feed 18 = .ok (.iconst (-1), 1) := dk_2 (dk_at dksX4_feed_0 18 rfl rfl)
theorem dX4_feed_19 : decode cX4_feed 19 = .ok (.ireturn, 1) := dk_172 (dk_at dksX4_feed_0 19 rfl rfl)
theorem dX4_feed_20 : decode cX4_feed 20 = .ok (.iconst 0, 1) := dk_3 (dk_at dksX4_feed_0 20 rfl rfl)
theorem dX4_feed_21 : decode cX4_feed 21 = .ok (.istore 6, 2) := dk_54 6 (dk_at dksX4_feed_0 21 rfl rfl)
theorem dX4_feed_23 : decode cX4_feed 23 = .ok (.iload 6, 2) := dk_21 6 (dk_at dksX4_feed_1 0 rfl rfl)
theorem dX4_feed_25 : decode cX4_feed 25 = .ok (.bipush 20, 2) := dk_16 20 (dk_at dksX4_feed_1 2 rfl rfl)
theorem dX4_feed_27 : decode cX4_feed 27 = .ok (.if_icmp .ge 93, 3) := dk_162 0 93 (dk_at dksX4_feed_1 4 rfl rfl)
theorem dX4_feed_30 : decode cX4_feed 30 = .ok (.iload 6, 2) := dk_21 6 (dk_at dksX4_feed_1 7 rfl rfl)
theorem dX4_feed_32 : decode cX4_feed 32 = .ok (.iconst 4, 1) := dk_7 (dk_at dksX4_feed_1 9 rfl rfl)
theorem dX4_feed_33 : decode cX4_feed 33 = .ok (.if_icmp .ge 7, 3) := dk_162 0 7 (dk_at dksX4_feed_1 10 rfl rfl)
theorem dX4_feed_36 : decode cX4_feed 36 = .ok (.iload_n 1, 1) := dk_27 (dk_at dksX4_feed_1 13 rfl rfl)
theorem dX4_feed_37 : decode cX4_feed 37 = .ok (.goto 39, 3) := dk_167 0 39 (dk_at dksX4_feed_1 14 rfl rfl)
theorem dX4_feed_40 : decode cX4_feed 40 = .ok (.iload 6, 2) := dk_21 6 (dk_at dksX4_feed_1 17 rfl rfl)
theorem dX4_feed_42 : decode cX4_feed 42 = .ok (.bipush 8, 2) := dk_16 8 (dk_at dksX4_feed_1 19 rfl rfl)
theorem dX4_feed_44 : decode cX4_feed 44 = .ok (.if_icmp .ge 7, 3) := dk_162 0 7 (dk_at dksX4_feed_1 21 rfl rfl)
theorem dX4_feed_47 : decode cX4_feed 47 = .ok (.iload_n 2, 1) := dk_28 (dk_at dksX4_feed_2 0 rfl rfl)
theorem dX4_feed_48 : decode cX4_feed 48 = .ok (.goto 28, 3) := dk_167 0 28 (dk_at dksX4_feed_2 1 rfl rfl)
theorem dX4_feed_51 : decode cX4_feed 51 = .ok (.iload 6, 2) := dk_21 6 (dk_at dksX4_feed_2 4 rfl rfl)
theorem dX4_feed_53 : decode cX4_feed 53 = .ok (.bipush 12, 2) := dk_16 12 (dk_at dksX4_feed_2 6 rfl rfl)
theorem dX4_feed_55 : decode cX4_feed 55 = .ok (.if_icmp .ge 7, 3) := dk_162 0 7 (dk_at dksX4_feed_2 8 rfl rfl)
theorem dX4_feed_58 : decode cX4_feed 58 = .ok (.iload_n 3, 1) := dk_29 (dk_at dksX4_feed_2 11 rfl rfl)
theorem dX4_feed_59 : decode cX4_feed 59 = .ok (.goto 17, 3) := dk_167 0 17 (dk_at dksX4_feed_2 12 rfl rfl)
theorem dX4_feed_62 : decode cX4_feed 62 = .ok (.iload 6, 2) := dk_21 6 (dk_at dksX4_feed_2 15 rfl rfl)
theorem dX4_feed_64 : decode cX4_feed 64 = .ok (.bipush 16, 2) := dk_16 16 (dk_at dksX4_feed_2 17 rfl rfl)
theorem dX4_feed_66 : decode cX4_feed 66 = .ok (.if_icmp .ge 8, 3) := dk_162 0 8 (dk_at dksX4_feed_2 19 rfl rfl)
theorem dX4_feed_69 : decode cX4_feed 69 = .ok (.iload 4, 2) := dk_21 4 (dk_at dksX4_feed_2 22 rfl rfl)
theorem dX4_feed_71 : decode cX4_feed 71 = .ok (.goto 5, 3) := dk_167 0 5 (dk_at dksX4_feed_3 0 rfl rfl)
theorem dX4_feed_74 : decode cX4_feed 74 = .ok (.iload 5, 2) := dk_21 5 (dk_at dksX4_feed_3 3 rfl rfl)
theorem dX4_feed_76 : decode cX4_feed 76 = .ok (.istore 7, 2) := dk_54 7 (dk_at dksX4_feed_3 5 rfl rfl)
theorem dX4_feed_78 : decode cX4_feed 78 = .ok (.aload_n 0, 1) := dk_42 (dk_at dksX4_feed_3 7 rfl rfl)
theorem dX4_feed_79 : decode cX4_feed 79 = .ok (.getfield 51, 3) := dk_180 0 51 (dk_at dksX4_feed_3 8 rfl rfl)
theorem dX4_feed_82 : decode cX4_feed 82 = .ok (.aload_n 0, 1) := dk_42 (dk_at dksX4_feed_3 11 rfl rfl)
theorem dX4_feed_83 : decode cX4_feed 83 = .ok (.getfield 202, 3) := dk_180 0 202 (dk_at dksX4_feed_3 12 rfl rfl)
theorem dX4_feed_86 : decode cX4_feed 86 = .ok (.iload 7, 2) := dk_21 7 (dk_at dksX4_feed_3 15 rfl rfl)
theorem dX4_feed_88 : decode cX4_feed 88 = .ok (.bipush 24, 2) := dk_16 24 (dk_at dksX4_feed_3 17 rfl rfl)
theorem dX4_feed_90 : decode cX4_feed 90 = .ok (.bipush 8, 2) := dk_16 8 (dk_at dksX4_feed_3 19 rfl rfl)
theorem dX4_feed_92 : decode cX4_feed 92 = .ok (.iload 6, 2) := dk_21 6 (dk_at dksX4_feed_3 21 rfl rfl)
theorem dX4_feed_94 : decode cX4_feed 94 = .ok (.iconst 4, 1) := dk_7 (dk_at dksX4_feed_3 23 rfl rfl)
theorem dX4_feed_95 : decode cX4_feed 95 = .ok (.irem, 1) := dk_112 (dk_at dksX4_feed_4 0 rfl rfl)
theorem dX4_feed_96 : decode cX4_feed 96 = .ok (.imul, 1) := dk_104 (dk_at dksX4_feed_4 1 rfl rfl)
theorem dX4_feed_97 : decode cX4_feed 97 = .ok (.isub, 1) := dk_100 (dk_at dksX4_feed_4 2 rfl rfl)
theorem dX4_feed_98 : decode cX4_feed 98 = .ok (.ishr, 1) := dk_122 (dk_at dksX4_feed_4 3 rfl rfl)
theorem dX4_feed_99 : decode cX4_feed 99 = .ok (.sipush 255, 3) := dk_17 0 255 (dk_at dksX4_feed_4 4 rfl rfl)
theorem dX4_feed_102 : decode cX4_feed 102 = .ok (.iand, 1) := dk_126 (dk_at dksX4_feed_4 7 rfl rfl)
theorem dX4_feed_103 : decode cX4_feed 103 = .ok (.iastore, 1) := dk_79 (dk_at dksX4_feed_4 8 rfl rfl)
theorem dX4_feed_104 : decode cX4_feed 104 = .ok (.aload_n 0, 1) := dk_42 (dk_at dksX4_feed_4 9 rfl rfl)
theorem dX4_feed_105 : decode cX4_feed 105 = .ok (.dup, 1) := dk_89 (dk_at dksX4_feed_4 10 rfl rfl)
theorem dX4_feed_106 : decode cX4_feed 106 = .ok (.getfield 202, 3) := dk_180 0 202 (dk_at dksX4_feed_4 11 rfl rfl)
theorem dX4_feed_109 : decode cX4_feed 109 = .ok (.iconst 1, 1) := dk_4 (dk_at dksX4_feed_4 14 rfl rfl)
theorem dX4_feed_110 : decode cX4_feed 110 = .ok (.iadd, 1) := dk_96 (dk_at dksX4_feed_4 15 rfl rfl)
theorem dX4_feed_111 : decode cX4_feed 111 = .ok (.putfield 202, 3) := dk_181 0 202 (dk_at dksX4_feed_4 16 rfl rfl)
theorem dX4_feed_114 : decode cX4_feed 114 = .ok (.iinc 6 1, 3) := dk_132 6 1 (dk_at dksX4_feed_4 19 rfl rfl)
theorem dX4_feed_117 : decode cX4_feed 117 = .ok (.goto (-94), 3) := dk_167 255 162 (dk_at dksX4_feed_5 0 rfl rfl)
theorem dX4_feed_120 : decode cX4_feed 120 = .ok (.aload_n 0, 1) := dk_42 (dk_at dksX4_feed_5 3 rfl rfl)
theorem dX4_feed_121 : decode cX4_feed 121 = .ok (.getfield 202, 3) := dk_180 0 202 (dk_at dksX4_feed_5 4 rfl rfl)
theorem dX4_feed_124 : decode cX4_feed 124 = .ok (.ireturn, 1) := dk_172 (dk_at dksX4_feed_5 7 rfl rfl)
abbrev cX4_text : ByteArray := prog_26_method_53_code
def yX4_text : MethodName := ⟨RX4, "text", "(I)I"⟩
def dkwX4_text_13 : List UInt8 := [172]
abbrev dktX4_text_13 : List UInt8 := dkwX4_text_13 ++ []
def dkwX4_text_12 : List UInt8 := [180, 0, 63, 28, 42, 180, 0, 63, 16, 64, 28, 96, 46, 79, 132, 2, 1, 167, 255, 202, 42, 180, 1, 41]
abbrev dktX4_text_12 : List UInt8 := dkwX4_text_12 ++ dktX4_text_13
def dkwX4_text_11 : List UInt8 := [16, 64, 28, 96, 46, 79, 42, 180, 0, 60, 28, 42, 180, 0, 60, 16, 64, 28, 96, 46, 79, 42]
abbrev dktX4_text_11 : List UInt8 := dkwX4_text_11 ++ dktX4_text_12
def dkwX4_text_10 : List UInt8 := [132, 2, 1, 167, 255, 230, 3, 61, 28, 16, 64, 162, 0, 54, 42, 180, 0, 57, 28, 42, 180, 0, 57]
abbrev dktX4_text_10 : List UInt8 := dkwX4_text_10 ++ dktX4_text_11
def dkwX4_text_9 : List UInt8 := [61, 28, 42, 180, 1, 41, 162, 0, 24, 42, 180, 0, 54, 28, 42, 180, 0, 54, 16, 8, 28, 96, 46, 79]
abbrev dktX4_text_9 : List UInt8 := dkwX4_text_9 ++ dktX4_text_10
def dkwX4_text_8 : List UInt8 := [42, 180, 1, 17, 181, 1, 41, 42, 42, 180, 1, 29, 181, 1, 44, 42, 42, 180, 1, 32, 181, 1, 47, 3]
abbrev dktX4_text_8 : List UInt8 := dkwX4_text_8 ++ dktX4_text_9
def dkwX4_text_7 : List UInt8 := [167, 0, 7, 42, 180, 0, 255, 181, 0, 70, 42, 180, 0, 252, 153, 0, 9, 42, 7, 182, 0, 156, 172, 42]
abbrev dktX4_text_7 : List UInt8 := dkwX4_text_7 ++ dktX4_text_8
def dkwX4_text_6 : List UInt8 := [5, 182, 1, 8, 167, 255, 175, 42, 42, 180, 0, 252, 181, 1, 38, 42, 42, 180, 0, 252, 154, 0, 7, 2]
abbrev dktX4_text_6 : List UInt8 := dkwX4_text_6 ++ dktX4_text_7
def dkwX4_text_5 : List UInt8 := [181, 1, 29, 42, 42, 3, 16, 20, 182, 1, 14, 181, 1, 32, 42, 16, 14, 182, 1, 26, 167, 255, 183, 42]
abbrev dktX4_text_5 : List UInt8 := dkwX4_text_5 ++ dktX4_text_6
def dkwX4_text_4 : List UInt8 := [167, 255, 227, 42, 16, 9, 182, 1, 2, 153, 0, 38, 42, 182, 1, 5, 42, 42, 3, 16, 20, 182, 1, 14]
abbrev dktX4_text_4 : List UInt8 := dkwX4_text_4 ++ dktX4_text_5
def dkwX4_text_3 : List UInt8 := [42, 180, 0, 229, 16, 15, 159, 0, 71, 42, 16, 8, 182, 1, 2, 153, 0, 10, 42, 182, 1, 35]
abbrev dktX4_text_3 : List UInt8 := dkwX4_text_3 ++ dktX4_text_4
def dkwX4_text_2 : List UInt8 := [181, 1, 17, 42, 3, 181, 1, 29, 42, 3, 181, 1, 32, 42, 182, 1, 5, 42, 180, 0, 252, 154, 0, 80]
abbrev dktX4_text_2 : List UInt8 := dkwX4_text_2 ++ dktX4_text_3
def dkwX4_text_1 : List UInt8 := [172, 42, 27, 181, 0, 205, 42, 3, 181, 0, 202, 42, 3, 181, 0, 223, 42, 3, 181, 0, 252, 42, 3]
abbrev dktX4_text_1 : List UInt8 := dkwX4_text_1 ++ dktX4_text_2
def dkwX4_text_0 : List UInt8 := [42, 3, 181, 0, 1, 27, 133, 9, 42, 180, 0, 202, 133, 184, 0, 140, 154, 0, 9, 42, 5, 182, 0, 156]
abbrev dktX4_text_0 : List UInt8 := dkwX4_text_0 ++ dktX4_text_1
theorem dksX4_text_0 : cX4_text.data.toList.drop 0 = dktX4_text_0 := by decide +kernel
theorem dksX4_text_1 : cX4_text.data.toList.drop 24 = dktX4_text_1 := dk_seg dksX4_text_0 24 rfl rfl
theorem dksX4_text_2 : cX4_text.data.toList.drop 47 = dktX4_text_2 := dk_seg dksX4_text_1 23 rfl rfl
theorem dksX4_text_3 : cX4_text.data.toList.drop 71 = dktX4_text_3 := dk_seg dksX4_text_2 24 rfl rfl
theorem dksX4_text_4 : cX4_text.data.toList.drop 93 = dktX4_text_4 := dk_seg dksX4_text_3 22 rfl rfl
theorem dksX4_text_5 : cX4_text.data.toList.drop 117 = dktX4_text_5 := dk_seg dksX4_text_4 24 rfl rfl
theorem dksX4_text_6 : cX4_text.data.toList.drop 141 = dktX4_text_6 := dk_seg dksX4_text_5 24 rfl rfl
theorem dksX4_text_7 : cX4_text.data.toList.drop 165 = dktX4_text_7 := dk_seg dksX4_text_6 24 rfl rfl
theorem dksX4_text_8 : cX4_text.data.toList.drop 189 = dktX4_text_8 := dk_seg dksX4_text_7 24 rfl rfl
theorem dksX4_text_9 : cX4_text.data.toList.drop 213 = dktX4_text_9 := dk_seg dksX4_text_8 24 rfl rfl
theorem dksX4_text_10 : cX4_text.data.toList.drop 237 = dktX4_text_10 := dk_seg dksX4_text_9 24 rfl rfl
theorem dksX4_text_11 : cX4_text.data.toList.drop 260 = dktX4_text_11 := dk_seg dksX4_text_10 23 rfl rfl
theorem dksX4_text_12 : cX4_text.data.toList.drop 282 = dktX4_text_12 := dk_seg dksX4_text_11 22 rfl rfl
theorem dksX4_text_13 : cX4_text.data.toList.drop 306 = dktX4_text_13 := dk_seg dksX4_text_12 24 rfl rfl
theorem dX4_text_0 : decode cX4_text 0 = .ok (.aload_n 0, 1) := dk_42 (dk_at dksX4_text_0 0 rfl rfl)
theorem dX4_text_1 : decode cX4_text 1 = .ok (.iconst 0, 1) := dk_3 (dk_at dksX4_text_0 1 rfl rfl)
theorem dX4_text_2 : decode cX4_text 2 = .ok (.putfield 1, 3) := dk_181 0 1 (dk_at dksX4_text_0 2 rfl rfl)
theorem dX4_text_5 : decode cX4_text 5 = .ok (.iload_n 1, 1) := dk_27 (dk_at dksX4_text_0 5 rfl rfl)
theorem dX4_text_6 : decode cX4_text 6 = .ok (.i2l, 1) := dk_133 (dk_at dksX4_text_0 6 rfl rfl)
theorem dX4_text_7 : decode cX4_text 7 = .ok (.lconst 0, 1) := dk_9 (dk_at dksX4_text_0 7 rfl rfl)
theorem dX4_text_8 : decode cX4_text 8 = .ok (.aload_n 0, 1) := dk_42 (dk_at dksX4_text_0 8 rfl rfl)
theorem dX4_text_9 : decode cX4_text 9 = .ok (.getfield 202, 3) := dk_180 0 202 (dk_at dksX4_text_0 9 rfl rfl)
theorem dX4_text_12 : decode cX4_text 12 = .ok (.i2l, 1) := dk_133 (dk_at dksX4_text_0 12 rfl rfl)
theorem dX4_text_13 : decode cX4_text 13 = .ok (.invokestatic 140, 3) := dk_184 0 140 (dk_at dksX4_text_0 13 rfl rfl)
theorem dX4_text_16 : decode cX4_text 16 = .ok (.ifCond .ne 9, 3) := dk_154 0 9 (dk_at dksX4_text_0 16 rfl rfl)
theorem dX4_text_19 : decode cX4_text 19 = .ok (.aload_n 0, 1) := dk_42 (dk_at dksX4_text_0 19 rfl rfl)
theorem dX4_text_20 : decode cX4_text 20 = .ok (.iconst 2, 1) := dk_5 (dk_at dksX4_text_0 20 rfl rfl)
theorem dX4_text_21 : decode cX4_text 21 = .ok (.invokevirtual 156, 3) := dk_182 0 156 (dk_at dksX4_text_0 21 rfl rfl)
theorem dX4_text_24 : decode cX4_text 24 = .ok (.ireturn, 1) := dk_172 (dk_at dksX4_text_1 0 rfl rfl)
theorem dX4_text_25 : decode cX4_text 25 = .ok (.aload_n 0, 1) := dk_42 (dk_at dksX4_text_1 1 rfl rfl)
theorem dX4_text_26 : decode cX4_text 26 = .ok (.iload_n 1, 1) := dk_27 (dk_at dksX4_text_1 2 rfl rfl)
theorem dX4_text_27 : decode cX4_text 27 = .ok (.putfield 205, 3) := dk_181 0 205 (dk_at dksX4_text_1 3 rfl rfl)
theorem dX4_text_30 : decode cX4_text 30 = .ok (.aload_n 0, 1) := dk_42 (dk_at dksX4_text_1 6 rfl rfl)
theorem dX4_text_31 : decode cX4_text 31 = .ok (.iconst 0, 1) := dk_3 (dk_at dksX4_text_1 7 rfl rfl)
theorem dX4_text_32 : decode cX4_text 32 = .ok (.putfield 202, 3) := dk_181 0 202 (dk_at dksX4_text_1 8 rfl rfl)
theorem dX4_text_35 : decode cX4_text 35 = .ok (.aload_n 0, 1) := dk_42 (dk_at dksX4_text_1 11 rfl rfl)
theorem dX4_text_36 : decode cX4_text 36 = .ok (.iconst 0, 1) := dk_3 (dk_at dksX4_text_1 12 rfl rfl)
theorem dX4_text_37 : decode cX4_text 37 = .ok (.putfield 223, 3) := dk_181 0 223 (dk_at dksX4_text_1 13 rfl rfl)
theorem dX4_text_40 : decode cX4_text 40 = .ok (.aload_n 0, 1) := dk_42 (dk_at dksX4_text_1 16 rfl rfl)
theorem dX4_text_41 : decode cX4_text 41 = .ok (.iconst 0, 1) := dk_3 (dk_at dksX4_text_1 17 rfl rfl)
theorem dX4_text_42 : decode cX4_text 42 = .ok (.putfield 252, 3) := dk_181 0 252 (dk_at dksX4_text_1 18 rfl rfl)
theorem dX4_text_45 : decode cX4_text 45 = .ok (.aload_n 0, 1) := dk_42 (dk_at dksX4_text_1 21 rfl rfl)
theorem dX4_text_46 : decode cX4_text 46 = .ok (.iconst 0, 1) := dk_3 (dk_at dksX4_text_1 22 rfl rfl)
theorem dX4_text_47 : decode cX4_text 47 = .ok (.putfield 273, 3) := dk_181 1 17 (dk_at dksX4_text_2 0 rfl rfl)
theorem dX4_text_50 : decode cX4_text 50 = .ok (.aload_n 0, 1) := dk_42 (dk_at dksX4_text_2 3 rfl rfl)
theorem dX4_text_51 : decode cX4_text 51 = .ok (.iconst 0, 1) := dk_3 (dk_at dksX4_text_2 4 rfl rfl)
theorem dX4_text_52 : decode cX4_text 52 = .ok (.putfield 285, 3) := dk_181 1 29 (dk_at dksX4_text_2 5 rfl rfl)
theorem dX4_text_55 : decode cX4_text 55 = .ok (.aload_n 0, 1) := dk_42 (dk_at dksX4_text_2 8 rfl rfl)
theorem dX4_text_56 : decode cX4_text 56 = .ok (.iconst 0, 1) := dk_3 (dk_at dksX4_text_2 9 rfl rfl)
theorem dX4_text_57 : decode cX4_text 57 = .ok (.putfield 288, 3) := dk_181 1 32 (dk_at dksX4_text_2 10 rfl rfl)
theorem dX4_text_60 : decode cX4_text 60 = .ok (.aload_n 0, 1) := dk_42 (dk_at dksX4_text_2 13 rfl rfl)
theorem dX4_text_61 : decode cX4_text 61 = .ok (.invokevirtual 261, 3) := dk_182 1 5 (dk_at dksX4_text_2 14 rfl rfl)
theorem dX4_text_64 : decode cX4_text 64 = .ok (.aload_n 0, 1) := dk_42 (dk_at dksX4_text_2 17 rfl rfl)
theorem dX4_text_65 : decode cX4_text 65 = .ok (.getfield 252, 3) := dk_180 0 252 (dk_at dksX4_text_2 18 rfl rfl)
theorem dX4_text_68 : decode cX4_text 68 = .ok (.ifCond .ne 80, 3) := dk_154 0 80 (dk_at dksX4_text_2 21 rfl rfl)
theorem dX4_text_71 : decode cX4_text 71 = .ok (.aload_n 0, 1) := dk_42 (dk_at dksX4_text_3 0 rfl rfl)
theorem dX4_text_72 : decode cX4_text 72 = .ok (.getfield 229, 3) := dk_180 0 229 (dk_at dksX4_text_3 1 rfl rfl)
theorem dX4_text_75 : decode cX4_text 75 = .ok (.bipush 15, 2) := dk_16 15 (dk_at dksX4_text_3 4 rfl rfl)
theorem dX4_text_77 : decode cX4_text 77 = .ok (.if_icmp .eq 71, 3) := dk_159 0 71 (dk_at dksX4_text_3 6 rfl rfl)
theorem dX4_text_80 : decode cX4_text 80 = .ok (.aload_n 0, 1) := dk_42 (dk_at dksX4_text_3 9 rfl rfl)
theorem dX4_text_81 : decode cX4_text 81 = .ok (.bipush 8, 2) := dk_16 8 (dk_at dksX4_text_3 10 rfl rfl)
theorem dX4_text_83 : decode cX4_text 83 = .ok (.invokevirtual 258, 3) := dk_182 1 2 (dk_at dksX4_text_3 12 rfl rfl)
theorem dX4_text_86 : decode cX4_text 86 = .ok (.ifCond .eq 10, 3) := dk_153 0 10 (dk_at dksX4_text_3 15 rfl rfl)
theorem dX4_text_89 : decode cX4_text 89 = .ok (.aload_n 0, 1) := dk_42 (dk_at dksX4_text_3 18 rfl rfl)
theorem dX4_text_90 : decode cX4_text 90 = .ok (.invokevirtual 291, 3) := dk_182 1 35 (dk_at dksX4_text_3 19 rfl rfl)
theorem dX4_text_93 : decode cX4_text 93 = .ok (.goto (-29), 3) := dk_167 255 227 (dk_at dksX4_text_4 0 rfl rfl)
theorem dX4_text_96 : decode cX4_text 96 = .ok (.aload_n 0, 1) := dk_42 (dk_at dksX4_text_4 3 rfl rfl)
theorem dX4_text_97 : decode cX4_text 97 = .ok (.bipush 9, 2) := dk_16 9 (dk_at dksX4_text_4 4 rfl rfl)
theorem dX4_text_99 : decode cX4_text 99 = .ok (.invokevirtual 258, 3) := dk_182 1 2 (dk_at dksX4_text_4 6 rfl rfl)
theorem dX4_text_102 : decode cX4_text 102 = .ok (.ifCond .eq 38, 3) := dk_153 0 38 (dk_at dksX4_text_4 9 rfl rfl)
theorem dX4_text_105 : decode cX4_text 105 = .ok (.aload_n 0, 1) := dk_42 (dk_at dksX4_text_4 12 rfl rfl)
theorem dX4_text_106 : decode cX4_text 106 = .ok (.invokevirtual 261, 3) := dk_182 1 5 (dk_at dksX4_text_4 13 rfl rfl)
theorem dX4_text_109 : decode cX4_text 109 = .ok (.aload_n 0, 1) := dk_42 (dk_at dksX4_text_4 16 rfl rfl)
theorem dX4_text_110 : decode cX4_text 110 = .ok (.aload_n 0, 1) := dk_42 (dk_at dksX4_text_4 17 rfl rfl)
theorem dX4_text_111 : decode cX4_text 111 = .ok (.iconst 0, 1) := dk_3 (dk_at dksX4_text_4 18 rfl rfl)
theorem dX4_text_112 : decode cX4_text 112 = .ok (.bipush 20, 2) := dk_16 20 (dk_at dksX4_text_4 19 rfl rfl)
theorem dX4_text_114 : decode cX4_text 114 = .ok (.invokevirtual 270, 3) := dk_182 1 14 (dk_at dksX4_text_4 21 rfl rfl)
theorem dX4_text_117 : decode cX4_text 117 = .ok (.putfield 285, 3) := dk_181 1 29 (dk_at dksX4_text_5 0 rfl rfl)
theorem dX4_text_120 : decode cX4_text 120 = .ok (.aload_n 0, 1) := dk_42 (dk_at dksX4_text_5 3 rfl rfl)
theorem dX4_text_121 : decode cX4_text 121 = .ok (.aload_n 0, 1) := dk_42 (dk_at dksX4_text_5 4 rfl rfl)
theorem dX4_text_122 : decode cX4_text 122 = .ok (.iconst 0, 1) := dk_3 (dk_at dksX4_text_5 5 rfl rfl)
theorem dX4_text_123 : decode cX4_text 123 = .ok (.bipush 20, 2) := dk_16 20 (dk_at dksX4_text_5 6 rfl rfl)
theorem dX4_text_125 : decode cX4_text 125 = .ok (.invokevirtual 270, 3) := dk_182 1 14 (dk_at dksX4_text_5 8 rfl rfl)
theorem dX4_text_128 : decode cX4_text 128 = .ok (.putfield 288, 3) := dk_181 1 32 (dk_at dksX4_text_5 11 rfl rfl)
theorem dX4_text_131 : decode cX4_text 131 = .ok (.aload_n 0, 1) := dk_42 (dk_at dksX4_text_5 14 rfl rfl)
theorem dX4_text_132 : decode cX4_text 132 = .ok (.bipush 14, 2) := dk_16 14 (dk_at dksX4_text_5 15 rfl rfl)
theorem dX4_text_134 : decode cX4_text 134 = .ok (.invokevirtual 282, 3) := dk_182 1 26 (dk_at dksX4_text_5 17 rfl rfl)
theorem dX4_text_137 : decode cX4_text 137 = .ok (.goto (-73), 3) := dk_167 255 183 (dk_at dksX4_text_5 20 rfl rfl)
theorem dX4_text_140 : decode cX4_text 140 = .ok (.aload_n 0, 1) := dk_42 (dk_at dksX4_text_5 23 rfl rfl)
theorem dX4_text_141 : decode cX4_text 141 = .ok (.iconst 2, 1) := dk_5 (dk_at dksX4_text_6 0 rfl rfl)
theorem dX4_text_142 : decode cX4_text 142 = .ok (.invokevirtual 264, 3) := dk_182 1 8 (dk_at dksX4_text_6 1 rfl rfl)
theorem dX4_text_145 : decode cX4_text 145 = .ok (.goto (-81), 3) := dk_167 255 175 (dk_at dksX4_text_6 4 rfl rfl)
theorem dX4_text_148 : decode cX4_text 148 = .ok (.aload_n 0, 1) := dk_42 (dk_at dksX4_text_6 7 rfl rfl)
theorem dX4_text_149 : decode cX4_text 149 = .ok (.aload_n 0, 1) := dk_42 (dk_at dksX4_text_6 8 rfl rfl)
theorem dX4_text_150 : decode cX4_text 150 = .ok (.getfield 252, 3) := dk_180 0 252 (dk_at dksX4_text_6 9 rfl rfl)
theorem dX4_text_153 : decode cX4_text 153 = .ok (.putfield 294, 3) := dk_181 1 38 (dk_at dksX4_text_6 12 rfl rfl)
theorem dX4_text_156 : decode cX4_text 156 = .ok (.aload_n 0, 1) := dk_42 (dk_at dksX4_text_6 15 rfl rfl)
theorem dX4_text_157 : decode cX4_text 157 = .ok (.aload_n 0, 1) := dk_42 (dk_at dksX4_text_6 16 rfl rfl)
theorem dX4_text_158 : decode cX4_text 158 = .ok (.getfield 252, 3) := dk_180 0 252 (dk_at dksX4_text_6 17 rfl rfl)
theorem dX4_text_161 : decode cX4_text 161 = .ok (.ifCond .ne 7, 3) := dk_154 0 7 (dk_at dksX4_text_6 20 rfl rfl)
theorem dX4_text_164 : decode cX4_text 164 = .ok (.iconst (-1), 1) := dk_2 (dk_at dksX4_text_6 23 rfl rfl)
theorem dX4_text_165 : decode cX4_text 165 = .ok (.goto 7, 3) := dk_167 0 7 (dk_at dksX4_text_7 0 rfl rfl)
theorem dX4_text_168 : decode cX4_text 168 = .ok (.aload_n 0, 1) := dk_42 (dk_at dksX4_text_7 3 rfl rfl)
theorem dX4_text_169 : decode cX4_text 169 = .ok (.getfield 255, 3) := dk_180 0 255 (dk_at dksX4_text_7 4 rfl rfl)
theorem dX4_text_172 : decode cX4_text 172 = .ok (.putfield 70, 3) := dk_181 0 70 (dk_at dksX4_text_7 7 rfl rfl)
theorem dX4_text_175 : decode cX4_text 175 = .ok (.aload_n 0, 1) := dk_42 (dk_at dksX4_text_7 10 rfl rfl)
theorem dX4_text_176 : decode cX4_text 176 = .ok (.getfield 252, 3) := dk_180 0 252 (dk_at dksX4_text_7 11 rfl rfl)
theorem dX4_text_179 : decode cX4_text 179 = .ok (.ifCond .eq 9, 3) := dk_153 0 9 (dk_at dksX4_text_7 14 rfl rfl)
theorem dX4_text_182 : decode cX4_text 182 = .ok (.aload_n 0, 1) := dk_42 (dk_at dksX4_text_7 17 rfl rfl)
theorem dX4_text_183 : decode cX4_text 183 = .ok (.iconst 4, 1) := dk_7 (dk_at dksX4_text_7 18 rfl rfl)
theorem dX4_text_184 : decode cX4_text 184 = .ok (.invokevirtual 156, 3) := dk_182 0 156 (dk_at dksX4_text_7 19 rfl rfl)
theorem dX4_text_187 : decode cX4_text 187 = .ok (.ireturn, 1) := dk_172 (dk_at dksX4_text_7 22 rfl rfl)
theorem dX4_text_188 : decode cX4_text 188 = .ok (.aload_n 0, 1) := dk_42 (dk_at dksX4_text_7 23 rfl rfl)
theorem dX4_text_189 : decode cX4_text 189 = .ok (.aload_n 0, 1) := dk_42 (dk_at dksX4_text_8 0 rfl rfl)
theorem dX4_text_190 : decode cX4_text 190 = .ok (.getfield 273, 3) := dk_180 1 17 (dk_at dksX4_text_8 1 rfl rfl)
theorem dX4_text_193 : decode cX4_text 193 = .ok (.putfield 297, 3) := dk_181 1 41 (dk_at dksX4_text_8 4 rfl rfl)
theorem dX4_text_196 : decode cX4_text 196 = .ok (.aload_n 0, 1) := dk_42 (dk_at dksX4_text_8 7 rfl rfl)
theorem dX4_text_197 : decode cX4_text 197 = .ok (.aload_n 0, 1) := dk_42 (dk_at dksX4_text_8 8 rfl rfl)
theorem dX4_text_198 : decode cX4_text 198 = .ok (.getfield 285, 3) := dk_180 1 29 (dk_at dksX4_text_8 9 rfl rfl)
theorem dX4_text_201 : decode cX4_text 201 = .ok (.putfield 300, 3) := dk_181 1 44 (dk_at dksX4_text_8 12 rfl rfl)
theorem dX4_text_204 : decode cX4_text 204 = .ok (.aload_n 0, 1) := dk_42 (dk_at dksX4_text_8 15 rfl rfl)
theorem dX4_text_205 : decode cX4_text 205 = .ok (.aload_n 0, 1) := dk_42 (dk_at dksX4_text_8 16 rfl rfl)
theorem dX4_text_206 : decode cX4_text 206 = .ok (.getfield 288, 3) := dk_180 1 32 (dk_at dksX4_text_8 17 rfl rfl)
theorem dX4_text_209 : decode cX4_text 209 = .ok (.putfield 303, 3) := dk_181 1 47 (dk_at dksX4_text_8 20 rfl rfl)
theorem dX4_text_212 : decode cX4_text 212 = .ok (.iconst 0, 1) := dk_3 (dk_at dksX4_text_8 23 rfl rfl)
theorem dX4_text_213 : decode cX4_text 213 = .ok (.istore_n 2, 1) := dk_61 (dk_at dksX4_text_9 0 rfl rfl)
theorem dX4_text_214 : decode cX4_text 214 = .ok (.iload_n 2, 1) := dk_28 (dk_at dksX4_text_9 1 rfl rfl)
theorem dX4_text_215 : decode cX4_text 215 = .ok (.aload_n 0, 1) := dk_42 (dk_at dksX4_text_9 2 rfl rfl)
theorem dX4_text_216 : decode cX4_text 216 = .ok (.getfield 297, 3) := dk_180 1 41 (dk_at dksX4_text_9 3 rfl rfl)
theorem dX4_text_219 : decode cX4_text 219 = .ok (.if_icmp .ge 24, 3) := dk_162 0 24 (dk_at dksX4_text_9 6 rfl rfl)
theorem dX4_text_222 : decode cX4_text 222 = .ok (.aload_n 0, 1) := dk_42 (dk_at dksX4_text_9 9 rfl rfl)
theorem dX4_text_223 : decode cX4_text 223 = .ok (.getfield 54, 3) := dk_180 0 54 (dk_at dksX4_text_9 10 rfl rfl)
theorem dX4_text_226 : decode cX4_text 226 = .ok (.iload_n 2, 1) := dk_28 (dk_at dksX4_text_9 13 rfl rfl)
theorem dX4_text_227 : decode cX4_text 227 = .ok (.aload_n 0, 1) := dk_42 (dk_at dksX4_text_9 14 rfl rfl)
theorem dX4_text_228 : decode cX4_text 228 = .ok (.getfield 54, 3) := dk_180 0 54 (dk_at dksX4_text_9 15 rfl rfl)
theorem dX4_text_231 : decode cX4_text 231 = .ok (.bipush 8, 2) := dk_16 8 (dk_at dksX4_text_9 18 rfl rfl)
theorem dX4_text_233 : decode cX4_text 233 = .ok (.iload_n 2, 1) := dk_28 (dk_at dksX4_text_9 20 rfl rfl)
theorem dX4_text_234 : decode cX4_text 234 = .ok (.iadd, 1) := dk_96 (dk_at dksX4_text_9 21 rfl rfl)
theorem dX4_text_235 : decode cX4_text 235 = .ok (.iaload, 1) := dk_46 (dk_at dksX4_text_9 22 rfl rfl)
theorem dX4_text_236 : decode cX4_text 236 = .ok (.iastore, 1) := dk_79 (dk_at dksX4_text_9 23 rfl rfl)
theorem dX4_text_237 : decode cX4_text 237 = .ok (.iinc 2 1, 3) := dk_132 2 1 (dk_at dksX4_text_10 0 rfl rfl)
theorem dX4_text_240 : decode cX4_text 240 = .ok (.goto (-26), 3) := dk_167 255 230 (dk_at dksX4_text_10 3 rfl rfl)
theorem dX4_text_243 : decode cX4_text 243 = .ok (.iconst 0, 1) := dk_3 (dk_at dksX4_text_10 6 rfl rfl)
theorem dX4_text_244 : decode cX4_text 244 = .ok (.istore_n 2, 1) := dk_61 (dk_at dksX4_text_10 7 rfl rfl)
theorem dX4_text_245 : decode cX4_text 245 = .ok (.iload_n 2, 1) := dk_28 (dk_at dksX4_text_10 8 rfl rfl)
theorem dX4_text_246 : decode cX4_text 246 = .ok (.bipush 64, 2) := dk_16 64 (dk_at dksX4_text_10 9 rfl rfl)
theorem dX4_text_248 : decode cX4_text 248 = .ok (.if_icmp .ge 54, 3) := dk_162 0 54 (dk_at dksX4_text_10 11 rfl rfl)
theorem dX4_text_251 : decode cX4_text 251 = .ok (.aload_n 0, 1) := dk_42 (dk_at dksX4_text_10 14 rfl rfl)
theorem dX4_text_252 : decode cX4_text 252 = .ok (.getfield 57, 3) := dk_180 0 57 (dk_at dksX4_text_10 15 rfl rfl)
theorem dX4_text_255 : decode cX4_text 255 = .ok (.iload_n 2, 1) := dk_28 (dk_at dksX4_text_10 18 rfl rfl)
theorem dX4_text_256 : decode cX4_text 256 = .ok (.aload_n 0, 1) := dk_42 (dk_at dksX4_text_10 19 rfl rfl)
theorem dX4_text_257 : decode cX4_text 257 = .ok (.getfield 57, 3) := dk_180 0 57 (dk_at dksX4_text_10 20 rfl rfl)
theorem dX4_text_260 : decode cX4_text 260 = .ok (.bipush 64, 2) := dk_16 64 (dk_at dksX4_text_11 0 rfl rfl)
theorem dX4_text_262 : decode cX4_text 262 = .ok (.iload_n 2, 1) := dk_28 (dk_at dksX4_text_11 2 rfl rfl)
theorem dX4_text_263 : decode cX4_text 263 = .ok (.iadd, 1) := dk_96 (dk_at dksX4_text_11 3 rfl rfl)
theorem dX4_text_264 : decode cX4_text 264 = .ok (.iaload, 1) := dk_46 (dk_at dksX4_text_11 4 rfl rfl)
theorem dX4_text_265 : decode cX4_text 265 = .ok (.iastore, 1) := dk_79 (dk_at dksX4_text_11 5 rfl rfl)
theorem dX4_text_266 : decode cX4_text 266 = .ok (.aload_n 0, 1) := dk_42 (dk_at dksX4_text_11 6 rfl rfl)
theorem dX4_text_267 : decode cX4_text 267 = .ok (.getfield 60, 3) := dk_180 0 60 (dk_at dksX4_text_11 7 rfl rfl)
theorem dX4_text_270 : decode cX4_text 270 = .ok (.iload_n 2, 1) := dk_28 (dk_at dksX4_text_11 10 rfl rfl)
theorem dX4_text_271 : decode cX4_text 271 = .ok (.aload_n 0, 1) := dk_42 (dk_at dksX4_text_11 11 rfl rfl)
theorem dX4_text_272 : decode cX4_text 272 = .ok (.getfield 60, 3) := dk_180 0 60 (dk_at dksX4_text_11 12 rfl rfl)
theorem dX4_text_275 : decode cX4_text 275 = .ok (.bipush 64, 2) := dk_16 64 (dk_at dksX4_text_11 15 rfl rfl)
theorem dX4_text_277 : decode cX4_text 277 = .ok (.iload_n 2, 1) := dk_28 (dk_at dksX4_text_11 17 rfl rfl)
theorem dX4_text_278 : decode cX4_text 278 = .ok (.iadd, 1) := dk_96 (dk_at dksX4_text_11 18 rfl rfl)
theorem dX4_text_279 : decode cX4_text 279 = .ok (.iaload, 1) := dk_46 (dk_at dksX4_text_11 19 rfl rfl)
theorem dX4_text_280 : decode cX4_text 280 = .ok (.iastore, 1) := dk_79 (dk_at dksX4_text_11 20 rfl rfl)
theorem dX4_text_281 : decode cX4_text 281 = .ok (.aload_n 0, 1) := dk_42 (dk_at dksX4_text_11 21 rfl rfl)
theorem dX4_text_282 : decode cX4_text 282 = .ok (.getfield 63, 3) := dk_180 0 63 (dk_at dksX4_text_12 0 rfl rfl)
theorem dX4_text_285 : decode cX4_text 285 = .ok (.iload_n 2, 1) := dk_28 (dk_at dksX4_text_12 3 rfl rfl)
theorem dX4_text_286 : decode cX4_text 286 = .ok (.aload_n 0, 1) := dk_42 (dk_at dksX4_text_12 4 rfl rfl)
theorem dX4_text_287 : decode cX4_text 287 = .ok (.getfield 63, 3) := dk_180 0 63 (dk_at dksX4_text_12 5 rfl rfl)
theorem dX4_text_290 : decode cX4_text 290 = .ok (.bipush 64, 2) := dk_16 64 (dk_at dksX4_text_12 8 rfl rfl)
theorem dX4_text_292 : decode cX4_text 292 = .ok (.iload_n 2, 1) := dk_28 (dk_at dksX4_text_12 10 rfl rfl)
theorem dX4_text_293 : decode cX4_text 293 = .ok (.iadd, 1) := dk_96 (dk_at dksX4_text_12 11 rfl rfl)
theorem dX4_text_294 : decode cX4_text 294 = .ok (.iaload, 1) := dk_46 (dk_at dksX4_text_12 12 rfl rfl)
theorem dX4_text_295 : decode cX4_text 295 = .ok (.iastore, 1) := dk_79 (dk_at dksX4_text_12 13 rfl rfl)
theorem dX4_text_296 : decode cX4_text 296 = .ok (.iinc 2 1, 3) := dk_132 2 1 (dk_at dksX4_text_12 14 rfl rfl)
theorem dX4_text_299 : decode cX4_text 299 = .ok (.goto (-54), 3) := dk_167 255 202 (dk_at dksX4_text_12 17 rfl rfl)
theorem dX4_text_302 : decode cX4_text 302 = .ok (.aload_n 0, 1) := dk_42 (dk_at dksX4_text_12 20 rfl rfl)
theorem dX4_text_303 : decode cX4_text 303 = .ok (.getfield 297, 3) := dk_180 1 41 (dk_at dksX4_text_12 21 rfl rfl)
theorem dX4_text_306 : decode cX4_text 306 = .ok (.ireturn, 1) := dk_172 (dk_at dksX4_text_13 0 rfl rfl)
abbrev cX4_next : ByteArray := prog_26_method_45_code
def yX4_next : MethodName := ⟨RX4, "next", "()V"⟩
def dkwX4_next_14 : List UInt8 := [160, 0, 8, 16, 14, 167, 0, 5, 16, 16, 181, 0, 229, 177]
abbrev dktX4_next_14 : List UInt8 := dkwX4_next_14 ++ []
def dkwX4_next_13 : List UInt8 := [167, 0, 37, 42, 89, 180, 0, 223, 4, 96, 181, 0, 223, 42, 42, 42, 180, 0, 220, 182, 0, 226, 16, 59]
abbrev dktX4_next_13 : List UInt8 := dkwX4_next_13 ++ dktX4_next_14
def dkwX4_next_12 : List UInt8 := [180, 0, 223, 42, 180, 0, 220, 100, 6, 164, 0, 8, 16, 16, 167, 0, 5, 16, 13, 181, 0, 229]
abbrev dktX4_next_12 : List UInt8 := dkwX4_next_12 ++ dktX4_next_13
def dkwX4_next_11 : List UInt8 := [96, 16, 48, 100, 181, 0, 249, 42, 89, 180, 0, 223, 4, 96, 181, 0, 223, 167, 255, 196, 42, 42]
abbrev dktX4_next_11 : List UInt8 := dkwX4_next_11 ++ dktX4_next_12
def dkwX4_next_10 : List UInt8 := [180, 0, 220, 100, 6, 162, 0, 26, 42, 16, 10, 42, 180, 0, 249, 104, 42, 42, 180, 0, 223, 182, 0, 226]
abbrev dktX4_next_10 : List UInt8 := dkwX4_next_10 ++ dktX4_next_11
def dkwX4_next_9 : List UInt8 := [3, 181, 0, 249, 42, 42, 180, 0, 223, 182, 0, 226, 184, 0, 246, 153, 0, 52, 42, 180, 0, 223, 42]
abbrev dktX4_next_9 : List UInt8 := dkwX4_next_9 ++ dktX4_next_10
def dkwX4_next_8 : List UInt8 := [182, 0, 243, 181, 0, 229, 167, 0, 146, 42, 42, 180, 0, 220, 182, 0, 226, 184, 0, 246, 153, 0, 98, 42]
abbrev dktX4_next_8 : List UInt8 := dkwX4_next_8 ++ dktX4_next_9
def dkwX4_next_7 : List UInt8 := [167, 255, 190, 42, 42, 180, 0, 223, 42, 180, 0, 220, 100, 16, 8, 164, 0, 8, 16, 16, 167, 0, 7, 42]
abbrev dktX4_next_7 : List UInt8 := dkwX4_next_7 ++ dktX4_next_8
def dkwX4_next_6 : List UInt8 := [182, 0, 226, 133, 97, 20, 0, 241, 101, 10, 97, 181, 0, 235, 42, 89, 180, 0, 223, 4, 96, 181, 0, 223]
abbrev dktX4_next_6 : List UInt8 := dkwX4_next_6 ++ dktX4_next_7
def dkwX4_next_5 : List UInt8 := [180, 0, 220, 100, 16, 8, 162, 0, 31, 42, 20, 0, 239, 42, 180, 0, 235, 105, 42, 42, 180, 0, 223]
abbrev dktX4_next_5 : List UInt8 := dkwX4_next_5 ++ dktX4_next_6
def dkwX4_next_4 : List UInt8 := [181, 0, 235, 42, 42, 180, 0, 223, 182, 0, 226, 184, 0, 232, 153, 0, 58, 42, 180, 0, 223, 42]
abbrev dktX4_next_4 : List UInt8 := dkwX4_next_4 ++ dktX4_next_5
def dkwX4_next_3 : List UInt8 := [181, 0, 229, 167, 1, 8, 42, 42, 180, 0, 220, 182, 0, 226, 184, 0, 232, 153, 0, 107, 42, 9]
abbrev dktX4_next_3 : List UInt8 := dkwX4_next_3 ++ dktX4_next_4
def dkwX4_next_2 : List UInt8 := [42, 42, 180, 0, 220, 181, 0, 223, 42, 180, 0, 220, 42, 180, 0, 205, 161, 0, 12, 42, 16, 15]
abbrev dktX4_next_2 : List UInt8 := dkwX4_next_2 ++ dktX4_next_3
def dkwX4_next_1 : List UInt8 := [180, 0, 220, 182, 0, 226, 16, 32, 160, 0, 16, 42, 89, 180, 0, 220, 4, 96, 181, 0, 220, 167, 255, 220]
abbrev dktX4_next_1 : List UInt8 := dkwX4_next_1 ++ dktX4_next_2
def dkwX4_next_0 : List UInt8 := [42, 42, 180, 0, 223, 181, 0, 220, 42, 42, 180, 0, 220, 182, 0, 226, 16, 10, 159, 0, 16, 42, 42]
abbrev dktX4_next_0 : List UInt8 := dkwX4_next_0 ++ dktX4_next_1
theorem dksX4_next_0 : cX4_next.data.toList.drop 0 = dktX4_next_0 := by decide +kernel
theorem dksX4_next_1 : cX4_next.data.toList.drop 23 = dktX4_next_1 := dk_seg dksX4_next_0 23 rfl rfl
theorem dksX4_next_2 : cX4_next.data.toList.drop 47 = dktX4_next_2 := dk_seg dksX4_next_1 24 rfl rfl
theorem dksX4_next_3 : cX4_next.data.toList.drop 69 = dktX4_next_3 := dk_seg dksX4_next_2 22 rfl rfl
theorem dksX4_next_4 : cX4_next.data.toList.drop 91 = dktX4_next_4 := dk_seg dksX4_next_3 22 rfl rfl
theorem dksX4_next_5 : cX4_next.data.toList.drop 113 = dktX4_next_5 := dk_seg dksX4_next_4 22 rfl rfl
theorem dksX4_next_6 : cX4_next.data.toList.drop 136 = dktX4_next_6 := dk_seg dksX4_next_5 23 rfl rfl
theorem dksX4_next_7 : cX4_next.data.toList.drop 160 = dktX4_next_7 := dk_seg dksX4_next_6 24 rfl rfl
theorem dksX4_next_8 : cX4_next.data.toList.drop 184 = dktX4_next_8 := dk_seg dksX4_next_7 24 rfl rfl
theorem dksX4_next_9 : cX4_next.data.toList.drop 208 = dktX4_next_9 := dk_seg dksX4_next_8 24 rfl rfl
theorem dksX4_next_10 : cX4_next.data.toList.drop 231 = dktX4_next_10 := dk_seg dksX4_next_9 23 rfl rfl
theorem dksX4_next_11 : cX4_next.data.toList.drop 255 = dktX4_next_11 := dk_seg dksX4_next_10 24 rfl rfl
theorem dksX4_next_12 : cX4_next.data.toList.drop 277 = dktX4_next_12 := dk_seg dksX4_next_11 22 rfl rfl
theorem dksX4_next_13 : cX4_next.data.toList.drop 299 = dktX4_next_13 := dk_seg dksX4_next_12 22 rfl rfl
theorem dksX4_next_14 : cX4_next.data.toList.drop 323 = dktX4_next_14 := dk_seg dksX4_next_13 24 rfl rfl
theorem dX4_next_0 : decode cX4_next 0 = .ok (.aload_n 0, 1) := dk_42 (dk_at dksX4_next_0 0 rfl rfl)
theorem dX4_next_1 : decode cX4_next 1 = .ok (.aload_n 0, 1) := dk_42 (dk_at dksX4_next_0 1 rfl rfl)
theorem dX4_next_2 : decode cX4_next 2 = .ok (.getfield 223, 3) := dk_180 0 223 (dk_at dksX4_next_0 2 rfl rfl)
theorem dX4_next_5 : decode cX4_next 5 = .ok (.putfield 220, 3) := dk_181 0 220 (dk_at dksX4_next_0 5 rfl rfl)
theorem dX4_next_8 : decode cX4_next 8 = .ok (.aload_n 0, 1) := dk_42 (dk_at dksX4_next_0 8 rfl rfl)
theorem dX4_next_9 : decode cX4_next 9 = .ok (.aload_n 0, 1) := dk_42 (dk_at dksX4_next_0 9 rfl rfl)
theorem dX4_next_10 : decode cX4_next 10 = .ok (.getfield 220, 3) := dk_180 0 220 (dk_at dksX4_next_0 10 rfl rfl)
theorem dX4_next_13 : decode cX4_next 13 = .ok (.invokevirtual 226, 3) := dk_182 0 226 (dk_at dksX4_next_0 13 rfl rfl)
theorem dX4_next_16 : decode cX4_next 16 = .ok (.bipush 10, 2) := dk_16 10 (dk_at dksX4_next_0 16 rfl rfl)
theorem dX4_next_18 : decode cX4_next 18 = .ok (.if_icmp .eq 16, 3) := dk_159 0 16 (dk_at dksX4_next_0 18 rfl rfl)
theorem dX4_next_21 : decode cX4_next 21 = .ok (.aload_n 0, 1) := dk_42 (dk_at dksX4_next_0 21 rfl rfl)
theorem dX4_next_22 : decode cX4_next 22 = .ok (.aload_n 0, 1) := dk_42 (dk_at dksX4_next_0 22 rfl rfl)
theorem dX4_next_23 : decode cX4_next 23 = .ok (.getfield 220, 3) := dk_180 0 220 (dk_at dksX4_next_1 0 rfl rfl)
theorem dX4_next_26 : decode cX4_next 26 = .ok (.invokevirtual 226, 3) := dk_182 0 226 (dk_at dksX4_next_1 3 rfl rfl)
theorem dX4_next_29 : decode cX4_next 29 = .ok (.bipush 32, 2) := dk_16 32 (dk_at dksX4_next_1 6 rfl rfl)
theorem dX4_next_31 : decode cX4_next 31 = .ok (.if_icmp .ne 16, 3) := dk_160 0 16 (dk_at dksX4_next_1 8 rfl rfl)
theorem dX4_next_34 : decode cX4_next 34 = .ok (.aload_n 0, 1) := dk_42 (dk_at dksX4_next_1 11 rfl rfl)
theorem dX4_next_35 : decode cX4_next 35 = .ok (.dup, 1) := dk_89 (dk_at dksX4_next_1 12 rfl rfl)
theorem dX4_next_36 : decode cX4_next 36 = .ok (.getfield 220, 3) := dk_180 0 220 (dk_at dksX4_next_1 13 rfl rfl)
theorem dX4_next_39 : decode cX4_next 39 = .ok (.iconst 1, 1) := dk_4 (dk_at dksX4_next_1 16 rfl rfl)
theorem dX4_next_40 : decode cX4_next 40 = .ok (.iadd, 1) := dk_96 (dk_at dksX4_next_1 17 rfl rfl)
theorem dX4_next_41 : decode cX4_next 41 = .ok (.putfield 220, 3) := dk_181 0 220 (dk_at dksX4_next_1 18 rfl rfl)
theorem dX4_next_44 : decode cX4_next 44 = .ok (.goto (-36), 3) := dk_167 255 220 (dk_at dksX4_next_1 21 rfl rfl)
theorem dX4_next_47 : decode cX4_next 47 = .ok (.aload_n 0, 1) := dk_42 (dk_at dksX4_next_2 0 rfl rfl)
theorem dX4_next_48 : decode cX4_next 48 = .ok (.aload_n 0, 1) := dk_42 (dk_at dksX4_next_2 1 rfl rfl)
theorem dX4_next_49 : decode cX4_next 49 = .ok (.getfield 220, 3) := dk_180 0 220 (dk_at dksX4_next_2 2 rfl rfl)
theorem dX4_next_52 : decode cX4_next 52 = .ok (.putfield 223, 3) := dk_181 0 223 (dk_at dksX4_next_2 5 rfl rfl)
theorem dX4_next_55 : decode cX4_next 55 = .ok (.aload_n 0, 1) := dk_42 (dk_at dksX4_next_2 8 rfl rfl)
theorem dX4_next_56 : decode cX4_next 56 = .ok (.getfield 220, 3) := dk_180 0 220 (dk_at dksX4_next_2 9 rfl rfl)
theorem dX4_next_59 : decode cX4_next 59 = .ok (.aload_n 0, 1) := dk_42 (dk_at dksX4_next_2 12 rfl rfl)
theorem dX4_next_60 : decode cX4_next 60 = .ok (.getfield 205, 3) := dk_180 0 205 (dk_at dksX4_next_2 13 rfl rfl)
theorem dX4_next_63 : decode cX4_next 63 = .ok (.if_icmp .lt 12, 3) := dk_161 0 12 (dk_at dksX4_next_2 16 rfl rfl)
theorem dX4_next_66 : decode cX4_next 66 = .ok (.aload_n 0, 1) := dk_42 (dk_at dksX4_next_2 19 rfl rfl)
theorem dX4_next_67 : decode cX4_next 67 = .ok (.bipush 15, 2) := dk_16 15 (dk_at dksX4_next_2 20 rfl rfl)
theorem dX4_next_69 : decode cX4_next 69 = .ok (.putfield 229, 3) := dk_181 0 229 (dk_at dksX4_next_3 0 rfl rfl)
theorem dX4_next_72 : decode cX4_next 72 = .ok (.goto 264, 3) := dk_167 1 8 (dk_at dksX4_next_3 3 rfl rfl)
theorem dX4_next_75 : decode cX4_next 75 = .ok (.aload_n 0, 1) := dk_42 (dk_at dksX4_next_3 6 rfl rfl)
theorem dX4_next_76 : decode cX4_next 76 = .ok (.aload_n 0, 1) := dk_42 (dk_at dksX4_next_3 7 rfl rfl)
theorem dX4_next_77 : decode cX4_next 77 = .ok (.getfield 220, 3) := dk_180 0 220 (dk_at dksX4_next_3 8 rfl rfl)
theorem dX4_next_80 : decode cX4_next 80 = .ok (.invokevirtual 226, 3) := dk_182 0 226 (dk_at dksX4_next_3 11 rfl rfl)
theorem dX4_next_83 : decode cX4_next 83 = .ok (.invokestatic 232, 3) := dk_184 0 232 (dk_at dksX4_next_3 14 rfl rfl)
theorem dX4_next_86 : decode cX4_next 86 = .ok (.ifCond .eq 107, 3) := dk_153 0 107 (dk_at dksX4_next_3 17 rfl rfl)
theorem dX4_next_89 : decode cX4_next 89 = .ok (.aload_n 0, 1) := dk_42 (dk_at dksX4_next_3 20 rfl rfl)
theorem dX4_next_90 : decode cX4_next 90 = .ok (.lconst 0, 1) := dk_9 (dk_at dksX4_next_3 21 rfl rfl)
theorem dX4_next_91 : decode cX4_next 91 = .ok (.putfield 235, 3) := dk_181 0 235 (dk_at dksX4_next_4 0 rfl rfl)
theorem dX4_next_94 : decode cX4_next 94 = .ok (.aload_n 0, 1) := dk_42 (dk_at dksX4_next_4 3 rfl rfl)
theorem dX4_next_95 : decode cX4_next 95 = .ok (.aload_n 0, 1) := dk_42 (dk_at dksX4_next_4 4 rfl rfl)
theorem dX4_next_96 : decode cX4_next 96 = .ok (.getfield 223, 3) := dk_180 0 223 (dk_at dksX4_next_4 5 rfl rfl)
theorem dX4_next_99 : decode cX4_next 99 = .ok (.invokevirtual 226, 3) := dk_182 0 226 (dk_at dksX4_next_4 8 rfl rfl)
theorem dX4_next_102 : decode cX4_next 102 = .ok (.invokestatic 232, 3) := dk_184 0 232 (dk_at dksX4_next_4 11 rfl rfl)
theorem dX4_next_105 : decode cX4_next 105 = .ok (.ifCond .eq 58, 3) := dk_153 0 58 (dk_at dksX4_next_4 14 rfl rfl)
theorem dX4_next_108 : decode cX4_next 108 = .ok (.aload_n 0, 1) := dk_42 (dk_at dksX4_next_4 17 rfl rfl)
theorem dX4_next_109 : decode cX4_next 109 = .ok (.getfield 223, 3) := dk_180 0 223 (dk_at dksX4_next_4 18 rfl rfl)
theorem dX4_next_112 : decode cX4_next 112 = .ok (.aload_n 0, 1) := dk_42 (dk_at dksX4_next_4 21 rfl rfl)
theorem dX4_next_113 : decode cX4_next 113 = .ok (.getfield 220, 3) := dk_180 0 220 (dk_at dksX4_next_5 0 rfl rfl)
theorem dX4_next_116 : decode cX4_next 116 = .ok (.isub, 1) := dk_100 (dk_at dksX4_next_5 3 rfl rfl)
theorem dX4_next_117 : decode cX4_next 117 = .ok (.bipush 8, 2) := dk_16 8 (dk_at dksX4_next_5 4 rfl rfl)
theorem dX4_next_119 : decode cX4_next 119 = .ok (.if_icmp .ge 31, 3) := dk_162 0 31 (dk_at dksX4_next_5 6 rfl rfl)
theorem dX4_next_122 : decode cX4_next 122 = .ok (.aload_n 0, 1) := dk_42 (dk_at dksX4_next_5 9 rfl rfl)
theorem dX4_next_123 : decode cX4_next 123 = .ok (.ldc2_w 239, 3) := dk_20 0 239 (dk_at dksX4_next_5 10 rfl rfl)
theorem dX4_next_126 : decode cX4_next 126 = .ok (.aload_n 0, 1) := dk_42 (dk_at dksX4_next_5 13 rfl rfl)
theorem dX4_next_127 : decode cX4_next 127 = .ok (.getfield 235, 3) := dk_180 0 235 (dk_at dksX4_next_5 14 rfl rfl)
theorem dX4_next_130 : decode cX4_next 130 = .ok (.lmul, 1) := dk_105 (dk_at dksX4_next_5 17 rfl rfl)
theorem dX4_next_131 : decode cX4_next 131 = .ok (.aload_n 0, 1) := dk_42 (dk_at dksX4_next_5 18 rfl rfl)
theorem dX4_next_132 : decode cX4_next 132 = .ok (.aload_n 0, 1) := dk_42 (dk_at dksX4_next_5 19 rfl rfl)
theorem dX4_next_133 : decode cX4_next 133 = .ok (.getfield 223, 3) := dk_180 0 223 (dk_at dksX4_next_5 20 rfl rfl)
theorem dX4_next_136 : decode cX4_next 136 = .ok (.invokevirtual 226, 3) := dk_182 0 226 (dk_at dksX4_next_6 0 rfl rfl)
theorem dX4_next_139 : decode cX4_next 139 = .ok (.i2l, 1) := dk_133 (dk_at dksX4_next_6 3 rfl rfl)
theorem dX4_next_140 : decode cX4_next 140 = .ok (.ladd, 1) := dk_97 (dk_at dksX4_next_6 4 rfl rfl)
theorem dX4_next_141 : decode cX4_next 141 = .ok (.ldc2_w 241, 3) := dk_20 0 241 (dk_at dksX4_next_6 5 rfl rfl)
theorem dX4_next_144 : decode cX4_next 144 = .ok (.lsub, 1) := dk_101 (dk_at dksX4_next_6 8 rfl rfl)
theorem dX4_next_145 : decode cX4_next 145 = .ok (.lconst 1, 1) := dk_10 (dk_at dksX4_next_6 9 rfl rfl)
theorem dX4_next_146 : decode cX4_next 146 = .ok (.ladd, 1) := dk_97 (dk_at dksX4_next_6 10 rfl rfl)
theorem dX4_next_147 : decode cX4_next 147 = .ok (.putfield 235, 3) := dk_181 0 235 (dk_at dksX4_next_6 11 rfl rfl)
theorem dX4_next_150 : decode cX4_next 150 = .ok (.aload_n 0, 1) := dk_42 (dk_at dksX4_next_6 14 rfl rfl)
theorem dX4_next_151 : decode cX4_next 151 = .ok (.dup, 1) := dk_89 (dk_at dksX4_next_6 15 rfl rfl)
theorem dX4_next_152 : decode cX4_next 152 = .ok (.getfield 223, 3) := dk_180 0 223 (dk_at dksX4_next_6 16 rfl rfl)
theorem dX4_next_155 : decode cX4_next 155 = .ok (.iconst 1, 1) := dk_4 (dk_at dksX4_next_6 19 rfl rfl)
theorem dX4_next_156 : decode cX4_next 156 = .ok (.iadd, 1) := dk_96 (dk_at dksX4_next_6 20 rfl rfl)
theorem dX4_next_157 : decode cX4_next 157 = .ok (.putfield 223, 3) := dk_181 0 223 (dk_at dksX4_next_6 21 rfl rfl)
theorem dX4_next_160 : decode cX4_next 160 = .ok (.goto (-66), 3) := dk_167 255 190 (dk_at dksX4_next_7 0 rfl rfl)
theorem dX4_next_163 : decode cX4_next 163 = .ok (.aload_n 0, 1) := dk_42 (dk_at dksX4_next_7 3 rfl rfl)
theorem dX4_next_164 : decode cX4_next 164 = .ok (.aload_n 0, 1) := dk_42 (dk_at dksX4_next_7 4 rfl rfl)
theorem dX4_next_165 : decode cX4_next 165 = .ok (.getfield 223, 3) := dk_180 0 223 (dk_at dksX4_next_7 5 rfl rfl)
theorem dX4_next_168 : decode cX4_next 168 = .ok (.aload_n 0, 1) := dk_42 (dk_at dksX4_next_7 8 rfl rfl)
theorem dX4_next_169 : decode cX4_next 169 = .ok (.getfield 220, 3) := dk_180 0 220 (dk_at dksX4_next_7 9 rfl rfl)
theorem dX4_next_172 : decode cX4_next 172 = .ok (.isub, 1) := dk_100 (dk_at dksX4_next_7 12 rfl rfl)
theorem dX4_next_173 : decode cX4_next 173 = .ok (.bipush 8, 2) := dk_16 8 (dk_at dksX4_next_7 13 rfl rfl)
theorem dX4_next_175 : decode cX4_next 175 = .ok (.if_icmp .le 8, 3) := dk_164 0 8 (dk_at dksX4_next_7 15 rfl rfl)
theorem dX4_next_178 : decode cX4_next 178 = .ok (.bipush 16, 2) := dk_16 16 (dk_at dksX4_next_7 18 rfl rfl)
theorem dX4_next_180 : decode cX4_next 180 = .ok (.goto 7, 3) := dk_167 0 7 (dk_at dksX4_next_7 20 rfl rfl)
theorem dX4_next_183 : decode cX4_next 183 = .ok (.aload_n 0, 1) := dk_42 (dk_at dksX4_next_7 23 rfl rfl)
theorem dX4_next_184 : decode cX4_next 184 = .ok (.invokevirtual 243, 3) := dk_182 0 243 (dk_at dksX4_next_8 0 rfl rfl)
theorem dX4_next_187 : decode cX4_next 187 = .ok (.putfield 229, 3) := dk_181 0 229 (dk_at dksX4_next_8 3 rfl rfl)
theorem dX4_next_190 : decode cX4_next 190 = .ok (.goto 146, 3) := dk_167 0 146 (dk_at dksX4_next_8 6 rfl rfl)
theorem dX4_next_193 : decode cX4_next 193 = .ok (.aload_n 0, 1) := dk_42 (dk_at dksX4_next_8 9 rfl rfl)
theorem dX4_next_194 : decode cX4_next 194 = .ok (.aload_n 0, 1) := dk_42 (dk_at dksX4_next_8 10 rfl rfl)
theorem dX4_next_195 : decode cX4_next 195 = .ok (.getfield 220, 3) := dk_180 0 220 (dk_at dksX4_next_8 11 rfl rfl)
theorem dX4_next_198 : decode cX4_next 198 = .ok (.invokevirtual 226, 3) := dk_182 0 226 (dk_at dksX4_next_8 14 rfl rfl)
theorem dX4_next_201 : decode cX4_next 201 = .ok (.invokestatic 246, 3) := dk_184 0 246 (dk_at dksX4_next_8 17 rfl rfl)
theorem dX4_next_204 : decode cX4_next 204 = .ok (.ifCond .eq 98, 3) := dk_153 0 98 (dk_at dksX4_next_8 20 rfl rfl)
theorem dX4_next_207 : decode cX4_next 207 = .ok (.aload_n 0, 1) := dk_42 (dk_at dksX4_next_8 23 rfl rfl)
theorem dX4_next_208 : decode cX4_next 208 = .ok (.iconst 0, 1) := dk_3 (dk_at dksX4_next_9 0 rfl rfl)
theorem dX4_next_209 : decode cX4_next 209 = .ok (.putfield 249, 3) := dk_181 0 249 (dk_at dksX4_next_9 1 rfl rfl)
theorem dX4_next_212 : decode cX4_next 212 = .ok (.aload_n 0, 1) := dk_42 (dk_at dksX4_next_9 4 rfl rfl)
theorem dX4_next_213 : decode cX4_next 213 = .ok (.aload_n 0, 1) := dk_42 (dk_at dksX4_next_9 5 rfl rfl)
theorem dX4_next_214 : decode cX4_next 214 = .ok (.getfield 223, 3) := dk_180 0 223 (dk_at dksX4_next_9 6 rfl rfl)
theorem dX4_next_217 : decode cX4_next 217 = .ok (.invokevirtual 226, 3) := dk_182 0 226 (dk_at dksX4_next_9 9 rfl rfl)
theorem dX4_next_220 : decode cX4_next 220 = .ok (.invokestatic 246, 3) := dk_184 0 246 (dk_at dksX4_next_9 12 rfl rfl)
theorem dX4_next_223 : decode cX4_next 223 = .ok (.ifCond .eq 52, 3) := dk_153 0 52 (dk_at dksX4_next_9 15 rfl rfl)
theorem dX4_next_226 : decode cX4_next 226 = .ok (.aload_n 0, 1) := dk_42 (dk_at dksX4_next_9 18 rfl rfl)
theorem dX4_next_227 : decode cX4_next 227 = .ok (.getfield 223, 3) := dk_180 0 223 (dk_at dksX4_next_9 19 rfl rfl)
theorem dX4_next_230 : decode cX4_next 230 = .ok (.aload_n 0, 1) := dk_42 (dk_at dksX4_next_9 22 rfl rfl)
theorem dX4_next_231 : decode cX4_next 231 = .ok (.getfield 220, 3) := dk_180 0 220 (dk_at dksX4_next_10 0 rfl rfl)
theorem dX4_next_234 : decode cX4_next 234 = .ok (.isub, 1) := dk_100 (dk_at dksX4_next_10 3 rfl rfl)
theorem dX4_next_235 : decode cX4_next 235 = .ok (.iconst 3, 1) := dk_6 (dk_at dksX4_next_10 4 rfl rfl)
theorem dX4_next_236 : decode cX4_next 236 = .ok (.if_icmp .ge 26, 3) := dk_162 0 26 (dk_at dksX4_next_10 5 rfl rfl)
theorem dX4_next_239 : decode cX4_next 239 = .ok (.aload_n 0, 1) := dk_42 (dk_at dksX4_next_10 8 rfl rfl)
theorem dX4_next_240 : decode cX4_next 240 = .ok (.bipush 10, 2) := dk_16 10 (dk_at dksX4_next_10 9 rfl rfl)
theorem dX4_next_242 : decode cX4_next 242 = .ok (.aload_n 0, 1) := dk_42 (dk_at dksX4_next_10 11 rfl rfl)
theorem dX4_next_243 : decode cX4_next 243 = .ok (.getfield 249, 3) := dk_180 0 249 (dk_at dksX4_next_10 12 rfl rfl)
theorem dX4_next_246 : decode cX4_next 246 = .ok (.imul, 1) := dk_104 (dk_at dksX4_next_10 15 rfl rfl)
theorem dX4_next_247 : decode cX4_next 247 = .ok (.aload_n 0, 1) := dk_42 (dk_at dksX4_next_10 16 rfl rfl)
theorem dX4_next_248 : decode cX4_next 248 = .ok (.aload_n 0, 1) := dk_42 (dk_at dksX4_next_10 17 rfl rfl)
theorem dX4_next_249 : decode cX4_next 249 = .ok (.getfield 223, 3) := dk_180 0 223 (dk_at dksX4_next_10 18 rfl rfl)
theorem dX4_next_252 : decode cX4_next 252 = .ok (.invokevirtual 226, 3) := dk_182 0 226 (dk_at dksX4_next_10 21 rfl rfl)
theorem dX4_next_255 : decode cX4_next 255 = .ok (.iadd, 1) := dk_96 (dk_at dksX4_next_11 0 rfl rfl)
theorem dX4_next_256 : decode cX4_next 256 = .ok (.bipush 48, 2) := dk_16 48 (dk_at dksX4_next_11 1 rfl rfl)
theorem dX4_next_258 : decode cX4_next 258 = .ok (.isub, 1) := dk_100 (dk_at dksX4_next_11 3 rfl rfl)
theorem dX4_next_259 : decode cX4_next 259 = .ok (.putfield 249, 3) := dk_181 0 249 (dk_at dksX4_next_11 4 rfl rfl)
theorem dX4_next_262 : decode cX4_next 262 = .ok (.aload_n 0, 1) := dk_42 (dk_at dksX4_next_11 7 rfl rfl)
theorem dX4_next_263 : decode cX4_next 263 = .ok (.dup, 1) := dk_89 (dk_at dksX4_next_11 8 rfl rfl)
theorem dX4_next_264 : decode cX4_next 264 = .ok (.getfield 223, 3) := dk_180 0 223 (dk_at dksX4_next_11 9 rfl rfl)
theorem dX4_next_267 : decode cX4_next 267 = .ok (.iconst 1, 1) := dk_4 (dk_at dksX4_next_11 12 rfl rfl)
theorem dX4_next_268 : decode cX4_next 268 = .ok (.iadd, 1) := dk_96 (dk_at dksX4_next_11 13 rfl rfl)
theorem dX4_next_269 : decode cX4_next 269 = .ok (.putfield 223, 3) := dk_181 0 223 (dk_at dksX4_next_11 14 rfl rfl)
theorem dX4_next_272 : decode cX4_next 272 = .ok (.goto (-60), 3) := dk_167 255 196 (dk_at dksX4_next_11 17 rfl rfl)
theorem dX4_next_275 : decode cX4_next 275 = .ok (.aload_n 0, 1) := dk_42 (dk_at dksX4_next_11 20 rfl rfl)
theorem dX4_next_276 : decode cX4_next 276 = .ok (.aload_n 0, 1) := dk_42 (dk_at dksX4_next_11 21 rfl rfl)
theorem dX4_next_277 : decode cX4_next 277 = .ok (.getfield 223, 3) := dk_180 0 223 (dk_at dksX4_next_12 0 rfl rfl)
theorem dX4_next_280 : decode cX4_next 280 = .ok (.aload_n 0, 1) := dk_42 (dk_at dksX4_next_12 3 rfl rfl)
theorem dX4_next_281 : decode cX4_next 281 = .ok (.getfield 220, 3) := dk_180 0 220 (dk_at dksX4_next_12 4 rfl rfl)
theorem dX4_next_284 : decode cX4_next 284 = .ok (.isub, 1) := dk_100 (dk_at dksX4_next_12 7 rfl rfl)
theorem dX4_next_285 : decode cX4_next 285 = .ok (.iconst 3, 1) := dk_6 (dk_at dksX4_next_12 8 rfl rfl)
theorem dX4_next_286 : decode cX4_next 286 = .ok (.if_icmp .le 8, 3) := dk_164 0 8 (dk_at dksX4_next_12 9 rfl rfl)
theorem dX4_next_289 : decode cX4_next 289 = .ok (.bipush 16, 2) := dk_16 16 (dk_at dksX4_next_12 12 rfl rfl)
theorem dX4_next_291 : decode cX4_next 291 = .ok (.goto 5, 3) := dk_167 0 5 (dk_at dksX4_next_12 14 rfl rfl)
theorem dX4_next_294 : decode cX4_next 294 = .ok (.bipush 13, 2) := dk_16 13 (dk_at dksX4_next_12 17 rfl rfl)
theorem dX4_next_296 : decode cX4_next 296 = .ok (.putfield 229, 3) := dk_181 0 229 (dk_at dksX4_next_12 19 rfl rfl)
theorem dX4_next_299 : decode cX4_next 299 = .ok (.goto 37, 3) := dk_167 0 37 (dk_at dksX4_next_13 0 rfl rfl)
theorem dX4_next_302 : decode cX4_next 302 = .ok (.aload_n 0, 1) := dk_42 (dk_at dksX4_next_13 3 rfl rfl)
theorem dX4_next_303 : decode cX4_next 303 = .ok (.dup, 1) := dk_89 (dk_at dksX4_next_13 4 rfl rfl)
theorem dX4_next_304 : decode cX4_next 304 = .ok (.getfield 223, 3) := dk_180 0 223 (dk_at dksX4_next_13 5 rfl rfl)
theorem dX4_next_307 : decode cX4_next 307 = .ok (.iconst 1, 1) := dk_4 (dk_at dksX4_next_13 8 rfl rfl)
theorem dX4_next_308 : decode cX4_next 308 = .ok (.iadd, 1) := dk_96 (dk_at dksX4_next_13 9 rfl rfl)
theorem dX4_next_309 : decode cX4_next 309 = .ok (.putfield 223, 3) := dk_181 0 223 (dk_at dksX4_next_13 10 rfl rfl)
theorem dX4_next_312 : decode cX4_next 312 = .ok (.aload_n 0, 1) := dk_42 (dk_at dksX4_next_13 13 rfl rfl)
theorem dX4_next_313 : decode cX4_next 313 = .ok (.aload_n 0, 1) := dk_42 (dk_at dksX4_next_13 14 rfl rfl)
theorem dX4_next_314 : decode cX4_next 314 = .ok (.aload_n 0, 1) := dk_42 (dk_at dksX4_next_13 15 rfl rfl)
theorem dX4_next_315 : decode cX4_next 315 = .ok (.getfield 220, 3) := dk_180 0 220 (dk_at dksX4_next_13 16 rfl rfl)
theorem dX4_next_318 : decode cX4_next 318 = .ok (.invokevirtual 226, 3) := dk_182 0 226 (dk_at dksX4_next_13 19 rfl rfl)
theorem dX4_next_321 : decode cX4_next 321 = .ok (.bipush 59, 2) := dk_16 59 (dk_at dksX4_next_13 22 rfl rfl)
theorem dX4_next_323 : decode cX4_next 323 = .ok (.if_icmp .ne 8, 3) := dk_160 0 8 (dk_at dksX4_next_14 0 rfl rfl)
theorem dX4_next_326 : decode cX4_next 326 = .ok (.bipush 14, 2) := dk_16 14 (dk_at dksX4_next_14 3 rfl rfl)
theorem dX4_next_328 : decode cX4_next 328 = .ok (.goto 5, 3) := dk_167 0 5 (dk_at dksX4_next_14 5 rfl rfl)
theorem dX4_next_331 : decode cX4_next 331 = .ok (.bipush 16, 2) := dk_16 16 (dk_at dksX4_next_14 8 rfl rfl)
theorem dX4_next_333 : decode cX4_next 333 = .ok (.putfield 229, 3) := dk_181 0 229 (dk_at dksX4_next_14 10 rfl rfl)
theorem dX4_next_336 : decode cX4_next 336 = .ok (.return_, 1) := dk_177 (dk_at dksX4_next_14 13 rfl rfl)
abbrev cX4_see : ByteArray := prog_26_method_41_code
def yX4_see : MethodName := ⟨RX4, "see", "(I)I"⟩
def dkwX4_see_0 : List UInt8 := [27, 42, 180, 0, 205, 162, 0, 12, 42, 180, 0, 51, 27, 46, 167, 0, 4, 2, 172]
abbrev dktX4_see_0 : List UInt8 := dkwX4_see_0 ++ []
theorem dksX4_see_0 : cX4_see.data.toList.drop 0 = dktX4_see_0 := by decide +kernel
theorem dX4_see_0 : decode cX4_see 0 = .ok (.iload_n 1, 1) := dk_27 (dk_at dksX4_see_0 0 rfl rfl)
theorem dX4_see_1 : decode cX4_see 1 = .ok (.aload_n 0, 1) := dk_42 (dk_at dksX4_see_0 1 rfl rfl)
theorem dX4_see_2 : decode cX4_see 2 = .ok (.getfield 205, 3) := dk_180 0 205 (dk_at dksX4_see_0 2 rfl rfl)
theorem dX4_see_5 : decode cX4_see 5 = .ok (.if_icmp .ge 12, 3) := dk_162 0 12 (dk_at dksX4_see_0 5 rfl rfl)
theorem dX4_see_8 : decode cX4_see 8 = .ok (.aload_n 0, 1) := dk_42 (dk_at dksX4_see_0 8 rfl rfl)
theorem dX4_see_9 : decode cX4_see 9 = .ok (.getfield 51, 3) := dk_180 0 51 (dk_at dksX4_see_0 9 rfl rfl)
theorem dX4_see_12 : decode cX4_see 12 = .ok (.iload_n 1, 1) := dk_27 (dk_at dksX4_see_0 12 rfl rfl)
theorem dX4_see_13 : decode cX4_see 13 = .ok (.iaload, 1) := dk_46 (dk_at dksX4_see_0 13 rfl rfl)
theorem dX4_see_14 : decode cX4_see 14 = .ok (.goto 4, 3) := dk_167 0 4 (dk_at dksX4_see_0 14 rfl rfl)
theorem dX4_see_17 : decode cX4_see 17 = .ok (.iconst (-1), 1) := dk_2 (dk_at dksX4_see_0 17 rfl rfl)
theorem dX4_see_18 : decode cX4_see 18 = .ok (.ireturn, 1) := dk_172 (dk_at dksX4_see_0 18 rfl rfl)
abbrev cX4_isSmall : ByteArray := prog_26_method_42_code
def yX4_isSmall : MethodName := ⟨RX4, "isSmall", "(I)Z"⟩
def dkwX4_isSmall_0 : List UInt8 := [26, 16, 97, 161, 0, 13, 26, 16, 122, 163, 0, 7, 4, 167, 0, 4, 3, 172]
abbrev dktX4_isSmall_0 : List UInt8 := dkwX4_isSmall_0 ++ []
theorem dksX4_isSmall_0 : cX4_isSmall.data.toList.drop 0 = dktX4_isSmall_0 := by decide +kernel
theorem dX4_isSmall_0 : decode cX4_isSmall 0 = .ok (.iload_n 0, 1) := dk_26 (dk_at dksX4_isSmall_0 0 rfl rfl)
theorem dX4_isSmall_1 : decode cX4_isSmall 1 = .ok (.bipush 97, 2) := dk_16 97 (dk_at dksX4_isSmall_0 1 rfl rfl)
theorem dX4_isSmall_3 : decode cX4_isSmall 3 = .ok (.if_icmp .lt 13, 3) := dk_161 0 13 (dk_at dksX4_isSmall_0 3 rfl rfl)
theorem dX4_isSmall_6 : decode cX4_isSmall 6 = .ok (.iload_n 0, 1) := dk_26 (dk_at dksX4_isSmall_0 6 rfl rfl)
theorem dX4_isSmall_7 : decode cX4_isSmall 7 = .ok (.bipush 122, 2) := dk_16 122 (dk_at dksX4_isSmall_0 7 rfl rfl)
theorem dX4_isSmall_9 : decode cX4_isSmall 9 = .ok (.if_icmp .gt 7, 3) := dk_163 0 7 (dk_at dksX4_isSmall_0 9 rfl rfl)
theorem dX4_isSmall_12 : decode cX4_isSmall 12 = .ok (.iconst 1, 1) := dk_4 (dk_at dksX4_isSmall_0 12 rfl rfl)
theorem dX4_isSmall_13 : decode cX4_isSmall 13 = .ok (.goto 4, 3) := dk_167 0 4 (dk_at dksX4_isSmall_0 13 rfl rfl)
theorem dX4_isSmall_16 : decode cX4_isSmall 16 = .ok (.iconst 0, 1) := dk_3 (dk_at dksX4_isSmall_0 16 rfl rfl)
theorem dX4_isSmall_17 : decode cX4_isSmall 17 = .ok (.ireturn, 1) := dk_172 (dk_at dksX4_isSmall_0 17 rfl rfl)
abbrev cX4_keyAt : ByteArray := prog_26_method_44_code
def yX4_keyAt : MethodName := ⟨RX4, "keyAt", "()I"⟩
def dkwX4_keyAt_5 : List UInt8 := [132, 2, 1, 132, 1, 1, 167, 255, 140, 16, 12, 172]
abbrev dktX4_keyAt_5 : List UInt8 := dkwX4_keyAt_5 ++ []
def dkwX4_keyAt_4 : List UInt8 := [160, 0, 5, 27, 172, 18, 208, 28, 182, 0, 216, 16, 32, 159, 0, 9, 132, 2, 1, 167, 255, 242]
abbrev dktX4_keyAt_4 : List UInt8 := dkwX4_keyAt_4 ++ dktX4_keyAt_5
def dkwX4_keyAt_3 : List UInt8 := [18, 208, 28, 29, 96, 182, 0, 216, 16, 32, 160, 0, 18, 42, 180, 0, 220, 29, 96, 42, 180, 0, 223]
abbrev dktX4_keyAt_3 : List UInt8 := dkwX4_keyAt_3 ++ dktX4_keyAt_4
def dkwX4_keyAt_2 : List UInt8 := [180, 0, 220, 29, 96, 46, 18, 208, 28, 29, 96, 182, 0, 216, 160, 0, 9, 132, 3, 1, 167, 255, 205]
abbrev dktX4_keyAt_2 : List UInt8 := dkwX4_keyAt_2 ++ dktX4_keyAt_3
def dkwX4_keyAt_1 : List UInt8 := [16, 32, 159, 0, 44, 42, 180, 0, 220, 29, 96, 42, 180, 0, 223, 162, 0, 31, 42, 180, 0, 51, 42]
abbrev dktX4_keyAt_1 : List UInt8 := dkwX4_keyAt_1 ++ dktX4_keyAt_2
def dkwX4_keyAt_0 : List UInt8 := [3, 60, 4, 61, 28, 18, 208, 182, 0, 210, 162, 0, 113, 3, 62, 18, 208, 28, 29, 96, 182, 0, 216]
abbrev dktX4_keyAt_0 : List UInt8 := dkwX4_keyAt_0 ++ dktX4_keyAt_1
theorem dksX4_keyAt_0 : cX4_keyAt.data.toList.drop 0 = dktX4_keyAt_0 := by decide +kernel
theorem dksX4_keyAt_1 : cX4_keyAt.data.toList.drop 23 = dktX4_keyAt_1 := dk_seg dksX4_keyAt_0 23 rfl rfl
theorem dksX4_keyAt_2 : cX4_keyAt.data.toList.drop 46 = dktX4_keyAt_2 := dk_seg dksX4_keyAt_1 23 rfl rfl
theorem dksX4_keyAt_3 : cX4_keyAt.data.toList.drop 69 = dktX4_keyAt_3 := dk_seg dksX4_keyAt_2 23 rfl rfl
theorem dksX4_keyAt_4 : cX4_keyAt.data.toList.drop 92 = dktX4_keyAt_4 := dk_seg dksX4_keyAt_3 23 rfl rfl
theorem dksX4_keyAt_5 : cX4_keyAt.data.toList.drop 114 = dktX4_keyAt_5 := dk_seg dksX4_keyAt_4 22 rfl rfl
theorem dX4_keyAt_0 : decode cX4_keyAt 0 = .ok (.iconst 0, 1) := dk_3 (dk_at dksX4_keyAt_0 0 rfl rfl)
theorem dX4_keyAt_1 : decode cX4_keyAt 1 = .ok (.istore_n 1, 1) := dk_60 (dk_at dksX4_keyAt_0 1 rfl rfl)
theorem dX4_keyAt_2 : decode cX4_keyAt 2 = .ok (.iconst 1, 1) := dk_4 (dk_at dksX4_keyAt_0 2 rfl rfl)
theorem dX4_keyAt_3 : decode cX4_keyAt 3 = .ok (.istore_n 2, 1) := dk_61 (dk_at dksX4_keyAt_0 3 rfl rfl)
theorem dX4_keyAt_4 : decode cX4_keyAt 4 = .ok (.iload_n 2, 1) := dk_28 (dk_at dksX4_keyAt_0 4 rfl rfl)
theorem dX4_keyAt_5 : decode cX4_keyAt 5 = .ok (.ldc 208, 2) := dk_18 208 (dk_at dksX4_keyAt_0 5 rfl rfl)
theorem dX4_keyAt_7 : decode cX4_keyAt 7 = .ok (.invokevirtual 210, 3) := dk_182 0 210 (dk_at dksX4_keyAt_0 7 rfl rfl)
theorem dX4_keyAt_10 : decode cX4_keyAt 10 = .ok (.if_icmp .ge 113, 3) := dk_162 0 113 (dk_at dksX4_keyAt_0 10 rfl rfl)
theorem dX4_keyAt_13 : decode cX4_keyAt 13 = .ok (.iconst 0, 1) := dk_3 (dk_at dksX4_keyAt_0 13 rfl rfl)
theorem dX4_keyAt_14 : decode cX4_keyAt 14 = .ok (.istore_n 3, 1) := dk_62 (dk_at dksX4_keyAt_0 14 rfl rfl)
theorem dX4_keyAt_15 : decode cX4_keyAt 15 = .ok (.ldc 208, 2) := dk_18 208 (dk_at dksX4_keyAt_0 15 rfl rfl)
theorem dX4_keyAt_17 : decode cX4_keyAt 17 = .ok (.iload_n 2, 1) := dk_28 (dk_at dksX4_keyAt_0 17 rfl rfl)
theorem dX4_keyAt_18 : decode cX4_keyAt 18 = .ok (.iload_n 3, 1) := dk_29 (dk_at dksX4_keyAt_0 18 rfl rfl)
theorem dX4_keyAt_19 : decode cX4_keyAt 19 = .ok (.iadd, 1) := dk_96 (dk_at dksX4_keyAt_0 19 rfl rfl)
theorem dX4_keyAt_20 : decode cX4_keyAt 20 = .ok (.invokevirtual 216, 3) := dk_182 0 216 (dk_at dksX4_keyAt_0 20 rfl rfl)
theorem dX4_keyAt_23 : decode cX4_keyAt 23 = .ok (.bipush 32, 2) := dk_16 32 (dk_at dksX4_keyAt_1 0 rfl rfl)
theorem dX4_keyAt_25 : decode cX4_keyAt 25 = .ok (.if_icmp .eq 44, 3) := dk_159 0 44 (dk_at dksX4_keyAt_1 2 rfl rfl)
theorem dX4_keyAt_28 : decode cX4_keyAt 28 = .ok (.aload_n 0, 1) := dk_42 (dk_at dksX4_keyAt_1 5 rfl rfl)
theorem dX4_keyAt_29 : decode cX4_keyAt 29 = .ok (.getfield 220, 3) := dk_180 0 220 (dk_at dksX4_keyAt_1 6 rfl rfl)
theorem dX4_keyAt_32 : decode cX4_keyAt 32 = .ok (.iload_n 3, 1) := dk_29 (dk_at dksX4_keyAt_1 9 rfl rfl)
theorem dX4_keyAt_33 : decode cX4_keyAt 33 = .ok (.iadd, 1) := dk_96 (dk_at dksX4_keyAt_1 10 rfl rfl)
theorem dX4_keyAt_34 : decode cX4_keyAt 34 = .ok (.aload_n 0, 1) := dk_42 (dk_at dksX4_keyAt_1 11 rfl rfl)
theorem dX4_keyAt_35 : decode cX4_keyAt 35 = .ok (.getfield 223, 3) := dk_180 0 223 (dk_at dksX4_keyAt_1 12 rfl rfl)
theorem dX4_keyAt_38 : decode cX4_keyAt 38 = .ok (.if_icmp .ge 31, 3) := dk_162 0 31 (dk_at dksX4_keyAt_1 15 rfl rfl)
theorem dX4_keyAt_41 : decode cX4_keyAt 41 = .ok (.aload_n 0, 1) := dk_42 (dk_at dksX4_keyAt_1 18 rfl rfl)
theorem dX4_keyAt_42 : decode cX4_keyAt 42 = .ok (.getfield 51, 3) := dk_180 0 51 (dk_at dksX4_keyAt_1 19 rfl rfl)
theorem dX4_keyAt_45 : decode cX4_keyAt 45 = .ok (.aload_n 0, 1) := dk_42 (dk_at dksX4_keyAt_1 22 rfl rfl)
theorem dX4_keyAt_46 : decode cX4_keyAt 46 = .ok (.getfield 220, 3) := dk_180 0 220 (dk_at dksX4_keyAt_2 0 rfl rfl)
theorem dX4_keyAt_49 : decode cX4_keyAt 49 = .ok (.iload_n 3, 1) := dk_29 (dk_at dksX4_keyAt_2 3 rfl rfl)
theorem dX4_keyAt_50 : decode cX4_keyAt 50 = .ok (.iadd, 1) := dk_96 (dk_at dksX4_keyAt_2 4 rfl rfl)
theorem dX4_keyAt_51 : decode cX4_keyAt 51 = .ok (.iaload, 1) := dk_46 (dk_at dksX4_keyAt_2 5 rfl rfl)
theorem dX4_keyAt_52 : decode cX4_keyAt 52 = .ok (.ldc 208, 2) := dk_18 208 (dk_at dksX4_keyAt_2 6 rfl rfl)
theorem dX4_keyAt_54 : decode cX4_keyAt 54 = .ok (.iload_n 2, 1) := dk_28 (dk_at dksX4_keyAt_2 8 rfl rfl)
theorem dX4_keyAt_55 : decode cX4_keyAt 55 = .ok (.iload_n 3, 1) := dk_29 (dk_at dksX4_keyAt_2 9 rfl rfl)
theorem dX4_keyAt_56 : decode cX4_keyAt 56 = .ok (.iadd, 1) := dk_96 (dk_at dksX4_keyAt_2 10 rfl rfl)
theorem dX4_keyAt_57 : decode cX4_keyAt 57 = .ok (.invokevirtual 216, 3) := dk_182 0 216 (dk_at dksX4_keyAt_2 11 rfl rfl)
theorem dX4_keyAt_60 : decode cX4_keyAt 60 = .ok (.if_icmp .ne 9, 3) := dk_160 0 9 (dk_at dksX4_keyAt_2 14 rfl rfl)
theorem dX4_keyAt_63 : decode cX4_keyAt 63 = .ok (.iinc 3 1, 3) := dk_132 3 1 (dk_at dksX4_keyAt_2 17 rfl rfl)
theorem dX4_keyAt_66 : decode cX4_keyAt 66 = .ok (.goto (-51), 3) := dk_167 255 205 (dk_at dksX4_keyAt_2 20 rfl rfl)
theorem dX4_keyAt_69 : decode cX4_keyAt 69 = .ok (.ldc 208, 2) := dk_18 208 (dk_at dksX4_keyAt_3 0 rfl rfl)
theorem dX4_keyAt_71 : decode cX4_keyAt 71 = .ok (.iload_n 2, 1) := dk_28 (dk_at dksX4_keyAt_3 2 rfl rfl)
theorem dX4_keyAt_72 : decode cX4_keyAt 72 = .ok (.iload_n 3, 1) := dk_29 (dk_at dksX4_keyAt_3 3 rfl rfl)
theorem dX4_keyAt_73 : decode cX4_keyAt 73 = .ok (.iadd, 1) := dk_96 (dk_at dksX4_keyAt_3 4 rfl rfl)
theorem dX4_keyAt_74 : decode cX4_keyAt 74 = .ok (.invokevirtual 216, 3) := dk_182 0 216 (dk_at dksX4_keyAt_3 5 rfl rfl)
theorem dX4_keyAt_77 : decode cX4_keyAt 77 = .ok (.bipush 32, 2) := dk_16 32 (dk_at dksX4_keyAt_3 8 rfl rfl)
theorem dX4_keyAt_79 : decode cX4_keyAt 79 = .ok (.if_icmp .ne 18, 3) := dk_160 0 18 (dk_at dksX4_keyAt_3 10 rfl rfl)
theorem dX4_keyAt_82 : decode cX4_keyAt 82 = .ok (.aload_n 0, 1) := dk_42 (dk_at dksX4_keyAt_3 13 rfl rfl)
theorem dX4_keyAt_83 : decode cX4_keyAt 83 = .ok (.getfield 220, 3) := dk_180 0 220 (dk_at dksX4_keyAt_3 14 rfl rfl)
theorem dX4_keyAt_86 : decode cX4_keyAt 86 = .ok (.iload_n 3, 1) := dk_29 (dk_at dksX4_keyAt_3 17 rfl rfl)
theorem dX4_keyAt_87 : decode cX4_keyAt 87 = .ok (.iadd, 1) := dk_96 (dk_at dksX4_keyAt_3 18 rfl rfl)
theorem dX4_keyAt_88 : decode cX4_keyAt 88 = .ok (.aload_n 0, 1) := dk_42 (dk_at dksX4_keyAt_3 19 rfl rfl)
theorem dX4_keyAt_89 : decode cX4_keyAt 89 = .ok (.getfield 223, 3) := dk_180 0 223 (dk_at dksX4_keyAt_3 20 rfl rfl)
theorem dX4_keyAt_92 : decode cX4_keyAt 92 = .ok (.if_icmp .ne 5, 3) := dk_160 0 5 (dk_at dksX4_keyAt_4 0 rfl rfl)
theorem dX4_keyAt_95 : decode cX4_keyAt 95 = .ok (.iload_n 1, 1) := dk_27 (dk_at dksX4_keyAt_4 3 rfl rfl)
theorem dX4_keyAt_96 : decode cX4_keyAt 96 = .ok (.ireturn, 1) := dk_172 (dk_at dksX4_keyAt_4 4 rfl rfl)
theorem dX4_keyAt_97 : decode cX4_keyAt 97 = .ok (.ldc 208, 2) := dk_18 208 (dk_at dksX4_keyAt_4 5 rfl rfl)
theorem dX4_keyAt_99 : decode cX4_keyAt 99 = .ok (.iload_n 2, 1) := dk_28 (dk_at dksX4_keyAt_4 7 rfl rfl)
theorem dX4_keyAt_100 : decode cX4_keyAt 100 = .ok (.invokevirtual 216, 3) := dk_182 0 216 (dk_at dksX4_keyAt_4 8 rfl rfl)
theorem dX4_keyAt_103 : decode cX4_keyAt 103 = .ok (.bipush 32, 2) := dk_16 32 (dk_at dksX4_keyAt_4 11 rfl rfl)
theorem dX4_keyAt_105 : decode cX4_keyAt 105 = .ok (.if_icmp .eq 9, 3) := dk_159 0 9 (dk_at dksX4_keyAt_4 13 rfl rfl)
theorem dX4_keyAt_108 : decode cX4_keyAt 108 = .ok (.iinc 2 1, 3) := dk_132 2 1 (dk_at dksX4_keyAt_4 16 rfl rfl)
theorem dX4_keyAt_111 : decode cX4_keyAt 111 = .ok (.goto (-14), 3) := dk_167 255 242 (dk_at dksX4_keyAt_4 19 rfl rfl)
theorem dX4_keyAt_114 : decode cX4_keyAt 114 = .ok (.iinc 2 1, 3) := dk_132 2 1 (dk_at dksX4_keyAt_5 0 rfl rfl)
theorem dX4_keyAt_117 : decode cX4_keyAt 117 = .ok (.iinc 1 1, 3) := dk_132 1 1 (dk_at dksX4_keyAt_5 3 rfl rfl)
theorem dX4_keyAt_120 : decode cX4_keyAt 120 = .ok (.goto (-116), 3) := dk_167 255 140 (dk_at dksX4_keyAt_5 6 rfl rfl)
theorem dX4_keyAt_123 : decode cX4_keyAt 123 = .ok (.bipush 12, 2) := dk_16 12 (dk_at dksX4_keyAt_5 9 rfl rfl)
theorem dX4_keyAt_125 : decode cX4_keyAt 125 = .ok (.ireturn, 1) := dk_172 (dk_at dksX4_keyAt_5 11 rfl rfl)
abbrev cX4_isDigit : ByteArray := prog_26_method_43_code
def yX4_isDigit : MethodName := ⟨RX4, "isDigit", "(I)Z"⟩
def dkwX4_isDigit_0 : List UInt8 := [26, 16, 48, 161, 0, 13, 26, 16, 57, 163, 0, 7, 4, 167, 0, 4, 3, 172]
abbrev dktX4_isDigit_0 : List UInt8 := dkwX4_isDigit_0 ++ []
theorem dksX4_isDigit_0 : cX4_isDigit.data.toList.drop 0 = dktX4_isDigit_0 := by decide +kernel
theorem dX4_isDigit_0 : decode cX4_isDigit 0 = .ok (.iload_n 0, 1) := dk_26 (dk_at dksX4_isDigit_0 0 rfl rfl)
theorem dX4_isDigit_1 : decode cX4_isDigit 1 = .ok (.bipush 48, 2) := dk_16 48 (dk_at dksX4_isDigit_0 1 rfl rfl)
theorem dX4_isDigit_3 : decode cX4_isDigit 3 = .ok (.if_icmp .lt 13, 3) := dk_161 0 13 (dk_at dksX4_isDigit_0 3 rfl rfl)
theorem dX4_isDigit_6 : decode cX4_isDigit 6 = .ok (.iload_n 0, 1) := dk_26 (dk_at dksX4_isDigit_0 6 rfl rfl)
theorem dX4_isDigit_7 : decode cX4_isDigit 7 = .ok (.bipush 57, 2) := dk_16 57 (dk_at dksX4_isDigit_0 7 rfl rfl)
theorem dX4_isDigit_9 : decode cX4_isDigit 9 = .ok (.if_icmp .gt 7, 3) := dk_163 0 7 (dk_at dksX4_isDigit_0 9 rfl rfl)
theorem dX4_isDigit_12 : decode cX4_isDigit 12 = .ok (.iconst 1, 1) := dk_4 (dk_at dksX4_isDigit_0 12 rfl rfl)
theorem dX4_isDigit_13 : decode cX4_isDigit 13 = .ok (.goto 4, 3) := dk_167 0 4 (dk_at dksX4_isDigit_0 13 rfl rfl)
theorem dX4_isDigit_16 : decode cX4_isDigit 16 = .ok (.iconst 0, 1) := dk_3 (dk_at dksX4_isDigit_0 16 rfl rfl)
theorem dX4_isDigit_17 : decode cX4_isDigit 17 = .ok (.ireturn, 1) := dk_172 (dk_at dksX4_isDigit_0 17 rfl rfl)
abbrev cX4_is : ByteArray := prog_26_method_47_code
def yX4_is : MethodName := ⟨RX4, "is", "(I)Z"⟩
def dkwX4_is_0 : List UInt8 := [42, 180, 0, 252, 154, 0, 15, 42, 180, 0, 229, 27, 160, 0, 7, 4, 167, 0, 4, 3, 172]
abbrev dktX4_is_0 : List UInt8 := dkwX4_is_0 ++ []
theorem dksX4_is_0 : cX4_is.data.toList.drop 0 = dktX4_is_0 := by decide +kernel
theorem dX4_is_0 : decode cX4_is 0 = .ok (.aload_n 0, 1) := dk_42 (dk_at dksX4_is_0 0 rfl rfl)
theorem dX4_is_1 : decode cX4_is 1 = .ok (.getfield 252, 3) := dk_180 0 252 (dk_at dksX4_is_0 1 rfl rfl)
theorem dX4_is_4 : decode cX4_is 4 = .ok (.ifCond .ne 15, 3) := dk_154 0 15 (dk_at dksX4_is_0 4 rfl rfl)
theorem dX4_is_7 : decode cX4_is 7 = .ok (.aload_n 0, 1) := dk_42 (dk_at dksX4_is_0 7 rfl rfl)
theorem dX4_is_8 : decode cX4_is 8 = .ok (.getfield 229, 3) := dk_180 0 229 (dk_at dksX4_is_0 8 rfl rfl)
theorem dX4_is_11 : decode cX4_is 11 = .ok (.iload_n 1, 1) := dk_27 (dk_at dksX4_is_0 11 rfl rfl)
theorem dX4_is_12 : decode cX4_is 12 = .ok (.if_icmp .ne 7, 3) := dk_160 0 7 (dk_at dksX4_is_0 12 rfl rfl)
theorem dX4_is_15 : decode cX4_is 15 = .ok (.iconst 1, 1) := dk_4 (dk_at dksX4_is_0 15 rfl rfl)
theorem dX4_is_16 : decode cX4_is 16 = .ok (.goto 4, 3) := dk_167 0 4 (dk_at dksX4_is_0 16 rfl rfl)
theorem dX4_is_19 : decode cX4_is 19 = .ok (.iconst 0, 1) := dk_3 (dk_at dksX4_is_0 19 rfl rfl)
theorem dX4_is_20 : decode cX4_is 20 = .ok (.ireturn, 1) := dk_172 (dk_at dksX4_is_0 20 rfl rfl)
abbrev cX4_readsWay : ByteArray := prog_26_method_52_code
def yX4_readsWay : MethodName := ⟨RX4, "readsWay", "()V"⟩
def dkwX4_readsWay_8 : List UInt8 := [180, 1, 17, 4, 96, 181, 1, 17, 177]
abbrev dktX4_readsWay_8 : List UInt8 := dkwX4_readsWay_8 ++ []
def dkwX4_readsWay_7 : List UInt8 := [167, 255, 204, 42, 16, 14, 182, 1, 26, 42, 180, 0, 54, 16, 8, 42, 180, 1, 17, 96, 27, 79, 42, 89]
abbrev dktX4_readsWay_7 : List UInt8 := dkwX4_readsWay_7 ++ dktX4_readsWay_8
def dkwX4_readsWay_6 : List UInt8 := [42, 8, 182, 1, 8, 42, 180, 0, 252, 154, 0, 12, 42, 42, 180, 1, 17, 27, 182, 1, 22, 132, 1, 1]
abbrev dktX4_readsWay_6 : List UInt8 := dkwX4_readsWay_6 ++ dktX4_readsWay_7
def dkwX4_readsWay_5 : List UInt8 := [154, 0, 51, 42, 180, 0, 229, 133, 9, 20, 1, 20, 184, 0, 140, 153, 0, 36, 27, 16, 8, 160, 0, 8]
abbrev dktX4_readsWay_5 : List UInt8 := dkwX4_readsWay_5 ++ dktX4_readsWay_6
def dkwX4_readsWay_4 : List UInt8 := [180, 0, 66, 42, 180, 1, 17, 42, 180, 0, 235, 80, 42, 182, 1, 5, 3, 60, 42, 180, 0, 252]
abbrev dktX4_readsWay_4 : List UInt8 := dkwX4_readsWay_4 ++ dktX4_readsWay_5
def dkwX4_readsWay_3 : List UInt8 := [154, 0, 8, 42, 7, 182, 1, 8, 132, 1, 1, 167, 255, 217, 42, 180, 0, 252, 153, 0, 4, 177, 42]
abbrev dktX4_readsWay_3 : List UInt8 := dkwX4_readsWay_3 ++ dktX4_readsWay_4
def dkwX4_readsWay_2 : List UInt8 := [162, 0, 37, 42, 16, 12, 182, 1, 2, 153, 0, 22, 42, 180, 0, 66, 27, 47, 42, 180, 0, 235, 148]
abbrev dktX4_readsWay_2 : List UInt8 := dkwX4_readsWay_2 ++ dktX4_readsWay_3
def dkwX4_readsWay_1 : List UInt8 := [182, 1, 5, 42, 16, 12, 182, 1, 2, 154, 0, 8, 42, 5, 182, 1, 8, 3, 60, 27, 42, 180, 1, 17]
abbrev dktX4_readsWay_1 : List UInt8 := dkwX4_readsWay_1 ++ dktX4_readsWay_2
def dkwX4_readsWay_0 : List UInt8 := [42, 180, 1, 17, 16, 8, 160, 0, 8, 42, 8, 182, 1, 8, 42, 180, 0, 252, 153, 0, 4, 177, 42]
abbrev dktX4_readsWay_0 : List UInt8 := dkwX4_readsWay_0 ++ dktX4_readsWay_1
theorem dksX4_readsWay_0 : cX4_readsWay.data.toList.drop 0 = dktX4_readsWay_0 := by decide +kernel
theorem dksX4_readsWay_1 : cX4_readsWay.data.toList.drop 23 = dktX4_readsWay_1 := dk_seg dksX4_readsWay_0 23 rfl rfl
theorem dksX4_readsWay_2 : cX4_readsWay.data.toList.drop 47 = dktX4_readsWay_2 := dk_seg dksX4_readsWay_1 24 rfl rfl
theorem dksX4_readsWay_3 : cX4_readsWay.data.toList.drop 70 = dktX4_readsWay_3 := dk_seg dksX4_readsWay_2 23 rfl rfl
theorem dksX4_readsWay_4 : cX4_readsWay.data.toList.drop 93 = dktX4_readsWay_4 := dk_seg dksX4_readsWay_3 23 rfl rfl
theorem dksX4_readsWay_5 : cX4_readsWay.data.toList.drop 115 = dktX4_readsWay_5 := dk_seg dksX4_readsWay_4 22 rfl rfl
theorem dksX4_readsWay_6 : cX4_readsWay.data.toList.drop 139 = dktX4_readsWay_6 := dk_seg dksX4_readsWay_5 24 rfl rfl
theorem dksX4_readsWay_7 : cX4_readsWay.data.toList.drop 163 = dktX4_readsWay_7 := dk_seg dksX4_readsWay_6 24 rfl rfl
theorem dksX4_readsWay_8 : cX4_readsWay.data.toList.drop 187 = dktX4_readsWay_8 := dk_seg dksX4_readsWay_7 24 rfl rfl
theorem dX4_readsWay_0 : decode cX4_readsWay 0 = .ok (.aload_n 0, 1) := dk_42 (dk_at dksX4_readsWay_0 0 rfl rfl)
theorem dX4_readsWay_1 : decode cX4_readsWay 1 = .ok (.getfield 273, 3) := dk_180 1 17 (dk_at dksX4_readsWay_0 1 rfl rfl)
theorem dX4_readsWay_4 : decode cX4_readsWay 4 = .ok (.bipush 8, 2) := dk_16 8 (dk_at dksX4_readsWay_0 4 rfl rfl)
theorem dX4_readsWay_6 : decode cX4_readsWay 6 = .ok (.if_icmp .ne 8, 3) := dk_160 0 8 (dk_at dksX4_readsWay_0 6 rfl rfl)
theorem dX4_readsWay_9 : decode cX4_readsWay 9 = .ok (.aload_n 0, 1) := dk_42 (dk_at dksX4_readsWay_0 9 rfl rfl)
theorem dX4_readsWay_10 : decode cX4_readsWay 10 = .ok (.iconst 5, 1) := dk_8 (dk_at dksX4_readsWay_0 10 rfl rfl)
theorem dX4_readsWay_11 : decode cX4_readsWay 11 = .ok (.invokevirtual 264, 3) := dk_182 1 8 (dk_at dksX4_readsWay_0 11 rfl rfl)
theorem dX4_readsWay_14 : decode cX4_readsWay 14 = .ok (.aload_n 0, 1) := dk_42 (dk_at dksX4_readsWay_0 14 rfl rfl)
theorem dX4_readsWay_15 : decode cX4_readsWay 15 = .ok (.getfield 252, 3) := dk_180 0 252 (dk_at dksX4_readsWay_0 15 rfl rfl)
theorem dX4_readsWay_18 : decode cX4_readsWay 18 = .ok (.ifCond .eq 4, 3) := dk_153 0 4 (dk_at dksX4_readsWay_0 18 rfl rfl)
theorem dX4_readsWay_21 : decode cX4_readsWay 21 = .ok (.return_, 1) := dk_177 (dk_at dksX4_readsWay_0 21 rfl rfl)
theorem dX4_readsWay_22 : decode cX4_readsWay 22 = .ok (.aload_n 0, 1) := dk_42 (dk_at dksX4_readsWay_0 22 rfl rfl)
theorem dX4_readsWay_23 : decode cX4_readsWay 23 = .ok (.invokevirtual 261, 3) := dk_182 1 5 (dk_at dksX4_readsWay_1 0 rfl rfl)
theorem dX4_readsWay_26 : decode cX4_readsWay 26 = .ok (.aload_n 0, 1) := dk_42 (dk_at dksX4_readsWay_1 3 rfl rfl)
theorem dX4_readsWay_27 : decode cX4_readsWay 27 = .ok (.bipush 12, 2) := dk_16 12 (dk_at dksX4_readsWay_1 4 rfl rfl)
theorem dX4_readsWay_29 : decode cX4_readsWay 29 = .ok (.invokevirtual 258, 3) := dk_182 1 2 (dk_at dksX4_readsWay_1 6 rfl rfl)
theorem dX4_readsWay_32 : decode cX4_readsWay 32 = .ok (.ifCond .ne 8, 3) := dk_154 0 8 (dk_at dksX4_readsWay_1 9 rfl rfl)
theorem dX4_readsWay_35 : decode cX4_readsWay 35 = .ok (.aload_n 0, 1) := dk_42 (dk_at dksX4_readsWay_1 12 rfl rfl)
theorem dX4_readsWay_36 : decode cX4_readsWay 36 = .ok (.iconst 2, 1) := dk_5 (dk_at dksX4_readsWay_1 13 rfl rfl)
theorem dX4_readsWay_37 : decode cX4_readsWay 37 = .ok (.invokevirtual 264, 3) := dk_182 1 8 (dk_at dksX4_readsWay_1 14 rfl rfl)
theorem dX4_readsWay_40 : decode cX4_readsWay 40 = .ok (.iconst 0, 1) := dk_3 (dk_at dksX4_readsWay_1 17 rfl rfl)
theorem dX4_readsWay_41 : decode cX4_readsWay 41 = .ok (.istore_n 1, 1) := dk_60 (dk_at dksX4_readsWay_1 18 rfl rfl)
theorem dX4_readsWay_42 : decode cX4_readsWay 42 = .ok (.iload_n 1, 1) := dk_27 (dk_at dksX4_readsWay_1 19 rfl rfl)
theorem dX4_readsWay_43 : decode cX4_readsWay 43 = .ok (.aload_n 0, 1) := dk_42 (dk_at dksX4_readsWay_1 20 rfl rfl)
theorem dX4_readsWay_44 : decode cX4_readsWay 44 = .ok (.getfield 273, 3) := dk_180 1 17 (dk_at dksX4_readsWay_1 21 rfl rfl)
theorem dX4_readsWay_47 : decode cX4_readsWay 47 = .ok (.if_icmp .ge 37, 3) := dk_162 0 37 (dk_at dksX4_readsWay_2 0 rfl rfl)
theorem dX4_readsWay_50 : decode cX4_readsWay 50 = .ok (.aload_n 0, 1) := dk_42 (dk_at dksX4_readsWay_2 3 rfl rfl)
theorem dX4_readsWay_51 : decode cX4_readsWay 51 = .ok (.bipush 12, 2) := dk_16 12 (dk_at dksX4_readsWay_2 4 rfl rfl)
theorem dX4_readsWay_53 : decode cX4_readsWay 53 = .ok (.invokevirtual 258, 3) := dk_182 1 2 (dk_at dksX4_readsWay_2 6 rfl rfl)
theorem dX4_readsWay_56 : decode cX4_readsWay 56 = .ok (.ifCond .eq 22, 3) := dk_153 0 22 (dk_at dksX4_readsWay_2 9 rfl rfl)
theorem dX4_readsWay_59 : decode cX4_readsWay 59 = .ok (.aload_n 0, 1) := dk_42 (dk_at dksX4_readsWay_2 12 rfl rfl)
theorem dX4_readsWay_60 : decode cX4_readsWay 60 = .ok (.getfield 66, 3) := dk_180 0 66 (dk_at dksX4_readsWay_2 13 rfl rfl)
theorem dX4_readsWay_63 : decode cX4_readsWay 63 = .ok (.iload_n 1, 1) := dk_27 (dk_at dksX4_readsWay_2 16 rfl rfl)
theorem dX4_readsWay_64 : decode cX4_readsWay 64 = .ok (.laload, 1) := dk_47 (dk_at dksX4_readsWay_2 17 rfl rfl)
theorem dX4_readsWay_65 : decode cX4_readsWay 65 = .ok (.aload_n 0, 1) := dk_42 (dk_at dksX4_readsWay_2 18 rfl rfl)
theorem dX4_readsWay_66 : decode cX4_readsWay 66 = .ok (.getfield 235, 3) := dk_180 0 235 (dk_at dksX4_readsWay_2 19 rfl rfl)
theorem dX4_readsWay_69 : decode cX4_readsWay 69 = .ok (.lcmp, 1) := dk_148 (dk_at dksX4_readsWay_2 22 rfl rfl)
theorem dX4_readsWay_70 : decode cX4_readsWay 70 = .ok (.ifCond .ne 8, 3) := dk_154 0 8 (dk_at dksX4_readsWay_3 0 rfl rfl)
theorem dX4_readsWay_73 : decode cX4_readsWay 73 = .ok (.aload_n 0, 1) := dk_42 (dk_at dksX4_readsWay_3 3 rfl rfl)
theorem dX4_readsWay_74 : decode cX4_readsWay 74 = .ok (.iconst 4, 1) := dk_7 (dk_at dksX4_readsWay_3 4 rfl rfl)
theorem dX4_readsWay_75 : decode cX4_readsWay 75 = .ok (.invokevirtual 264, 3) := dk_182 1 8 (dk_at dksX4_readsWay_3 5 rfl rfl)
theorem dX4_readsWay_78 : decode cX4_readsWay 78 = .ok (.iinc 1 1, 3) := dk_132 1 1 (dk_at dksX4_readsWay_3 8 rfl rfl)
theorem dX4_readsWay_81 : decode cX4_readsWay 81 = .ok (.goto (-39), 3) := dk_167 255 217 (dk_at dksX4_readsWay_3 11 rfl rfl)
theorem dX4_readsWay_84 : decode cX4_readsWay 84 = .ok (.aload_n 0, 1) := dk_42 (dk_at dksX4_readsWay_3 14 rfl rfl)
theorem dX4_readsWay_85 : decode cX4_readsWay 85 = .ok (.getfield 252, 3) := dk_180 0 252 (dk_at dksX4_readsWay_3 15 rfl rfl)
theorem dX4_readsWay_88 : decode cX4_readsWay 88 = .ok (.ifCond .eq 4, 3) := dk_153 0 4 (dk_at dksX4_readsWay_3 18 rfl rfl)
theorem dX4_readsWay_91 : decode cX4_readsWay 91 = .ok (.return_, 1) := dk_177 (dk_at dksX4_readsWay_3 21 rfl rfl)
theorem dX4_readsWay_92 : decode cX4_readsWay 92 = .ok (.aload_n 0, 1) := dk_42 (dk_at dksX4_readsWay_3 22 rfl rfl)
theorem dX4_readsWay_93 : decode cX4_readsWay 93 = .ok (.getfield 66, 3) := dk_180 0 66 (dk_at dksX4_readsWay_4 0 rfl rfl)
theorem dX4_readsWay_96 : decode cX4_readsWay 96 = .ok (.aload_n 0, 1) := dk_42 (dk_at dksX4_readsWay_4 3 rfl rfl)
theorem dX4_readsWay_97 : decode cX4_readsWay 97 = .ok (.getfield 273, 3) := dk_180 1 17 (dk_at dksX4_readsWay_4 4 rfl rfl)
theorem dX4_readsWay_100 : decode cX4_readsWay 100 = .ok (.aload_n 0, 1) := dk_42 (dk_at dksX4_readsWay_4 7 rfl rfl)
theorem dX4_readsWay_101 : decode cX4_readsWay 101 = .ok (.getfield 235, 3) := dk_180 0 235 (dk_at dksX4_readsWay_4 8 rfl rfl)
theorem dX4_readsWay_104 : decode cX4_readsWay 104 = .ok (.lastore, 1) := dk_80 (dk_at dksX4_readsWay_4 11 rfl rfl)
theorem dX4_readsWay_105 : decode cX4_readsWay 105 = .ok (.aload_n 0, 1) := dk_42 (dk_at dksX4_readsWay_4 12 rfl rfl)
theorem dX4_readsWay_106 : decode cX4_readsWay 106 = .ok (.invokevirtual 261, 3) := dk_182 1 5 (dk_at dksX4_readsWay_4 13 rfl rfl)
theorem dX4_readsWay_109 : decode cX4_readsWay 109 = .ok (.iconst 0, 1) := dk_3 (dk_at dksX4_readsWay_4 16 rfl rfl)
theorem dX4_readsWay_110 : decode cX4_readsWay 110 = .ok (.istore_n 1, 1) := dk_60 (dk_at dksX4_readsWay_4 17 rfl rfl)
theorem dX4_readsWay_111 : decode cX4_readsWay 111 = .ok (.aload_n 0, 1) := dk_42 (dk_at dksX4_readsWay_4 18 rfl rfl)
theorem dX4_readsWay_112 : decode cX4_readsWay 112 = .ok (.getfield 252, 3) := dk_180 0 252 (dk_at dksX4_readsWay_4 19 rfl rfl)
theorem dX4_readsWay_115 : decode cX4_readsWay 115 = .ok (.ifCond .ne 51, 3) := dk_154 0 51 (dk_at dksX4_readsWay_5 0 rfl rfl)
theorem dX4_readsWay_118 : decode cX4_readsWay 118 = .ok (.aload_n 0, 1) := dk_42 (dk_at dksX4_readsWay_5 3 rfl rfl)
theorem dX4_readsWay_119 : decode cX4_readsWay 119 = .ok (.getfield 229, 3) := dk_180 0 229 (dk_at dksX4_readsWay_5 4 rfl rfl)
theorem dX4_readsWay_122 : decode cX4_readsWay 122 = .ok (.i2l, 1) := dk_133 (dk_at dksX4_readsWay_5 7 rfl rfl)
theorem dX4_readsWay_123 : decode cX4_readsWay 123 = .ok (.lconst 0, 1) := dk_9 (dk_at dksX4_readsWay_5 8 rfl rfl)
theorem dX4_readsWay_124 : decode cX4_readsWay 124 = .ok (.ldc2_w 276, 3) := dk_20 1 20 (dk_at dksX4_readsWay_5 9 rfl rfl)
theorem dX4_readsWay_127 : decode cX4_readsWay 127 = .ok (.invokestatic 140, 3) := dk_184 0 140 (dk_at dksX4_readsWay_5 12 rfl rfl)
theorem dX4_readsWay_130 : decode cX4_readsWay 130 = .ok (.ifCond .eq 36, 3) := dk_153 0 36 (dk_at dksX4_readsWay_5 15 rfl rfl)
theorem dX4_readsWay_133 : decode cX4_readsWay 133 = .ok (.iload_n 1, 1) := dk_27 (dk_at dksX4_readsWay_5 18 rfl rfl)
theorem dX4_readsWay_134 : decode cX4_readsWay 134 = .ok (.bipush 8, 2) := dk_16 8 (dk_at dksX4_readsWay_5 19 rfl rfl)
theorem dX4_readsWay_136 : decode cX4_readsWay 136 = .ok (.if_icmp .ne 8, 3) := dk_160 0 8 (dk_at dksX4_readsWay_5 21 rfl rfl)
theorem dX4_readsWay_139 : decode cX4_readsWay 139 = .ok (.aload_n 0, 1) := dk_42 (dk_at dksX4_readsWay_6 0 rfl rfl)
theorem dX4_readsWay_140 : decode cX4_readsWay 140 = .ok (.iconst 5, 1) := dk_8 (dk_at dksX4_readsWay_6 1 rfl rfl)
theorem dX4_readsWay_141 : decode cX4_readsWay 141 = .ok (.invokevirtual 264, 3) := dk_182 1 8 (dk_at dksX4_readsWay_6 2 rfl rfl)
theorem dX4_readsWay_144 : decode cX4_readsWay 144 = .ok (.aload_n 0, 1) := dk_42 (dk_at dksX4_readsWay_6 5 rfl rfl)
theorem dX4_readsWay_145 : decode cX4_readsWay 145 = .ok (.getfield 252, 3) := dk_180 0 252 (dk_at dksX4_readsWay_6 6 rfl rfl)
theorem dX4_readsWay_148 : decode cX4_readsWay 148 = .ok (.ifCond .ne 12, 3) := dk_154 0 12 (dk_at dksX4_readsWay_6 9 rfl rfl)
theorem dX4_readsWay_151 : decode cX4_readsWay 151 = .ok (.aload_n 0, 1) := dk_42 (dk_at dksX4_readsWay_6 12 rfl rfl)
theorem dX4_readsWay_152 : decode cX4_readsWay 152 = .ok (.aload_n 0, 1) := dk_42 (dk_at dksX4_readsWay_6 13 rfl rfl)
theorem dX4_readsWay_153 : decode cX4_readsWay 153 = .ok (.getfield 273, 3) := dk_180 1 17 (dk_at dksX4_readsWay_6 14 rfl rfl)
theorem dX4_readsWay_156 : decode cX4_readsWay 156 = .ok (.iload_n 1, 1) := dk_27 (dk_at dksX4_readsWay_6 17 rfl rfl)
theorem dX4_readsWay_157 : decode cX4_readsWay 157 = .ok (.invokevirtual 278, 3) := dk_182 1 22 (dk_at dksX4_readsWay_6 18 rfl rfl)
theorem dX4_readsWay_160 : decode cX4_readsWay 160 = .ok (.iinc 1 1, 3) := dk_132 1 1 (dk_at dksX4_readsWay_6 21 rfl rfl)
theorem dX4_readsWay_163 : decode cX4_readsWay 163 = .ok (.goto (-52), 3) := dk_167 255 204 (dk_at dksX4_readsWay_7 0 rfl rfl)
theorem dX4_readsWay_166 : decode cX4_readsWay 166 = .ok (.aload_n 0, 1) := dk_42 (dk_at dksX4_readsWay_7 3 rfl rfl)
theorem dX4_readsWay_167 : decode cX4_readsWay 167 = .ok (.bipush 14, 2) := dk_16 14 (dk_at dksX4_readsWay_7 4 rfl rfl)
theorem dX4_readsWay_169 : decode cX4_readsWay 169 = .ok (.invokevirtual 282, 3) := dk_182 1 26 (dk_at dksX4_readsWay_7 6 rfl rfl)
theorem dX4_readsWay_172 : decode cX4_readsWay 172 = .ok (.aload_n 0, 1) := dk_42 (dk_at dksX4_readsWay_7 9 rfl rfl)
theorem dX4_readsWay_173 : decode cX4_readsWay 173 = .ok (.getfield 54, 3) := dk_180 0 54 (dk_at dksX4_readsWay_7 10 rfl rfl)
theorem dX4_readsWay_176 : decode cX4_readsWay 176 = .ok (.bipush 8, 2) := dk_16 8 (dk_at dksX4_readsWay_7 13 rfl rfl)
theorem dX4_readsWay_178 : decode cX4_readsWay 178 = .ok (.aload_n 0, 1) := dk_42 (dk_at dksX4_readsWay_7 15 rfl rfl)
theorem dX4_readsWay_179 : decode cX4_readsWay 179 = .ok (.getfield 273, 3) := dk_180 1 17 (dk_at dksX4_readsWay_7 16 rfl rfl)
theorem dX4_readsWay_182 : decode cX4_readsWay 182 = .ok (.iadd, 1) := dk_96 (dk_at dksX4_readsWay_7 19 rfl rfl)
theorem dX4_readsWay_183 : decode cX4_readsWay 183 = .ok (.iload_n 1, 1) := dk_27 (dk_at dksX4_readsWay_7 20 rfl rfl)
theorem dX4_readsWay_184 : decode cX4_readsWay 184 = .ok (.iastore, 1) := dk_79 (dk_at dksX4_readsWay_7 21 rfl rfl)
theorem dX4_readsWay_185 : decode cX4_readsWay 185 = .ok (.aload_n 0, 1) := dk_42 (dk_at dksX4_readsWay_7 22 rfl rfl)
theorem dX4_readsWay_186 : decode cX4_readsWay 186 = .ok (.dup, 1) := dk_89 (dk_at dksX4_readsWay_7 23 rfl rfl)
theorem dX4_readsWay_187 : decode cX4_readsWay 187 = .ok (.getfield 273, 3) := dk_180 1 17 (dk_at dksX4_readsWay_8 0 rfl rfl)
theorem dX4_readsWay_190 : decode cX4_readsWay 190 = .ok (.iconst 1, 1) := dk_4 (dk_at dksX4_readsWay_8 3 rfl rfl)
theorem dX4_readsWay_191 : decode cX4_readsWay 191 = .ok (.iadd, 1) := dk_96 (dk_at dksX4_readsWay_8 4 rfl rfl)
theorem dX4_readsWay_192 : decode cX4_readsWay 192 = .ok (.putfield 273, 3) := dk_181 1 17 (dk_at dksX4_readsWay_8 5 rfl rfl)
theorem dX4_readsWay_195 : decode cX4_readsWay 195 = .ok (.return_, 1) := dk_177 (dk_at dksX4_readsWay_8 8 rfl rfl)
abbrev cX4_fails : ByteArray := prog_26_method_46_code
def yX4_fails : MethodName := ⟨RX4, "fails", "(I)V"⟩
def dkwX4_fails_1 : List UInt8 := [181, 0, 252, 42, 42, 180, 0, 220, 181, 0, 255, 177]
abbrev dktX4_fails_1 : List UInt8 := dkwX4_fails_1 ++ []
def dkwX4_fails_0 : List UInt8 := [42, 180, 0, 252, 153, 0, 4, 177, 42, 42, 180, 0, 229, 16, 16, 160, 0, 7, 4, 167, 0, 4, 27]
abbrev dktX4_fails_0 : List UInt8 := dkwX4_fails_0 ++ dktX4_fails_1
theorem dksX4_fails_0 : cX4_fails.data.toList.drop 0 = dktX4_fails_0 := by decide +kernel
theorem dksX4_fails_1 : cX4_fails.data.toList.drop 23 = dktX4_fails_1 := dk_seg dksX4_fails_0 23 rfl rfl
theorem dX4_fails_0 : decode cX4_fails 0 = .ok (.aload_n 0, 1) := dk_42 (dk_at dksX4_fails_0 0 rfl rfl)
theorem dX4_fails_1 : decode cX4_fails 1 = .ok (.getfield 252, 3) := dk_180 0 252 (dk_at dksX4_fails_0 1 rfl rfl)
theorem dX4_fails_4 : decode cX4_fails 4 = .ok (.ifCond .eq 4, 3) := dk_153 0 4 (dk_at dksX4_fails_0 4 rfl rfl)
theorem dX4_fails_7 : decode cX4_fails 7 = .ok (.return_, 1) := dk_177 (dk_at dksX4_fails_0 7 rfl rfl)
theorem dX4_fails_8 : decode cX4_fails 8 = .ok (.aload_n 0, 1) := dk_42 (dk_at dksX4_fails_0 8 rfl rfl)
theorem dX4_fails_9 : decode cX4_fails 9 = .ok (.aload_n 0, 1) := dk_42 (dk_at dksX4_fails_0 9 rfl rfl)
theorem dX4_fails_10 : decode cX4_fails 10 = .ok (.getfield 229, 3) := dk_180 0 229 (dk_at dksX4_fails_0 10 rfl rfl)
theorem dX4_fails_13 : decode cX4_fails 13 = .ok (.bipush 16, 2) := dk_16 16 (dk_at dksX4_fails_0 13 rfl rfl)
theorem dX4_fails_15 : decode cX4_fails 15 = .ok (.if_icmp .ne 7, 3) := dk_160 0 7 (dk_at dksX4_fails_0 15 rfl rfl)
theorem dX4_fails_18 : decode cX4_fails 18 = .ok (.iconst 1, 1) := dk_4 (dk_at dksX4_fails_0 18 rfl rfl)
theorem dX4_fails_19 : decode cX4_fails 19 = .ok (.goto 4, 3) := dk_167 0 4 (dk_at dksX4_fails_0 19 rfl rfl)
theorem dX4_fails_22 : decode cX4_fails 22 = .ok (.iload_n 1, 1) := dk_27 (dk_at dksX4_fails_0 22 rfl rfl)
theorem dX4_fails_23 : decode cX4_fails 23 = .ok (.putfield 252, 3) := dk_181 0 252 (dk_at dksX4_fails_1 0 rfl rfl)
theorem dX4_fails_26 : decode cX4_fails 26 = .ok (.aload_n 0, 1) := dk_42 (dk_at dksX4_fails_1 3 rfl rfl)
theorem dX4_fails_27 : decode cX4_fails 27 = .ok (.aload_n 0, 1) := dk_42 (dk_at dksX4_fails_1 4 rfl rfl)
theorem dX4_fails_28 : decode cX4_fails 28 = .ok (.getfield 220, 3) := dk_180 0 220 (dk_at dksX4_fails_1 5 rfl rfl)
theorem dX4_fails_31 : decode cX4_fails 31 = .ok (.putfield 255, 3) := dk_181 0 255 (dk_at dksX4_fails_1 8 rfl rfl)
theorem dX4_fails_34 : decode cX4_fails 34 = .ok (.return_, 1) := dk_177 (dk_at dksX4_fails_1 11 rfl rfl)
abbrev cX4_readsStep : ByteArray := prog_26_method_51_code
def yX4_readsStep : MethodName := ⟨RX4, "readsStep", "(II)V"⟩
def dkwX4_readsStep_5 : List UInt8 := [16, 6, 160, 0, 13, 42, 4, 16, 9, 182, 1, 14, 167, 0, 4, 3, 79, 177]
abbrev dktX4_readsStep_5 : List UInt8 := dkwX4_readsStep_5 ++ []
def dkwX4_readsStep_4 : List UInt8 := [182, 1, 14, 167, 0, 37, 21, 4, 6, 160, 0, 13, 42, 3, 16, 9, 182, 1, 14, 167, 0, 21, 21, 4]
abbrev dktX4_readsStep_4 : List UInt8 := dkwX4_readsStep_4 ++ dktX4_readsStep_5
def dkwX4_readsStep_3 : List UInt8 := [21, 4, 4, 159, 0, 16, 21, 4, 5, 159, 0, 10, 21, 4, 16, 7, 160, 0, 13, 42, 4, 16, 20]
abbrev dktX4_readsStep_3 : List UInt8 := dkwX4_readsStep_3 ++ dktX4_readsStep_4
def dkwX4_readsStep_2 : List UInt8 := [159, 0, 10, 21, 4, 16, 7, 160, 0, 10, 42, 182, 1, 11, 167, 0, 4, 3, 79, 42, 180, 0, 63, 29]
abbrev dktX4_readsStep_2 : List UInt8 := dkwX4_readsStep_2 ++ dktX4_readsStep_3
def dkwX4_readsStep_1 : List UInt8 := [29, 21, 4, 79, 42, 180, 0, 60, 29, 21, 4, 153, 0, 22, 21, 4, 4, 159, 0, 16, 21, 4, 8]
abbrev dktX4_readsStep_1 : List UInt8 := dkwX4_readsStep_1 ++ dktX4_readsStep_2
def dkwX4_readsStep_0 : List UInt8 := [16, 8, 27, 16, 8, 96, 104, 28, 96, 62, 42, 180, 0, 229, 54, 4, 42, 182, 1, 5, 42, 180, 0, 57]
abbrev dktX4_readsStep_0 : List UInt8 := dkwX4_readsStep_0 ++ dktX4_readsStep_1
theorem dksX4_readsStep_0 : cX4_readsStep.data.toList.drop 0 = dktX4_readsStep_0 := by decide +kernel
theorem dksX4_readsStep_1 : cX4_readsStep.data.toList.drop 24 = dktX4_readsStep_1 := dk_seg dksX4_readsStep_0 24 rfl rfl
theorem dksX4_readsStep_2 : cX4_readsStep.data.toList.drop 47 = dktX4_readsStep_2 := dk_seg dksX4_readsStep_1 23 rfl rfl
theorem dksX4_readsStep_3 : cX4_readsStep.data.toList.drop 71 = dktX4_readsStep_3 := dk_seg dksX4_readsStep_2 24 rfl rfl
theorem dksX4_readsStep_4 : cX4_readsStep.data.toList.drop 94 = dktX4_readsStep_4 := dk_seg dksX4_readsStep_3 23 rfl rfl
theorem dksX4_readsStep_5 : cX4_readsStep.data.toList.drop 118 = dktX4_readsStep_5 := dk_seg dksX4_readsStep_4 24 rfl rfl
theorem dX4_readsStep_0 : decode cX4_readsStep 0 = .ok (.bipush 8, 2) := dk_16 8 (dk_at dksX4_readsStep_0 0 rfl rfl)
theorem dX4_readsStep_2 : decode cX4_readsStep 2 = .ok (.iload_n 1, 1) := dk_27 (dk_at dksX4_readsStep_0 2 rfl rfl)
theorem dX4_readsStep_3 : decode cX4_readsStep 3 = .ok (.bipush 8, 2) := dk_16 8 (dk_at dksX4_readsStep_0 3 rfl rfl)
theorem dX4_readsStep_5 : decode cX4_readsStep 5 = .ok (.iadd, 1) := dk_96 (dk_at dksX4_readsStep_0 5 rfl rfl)
theorem dX4_readsStep_6 : decode cX4_readsStep 6 = .ok (.imul, 1) := dk_104 (dk_at dksX4_readsStep_0 6 rfl rfl)
theorem dX4_readsStep_7 : decode cX4_readsStep 7 = .ok (.iload_n 2, 1) := dk_28 (dk_at dksX4_readsStep_0 7 rfl rfl)
theorem dX4_readsStep_8 : decode cX4_readsStep 8 = .ok (.iadd, 1) := dk_96 (dk_at dksX4_readsStep_0 8 rfl rfl)
theorem dX4_readsStep_9 : decode cX4_readsStep 9 = .ok (.istore_n 3, 1) := dk_62 (dk_at dksX4_readsStep_0 9 rfl rfl)
theorem dX4_readsStep_10 : decode cX4_readsStep 10 = .ok (.aload_n 0, 1) := dk_42 (dk_at dksX4_readsStep_0 10 rfl rfl)
theorem dX4_readsStep_11 : decode cX4_readsStep 11 = .ok (.getfield 229, 3) := dk_180 0 229 (dk_at dksX4_readsStep_0 11 rfl rfl)
theorem dX4_readsStep_14 : decode cX4_readsStep 14 = .ok (.istore 4, 2) := dk_54 4 (dk_at dksX4_readsStep_0 14 rfl rfl)
theorem dX4_readsStep_16 : decode cX4_readsStep 16 = .ok (.aload_n 0, 1) := dk_42 (dk_at dksX4_readsStep_0 16 rfl rfl)
theorem dX4_readsStep_17 : decode cX4_readsStep 17 = .ok (.invokevirtual 261, 3) := dk_182 1 5 (dk_at dksX4_readsStep_0 17 rfl rfl)
theorem dX4_readsStep_20 : decode cX4_readsStep 20 = .ok (.aload_n 0, 1) := dk_42 (dk_at dksX4_readsStep_0 20 rfl rfl)
theorem dX4_readsStep_21 : decode cX4_readsStep 21 = .ok (.getfield 57, 3) := dk_180 0 57 (dk_at dksX4_readsStep_0 21 rfl rfl)
theorem dX4_readsStep_24 : decode cX4_readsStep 24 = .ok (.iload_n 3, 1) := dk_29 (dk_at dksX4_readsStep_1 0 rfl rfl)
theorem dX4_readsStep_25 : decode cX4_readsStep 25 = .ok (.iload 4, 2) := dk_21 4 (dk_at dksX4_readsStep_1 1 rfl rfl)
theorem dX4_readsStep_27 : decode cX4_readsStep 27 = .ok (.iastore, 1) := dk_79 (dk_at dksX4_readsStep_1 3 rfl rfl)
theorem dX4_readsStep_28 : decode cX4_readsStep 28 = .ok (.aload_n 0, 1) := dk_42 (dk_at dksX4_readsStep_1 4 rfl rfl)
theorem dX4_readsStep_29 : decode cX4_readsStep 29 = .ok (.getfield 60, 3) := dk_180 0 60 (dk_at dksX4_readsStep_1 5 rfl rfl)
theorem dX4_readsStep_32 : decode cX4_readsStep 32 = .ok (.iload_n 3, 1) := dk_29 (dk_at dksX4_readsStep_1 8 rfl rfl)
theorem dX4_readsStep_33 : decode cX4_readsStep 33 = .ok (.iload 4, 2) := dk_21 4 (dk_at dksX4_readsStep_1 9 rfl rfl)
theorem dX4_readsStep_35 : decode cX4_readsStep 35 = .ok (.ifCond .eq 22, 3) := dk_153 0 22 (dk_at dksX4_readsStep_1 11 rfl rfl)
theorem dX4_readsStep_38 : decode cX4_readsStep 38 = .ok (.iload 4, 2) := dk_21 4 (dk_at dksX4_readsStep_1 14 rfl rfl)
theorem dX4_readsStep_40 : decode cX4_readsStep 40 = .ok (.iconst 1, 1) := dk_4 (dk_at dksX4_readsStep_1 16 rfl rfl)
theorem dX4_readsStep_41 : decode cX4_readsStep 41 = .ok (.if_icmp .eq 16, 3) := dk_159 0 16 (dk_at dksX4_readsStep_1 17 rfl rfl)
theorem dX4_readsStep_44 : decode cX4_readsStep 44 = .ok (.iload 4, 2) := dk_21 4 (dk_at dksX4_readsStep_1 20 rfl rfl)
theorem dX4_readsStep_46 : decode cX4_readsStep 46 = .ok (.iconst 5, 1) := dk_8 (dk_at dksX4_readsStep_1 22 rfl rfl)
theorem dX4_readsStep_47 : decode cX4_readsStep 47 = .ok (.if_icmp .eq 10, 3) := dk_159 0 10 (dk_at dksX4_readsStep_2 0 rfl rfl)
theorem dX4_readsStep_50 : decode cX4_readsStep 50 = .ok (.iload 4, 2) := dk_21 4 (dk_at dksX4_readsStep_2 3 rfl rfl)
theorem dX4_readsStep_52 : decode cX4_readsStep 52 = .ok (.bipush 7, 2) := dk_16 7 (dk_at dksX4_readsStep_2 5 rfl rfl)
theorem dX4_readsStep_54 : decode cX4_readsStep 54 = .ok (.if_icmp .ne 10, 3) := dk_160 0 10 (dk_at dksX4_readsStep_2 7 rfl rfl)
theorem dX4_readsStep_57 : decode cX4_readsStep 57 = .ok (.aload_n 0, 1) := dk_42 (dk_at dksX4_readsStep_2 10 rfl rfl)
theorem dX4_readsStep_58 : decode cX4_readsStep 58 = .ok (.invokevirtual 267, 3) := dk_182 1 11 (dk_at dksX4_readsStep_2 11 rfl rfl)
theorem dX4_readsStep_61 : decode cX4_readsStep 61 = .ok (.goto 4, 3) := dk_167 0 4 (dk_at dksX4_readsStep_2 14 rfl rfl)
theorem dX4_readsStep_64 : decode cX4_readsStep 64 = .ok (.iconst 0, 1) := dk_3 (dk_at dksX4_readsStep_2 17 rfl rfl)
theorem dX4_readsStep_65 : decode cX4_readsStep 65 = .ok (.iastore, 1) := dk_79 (dk_at dksX4_readsStep_2 18 rfl rfl)
theorem dX4_readsStep_66 : decode cX4_readsStep 66 = .ok (.aload_n 0, 1) := dk_42 (dk_at dksX4_readsStep_2 19 rfl rfl)
theorem dX4_readsStep_67 : decode cX4_readsStep 67 = .ok (.getfield 63, 3) := dk_180 0 63 (dk_at dksX4_readsStep_2 20 rfl rfl)
theorem dX4_readsStep_70 : decode cX4_readsStep 70 = .ok (.iload_n 3, 1) := dk_29 (dk_at dksX4_readsStep_2 23 rfl rfl)
theorem dX4_readsStep_71 : decode cX4_readsStep 71 = .ok (.iload 4, 2) := dk_21 4 (dk_at dksX4_readsStep_3 0 rfl rfl)
theorem dX4_readsStep_73 : decode cX4_readsStep 73 = .ok (.iconst 1, 1) := dk_4 (dk_at dksX4_readsStep_3 2 rfl rfl)
theorem dX4_readsStep_74 : decode cX4_readsStep 74 = .ok (.if_icmp .eq 16, 3) := dk_159 0 16 (dk_at dksX4_readsStep_3 3 rfl rfl)
theorem dX4_readsStep_77 : decode cX4_readsStep 77 = .ok (.iload 4, 2) := dk_21 4 (dk_at dksX4_readsStep_3 6 rfl rfl)
theorem dX4_readsStep_79 : decode cX4_readsStep 79 = .ok (.iconst 2, 1) := dk_5 (dk_at dksX4_readsStep_3 8 rfl rfl)
theorem dX4_readsStep_80 : decode cX4_readsStep 80 = .ok (.if_icmp .eq 10, 3) := dk_159 0 10 (dk_at dksX4_readsStep_3 9 rfl rfl)
theorem dX4_readsStep_83 : decode cX4_readsStep 83 = .ok (.iload 4, 2) := dk_21 4 (dk_at dksX4_readsStep_3 12 rfl rfl)
theorem dX4_readsStep_85 : decode cX4_readsStep 85 = .ok (.bipush 7, 2) := dk_16 7 (dk_at dksX4_readsStep_3 14 rfl rfl)
theorem dX4_readsStep_87 : decode cX4_readsStep 87 = .ok (.if_icmp .ne 13, 3) := dk_160 0 13 (dk_at dksX4_readsStep_3 16 rfl rfl)
theorem dX4_readsStep_90 : decode cX4_readsStep 90 = .ok (.aload_n 0, 1) := dk_42 (dk_at dksX4_readsStep_3 19 rfl rfl)
theorem dX4_readsStep_91 : decode cX4_readsStep 91 = .ok (.iconst 1, 1) := dk_4 (dk_at dksX4_readsStep_3 20 rfl rfl)
theorem dX4_readsStep_92 : decode cX4_readsStep 92 = .ok (.bipush 20, 2) := dk_16 20 (dk_at dksX4_readsStep_3 21 rfl rfl)
theorem dX4_readsStep_94 : decode cX4_readsStep 94 = .ok (.invokevirtual 270, 3) := dk_182 1 14 (dk_at dksX4_readsStep_4 0 rfl rfl)
theorem dX4_readsStep_97 : decode cX4_readsStep 97 = .ok (.goto 37, 3) := dk_167 0 37 (dk_at dksX4_readsStep_4 3 rfl rfl)
theorem dX4_readsStep_100 : decode cX4_readsStep 100 = .ok (.iload 4, 2) := dk_21 4 (dk_at dksX4_readsStep_4 6 rfl rfl)
theorem dX4_readsStep_102 : decode cX4_readsStep 102 = .ok (.iconst 3, 1) := dk_6 (dk_at dksX4_readsStep_4 8 rfl rfl)
theorem dX4_readsStep_103 : decode cX4_readsStep 103 = .ok (.if_icmp .ne 13, 3) := dk_160 0 13 (dk_at dksX4_readsStep_4 9 rfl rfl)
theorem dX4_readsStep_106 : decode cX4_readsStep 106 = .ok (.aload_n 0, 1) := dk_42 (dk_at dksX4_readsStep_4 12 rfl rfl)
theorem dX4_readsStep_107 : decode cX4_readsStep 107 = .ok (.iconst 0, 1) := dk_3 (dk_at dksX4_readsStep_4 13 rfl rfl)
theorem dX4_readsStep_108 : decode cX4_readsStep 108 = .ok (.bipush 9, 2) := dk_16 9 (dk_at dksX4_readsStep_4 14 rfl rfl)
theorem dX4_readsStep_110 : decode cX4_readsStep 110 = .ok (.invokevirtual 270, 3) := dk_182 1 14 (dk_at dksX4_readsStep_4 16 rfl rfl)
theorem dX4_readsStep_113 : decode cX4_readsStep 113 = .ok (.goto 21, 3) := dk_167 0 21 (dk_at dksX4_readsStep_4 19 rfl rfl)
theorem dX4_readsStep_116 : decode cX4_readsStep 116 = .ok (.iload 4, 2) := dk_21 4 (dk_at dksX4_readsStep_4 22 rfl rfl)
theorem dX4_readsStep_118 : decode cX4_readsStep 118 = .ok (.bipush 6, 2) := dk_16 6 (dk_at dksX4_readsStep_5 0 rfl rfl)
theorem dX4_readsStep_120 : decode cX4_readsStep 120 = .ok (.if_icmp .ne 13, 3) := dk_160 0 13 (dk_at dksX4_readsStep_5 2 rfl rfl)
theorem dX4_readsStep_123 : decode cX4_readsStep 123 = .ok (.aload_n 0, 1) := dk_42 (dk_at dksX4_readsStep_5 5 rfl rfl)
theorem dX4_readsStep_124 : decode cX4_readsStep 124 = .ok (.iconst 1, 1) := dk_4 (dk_at dksX4_readsStep_5 6 rfl rfl)
theorem dX4_readsStep_125 : decode cX4_readsStep 125 = .ok (.bipush 9, 2) := dk_16 9 (dk_at dksX4_readsStep_5 7 rfl rfl)
theorem dX4_readsStep_127 : decode cX4_readsStep 127 = .ok (.invokevirtual 270, 3) := dk_182 1 14 (dk_at dksX4_readsStep_5 9 rfl rfl)
theorem dX4_readsStep_130 : decode cX4_readsStep 130 = .ok (.goto 4, 3) := dk_167 0 4 (dk_at dksX4_readsStep_5 12 rfl rfl)
theorem dX4_readsStep_133 : decode cX4_readsStep 133 = .ok (.iconst 0, 1) := dk_3 (dk_at dksX4_readsStep_5 15 rfl rfl)
theorem dX4_readsStep_134 : decode cX4_readsStep 134 = .ok (.iastore, 1) := dk_79 (dk_at dksX4_readsStep_5 16 rfl rfl)
theorem dX4_readsStep_135 : decode cX4_readsStep 135 = .ok (.return_, 1) := dk_177 (dk_at dksX4_readsStep_5 17 rfl rfl)
abbrev cX4_readsSide : ByteArray := prog_26_method_50_code
def yX4_readsSide : MethodName := ⟨RX4, "readsSide", "()I"⟩
def dkwX4_readsSide_1 : List UInt8 := [42, 16, 11, 182, 1, 2, 153, 0, 10, 42, 182, 1, 5, 167, 0, 8, 42, 5, 182, 1, 8, 27, 172]
abbrev dktX4_readsSide_1 : List UInt8 := dkwX4_readsSide_1 ++ []
def dkwX4_readsSide_0 : List UInt8 := [42, 16, 11, 182, 1, 2, 153, 0, 7, 4, 167, 0, 4, 3, 60, 42, 16, 10, 182, 1, 2, 154, 0, 12]
abbrev dktX4_readsSide_0 : List UInt8 := dkwX4_readsSide_0 ++ dktX4_readsSide_1
theorem dksX4_readsSide_0 : cX4_readsSide.data.toList.drop 0 = dktX4_readsSide_0 := by decide +kernel
theorem dksX4_readsSide_1 : cX4_readsSide.data.toList.drop 24 = dktX4_readsSide_1 := dk_seg dksX4_readsSide_0 24 rfl rfl
theorem dX4_readsSide_0 : decode cX4_readsSide 0 = .ok (.aload_n 0, 1) := dk_42 (dk_at dksX4_readsSide_0 0 rfl rfl)
theorem dX4_readsSide_1 : decode cX4_readsSide 1 = .ok (.bipush 11, 2) := dk_16 11 (dk_at dksX4_readsSide_0 1 rfl rfl)
theorem dX4_readsSide_3 : decode cX4_readsSide 3 = .ok (.invokevirtual 258, 3) := dk_182 1 2 (dk_at dksX4_readsSide_0 3 rfl rfl)
theorem dX4_readsSide_6 : decode cX4_readsSide 6 = .ok (.ifCond .eq 7, 3) := dk_153 0 7 (dk_at dksX4_readsSide_0 6 rfl rfl)
theorem dX4_readsSide_9 : decode cX4_readsSide 9 = .ok (.iconst 1, 1) := dk_4 (dk_at dksX4_readsSide_0 9 rfl rfl)
theorem dX4_readsSide_10 : decode cX4_readsSide 10 = .ok (.goto 4, 3) := dk_167 0 4 (dk_at dksX4_readsSide_0 10 rfl rfl)
theorem dX4_readsSide_13 : decode cX4_readsSide 13 = .ok (.iconst 0, 1) := dk_3 (dk_at dksX4_readsSide_0 13 rfl rfl)
theorem dX4_readsSide_14 : decode cX4_readsSide 14 = .ok (.istore_n 1, 1) := dk_60 (dk_at dksX4_readsSide_0 14 rfl rfl)
theorem dX4_readsSide_15 : decode cX4_readsSide 15 = .ok (.aload_n 0, 1) := dk_42 (dk_at dksX4_readsSide_0 15 rfl rfl)
theorem dX4_readsSide_16 : decode cX4_readsSide 16 = .ok (.bipush 10, 2) := dk_16 10 (dk_at dksX4_readsSide_0 16 rfl rfl)
theorem dX4_readsSide_18 : decode cX4_readsSide 18 = .ok (.invokevirtual 258, 3) := dk_182 1 2 (dk_at dksX4_readsSide_0 18 rfl rfl)
theorem dX4_readsSide_21 : decode cX4_readsSide 21 = .ok (.ifCond .ne 12, 3) := dk_154 0 12 (dk_at dksX4_readsSide_0 21 rfl rfl)
theorem dX4_readsSide_24 : decode cX4_readsSide 24 = .ok (.aload_n 0, 1) := dk_42 (dk_at dksX4_readsSide_1 0 rfl rfl)
theorem dX4_readsSide_25 : decode cX4_readsSide 25 = .ok (.bipush 11, 2) := dk_16 11 (dk_at dksX4_readsSide_1 1 rfl rfl)
theorem dX4_readsSide_27 : decode cX4_readsSide 27 = .ok (.invokevirtual 258, 3) := dk_182 1 2 (dk_at dksX4_readsSide_1 3 rfl rfl)
theorem dX4_readsSide_30 : decode cX4_readsSide 30 = .ok (.ifCond .eq 10, 3) := dk_153 0 10 (dk_at dksX4_readsSide_1 6 rfl rfl)
theorem dX4_readsSide_33 : decode cX4_readsSide 33 = .ok (.aload_n 0, 1) := dk_42 (dk_at dksX4_readsSide_1 9 rfl rfl)
theorem dX4_readsSide_34 : decode cX4_readsSide 34 = .ok (.invokevirtual 261, 3) := dk_182 1 5 (dk_at dksX4_readsSide_1 10 rfl rfl)
theorem dX4_readsSide_37 : decode cX4_readsSide 37 = .ok (.goto 8, 3) := dk_167 0 8 (dk_at dksX4_readsSide_1 13 rfl rfl)
theorem dX4_readsSide_40 : decode cX4_readsSide 40 = .ok (.aload_n 0, 1) := dk_42 (dk_at dksX4_readsSide_1 16 rfl rfl)
theorem dX4_readsSide_41 : decode cX4_readsSide 41 = .ok (.iconst 2, 1) := dk_5 (dk_at dksX4_readsSide_1 17 rfl rfl)
theorem dX4_readsSide_42 : decode cX4_readsSide 42 = .ok (.invokevirtual 264, 3) := dk_182 1 8 (dk_at dksX4_readsSide_1 18 rfl rfl)
theorem dX4_readsSide_45 : decode cX4_readsSide 45 = .ok (.iload_n 1, 1) := dk_27 (dk_at dksX4_readsSide_1 21 rfl rfl)
theorem dX4_readsSide_46 : decode cX4_readsSide 46 = .ok (.ireturn, 1) := dk_172 (dk_at dksX4_readsSide_1 22 rfl rfl)
abbrev cX4_reads : ByteArray := prog_26_method_49_code
def yX4_reads : MethodName := ⟨RX4, "reads", "(II)I"⟩
def dkwX4_reads_2 : List UInt8 := [154, 0, 7, 42, 182, 1, 5, 29, 172]
abbrev dktX4_reads_2 : List UInt8 := dkwX4_reads_2 ++ []
def dkwX4_reads_1 : List UInt8 := [28, 133, 184, 0, 140, 154, 0, 8, 42, 6, 182, 1, 8, 42, 180, 0, 249, 62, 42, 180, 0, 252]
abbrev dktX4_reads_1 : List UInt8 := dkwX4_reads_1 ++ dktX4_reads_2
def dkwX4_reads_0 : List UInt8 := [42, 16, 13, 182, 1, 2, 154, 0, 11, 42, 5, 182, 1, 8, 167, 0, 23, 42, 180, 0, 249, 133, 27, 133]
abbrev dktX4_reads_0 : List UInt8 := dkwX4_reads_0 ++ dktX4_reads_1
theorem dksX4_reads_0 : cX4_reads.data.toList.drop 0 = dktX4_reads_0 := by decide +kernel
theorem dksX4_reads_1 : cX4_reads.data.toList.drop 24 = dktX4_reads_1 := dk_seg dksX4_reads_0 24 rfl rfl
theorem dksX4_reads_2 : cX4_reads.data.toList.drop 46 = dktX4_reads_2 := dk_seg dksX4_reads_1 22 rfl rfl
theorem dX4_reads_0 : decode cX4_reads 0 = .ok (.aload_n 0, 1) := dk_42 (dk_at dksX4_reads_0 0 rfl rfl)
theorem dX4_reads_1 : decode cX4_reads 1 = .ok (.bipush 13, 2) := dk_16 13 (dk_at dksX4_reads_0 1 rfl rfl)
theorem dX4_reads_3 : decode cX4_reads 3 = .ok (.invokevirtual 258, 3) := dk_182 1 2 (dk_at dksX4_reads_0 3 rfl rfl)
theorem dX4_reads_6 : decode cX4_reads 6 = .ok (.ifCond .ne 11, 3) := dk_154 0 11 (dk_at dksX4_reads_0 6 rfl rfl)
theorem dX4_reads_9 : decode cX4_reads 9 = .ok (.aload_n 0, 1) := dk_42 (dk_at dksX4_reads_0 9 rfl rfl)
theorem dX4_reads_10 : decode cX4_reads 10 = .ok (.iconst 2, 1) := dk_5 (dk_at dksX4_reads_0 10 rfl rfl)
theorem dX4_reads_11 : decode cX4_reads 11 = .ok (.invokevirtual 264, 3) := dk_182 1 8 (dk_at dksX4_reads_0 11 rfl rfl)
theorem dX4_reads_14 : decode cX4_reads 14 = .ok (.goto 23, 3) := dk_167 0 23 (dk_at dksX4_reads_0 14 rfl rfl)
theorem dX4_reads_17 : decode cX4_reads 17 = .ok (.aload_n 0, 1) := dk_42 (dk_at dksX4_reads_0 17 rfl rfl)
theorem dX4_reads_18 : decode cX4_reads 18 = .ok (.getfield 249, 3) := dk_180 0 249 (dk_at dksX4_reads_0 18 rfl rfl)
theorem dX4_reads_21 : decode cX4_reads 21 = .ok (.i2l, 1) := dk_133 (dk_at dksX4_reads_0 21 rfl rfl)
theorem dX4_reads_22 : decode cX4_reads 22 = .ok (.iload_n 1, 1) := dk_27 (dk_at dksX4_reads_0 22 rfl rfl)
theorem dX4_reads_23 : decode cX4_reads 23 = .ok (.i2l, 1) := dk_133 (dk_at dksX4_reads_0 23 rfl rfl)
theorem dX4_reads_24 : decode cX4_reads 24 = .ok (.iload_n 2, 1) := dk_28 (dk_at dksX4_reads_1 0 rfl rfl)
theorem dX4_reads_25 : decode cX4_reads 25 = .ok (.i2l, 1) := dk_133 (dk_at dksX4_reads_1 1 rfl rfl)
theorem dX4_reads_26 : decode cX4_reads 26 = .ok (.invokestatic 140, 3) := dk_184 0 140 (dk_at dksX4_reads_1 2 rfl rfl)
theorem dX4_reads_29 : decode cX4_reads 29 = .ok (.ifCond .ne 8, 3) := dk_154 0 8 (dk_at dksX4_reads_1 5 rfl rfl)
theorem dX4_reads_32 : decode cX4_reads 32 = .ok (.aload_n 0, 1) := dk_42 (dk_at dksX4_reads_1 8 rfl rfl)
theorem dX4_reads_33 : decode cX4_reads 33 = .ok (.iconst 3, 1) := dk_6 (dk_at dksX4_reads_1 9 rfl rfl)
theorem dX4_reads_34 : decode cX4_reads 34 = .ok (.invokevirtual 264, 3) := dk_182 1 8 (dk_at dksX4_reads_1 10 rfl rfl)
theorem dX4_reads_37 : decode cX4_reads 37 = .ok (.aload_n 0, 1) := dk_42 (dk_at dksX4_reads_1 13 rfl rfl)
theorem dX4_reads_38 : decode cX4_reads 38 = .ok (.getfield 249, 3) := dk_180 0 249 (dk_at dksX4_reads_1 14 rfl rfl)
theorem dX4_reads_41 : decode cX4_reads 41 = .ok (.istore_n 3, 1) := dk_62 (dk_at dksX4_reads_1 17 rfl rfl)
theorem dX4_reads_42 : decode cX4_reads 42 = .ok (.aload_n 0, 1) := dk_42 (dk_at dksX4_reads_1 18 rfl rfl)
theorem dX4_reads_43 : decode cX4_reads 43 = .ok (.getfield 252, 3) := dk_180 0 252 (dk_at dksX4_reads_1 19 rfl rfl)
theorem dX4_reads_46 : decode cX4_reads 46 = .ok (.ifCond .ne 7, 3) := dk_154 0 7 (dk_at dksX4_reads_2 0 rfl rfl)
theorem dX4_reads_49 : decode cX4_reads 49 = .ok (.aload_n 0, 1) := dk_42 (dk_at dksX4_reads_2 3 rfl rfl)
theorem dX4_reads_50 : decode cX4_reads 50 = .ok (.invokevirtual 261, 3) := dk_182 1 5 (dk_at dksX4_reads_2 4 rfl rfl)
theorem dX4_reads_53 : decode cX4_reads 53 = .ok (.iload_n 3, 1) := dk_29 (dk_at dksX4_reads_2 7 rfl rfl)
theorem dX4_reads_54 : decode cX4_reads 54 = .ok (.ireturn, 1) := dk_172 (dk_at dksX4_reads_2 8 rfl rfl)
abbrev cX4_needs : ByteArray := prog_26_method_48_code
def yX4_needs : MethodName := ⟨RX4, "needs", "(I)V"⟩
def dkwX4_needs_0 : List UInt8 := [42, 27, 182, 1, 2, 153, 0, 10, 42, 182, 1, 5, 167, 0, 8, 42, 5, 182, 1, 8, 177]
abbrev dktX4_needs_0 : List UInt8 := dkwX4_needs_0 ++ []
theorem dksX4_needs_0 : cX4_needs.data.toList.drop 0 = dktX4_needs_0 := by decide +kernel
theorem dX4_needs_0 : decode cX4_needs 0 = .ok (.aload_n 0, 1) := dk_42 (dk_at dksX4_needs_0 0 rfl rfl)
theorem dX4_needs_1 : decode cX4_needs 1 = .ok (.iload_n 1, 1) := dk_27 (dk_at dksX4_needs_0 1 rfl rfl)
theorem dX4_needs_2 : decode cX4_needs 2 = .ok (.invokevirtual 258, 3) := dk_182 1 2 (dk_at dksX4_needs_0 2 rfl rfl)
theorem dX4_needs_5 : decode cX4_needs 5 = .ok (.ifCond .eq 10, 3) := dk_153 0 10 (dk_at dksX4_needs_0 5 rfl rfl)
theorem dX4_needs_8 : decode cX4_needs 8 = .ok (.aload_n 0, 1) := dk_42 (dk_at dksX4_needs_0 8 rfl rfl)
theorem dX4_needs_9 : decode cX4_needs 9 = .ok (.invokevirtual 261, 3) := dk_182 1 5 (dk_at dksX4_needs_0 9 rfl rfl)
theorem dX4_needs_12 : decode cX4_needs 12 = .ok (.goto 8, 3) := dk_167 0 8 (dk_at dksX4_needs_0 12 rfl rfl)
theorem dX4_needs_15 : decode cX4_needs 15 = .ok (.aload_n 0, 1) := dk_42 (dk_at dksX4_needs_0 15 rfl rfl)
theorem dX4_needs_16 : decode cX4_needs 16 = .ok (.iconst 2, 1) := dk_5 (dk_at dksX4_needs_0 16 rfl rfl)
theorem dX4_needs_17 : decode cX4_needs 17 = .ok (.invokevirtual 264, 3) := dk_182 1 8 (dk_at dksX4_needs_0 17 rfl rfl)
theorem dX4_needs_20 : decode cX4_needs 20 = .ok (.return_, 1) := dk_177 (dk_at dksX4_needs_0 20 rfl rfl)
abbrev cX4_fault : ByteArray := prog_26_method_54_code
def yX4_fault : MethodName := ⟨RX4, "fault", "(I)I"⟩
def dkwX4_fault_1 : List UInt8 := [180, 0, 70, 167, 0, 4, 2, 172]
abbrev dktX4_fault_1 : List UInt8 := dkwX4_fault_1 ++ []
def dkwX4_fault_0 : List UInt8 := [42, 3, 181, 0, 1, 27, 154, 0, 10, 42, 180, 1, 38, 167, 0, 16, 27, 4, 160, 0, 10, 42]
abbrev dktX4_fault_0 : List UInt8 := dkwX4_fault_0 ++ dktX4_fault_1
theorem dksX4_fault_0 : cX4_fault.data.toList.drop 0 = dktX4_fault_0 := by decide +kernel
theorem dksX4_fault_1 : cX4_fault.data.toList.drop 22 = dktX4_fault_1 := dk_seg dksX4_fault_0 22 rfl rfl
theorem dX4_fault_0 : decode cX4_fault 0 = .ok (.aload_n 0, 1) := dk_42 (dk_at dksX4_fault_0 0 rfl rfl)
theorem dX4_fault_1 : decode cX4_fault 1 = .ok (.iconst 0, 1) := dk_3 (dk_at dksX4_fault_0 1 rfl rfl)
theorem dX4_fault_2 : decode cX4_fault 2 = .ok (.putfield 1, 3) := dk_181 0 1 (dk_at dksX4_fault_0 2 rfl rfl)
theorem dX4_fault_5 : decode cX4_fault 5 = .ok (.iload_n 1, 1) := dk_27 (dk_at dksX4_fault_0 5 rfl rfl)
theorem dX4_fault_6 : decode cX4_fault 6 = .ok (.ifCond .ne 10, 3) := dk_154 0 10 (dk_at dksX4_fault_0 6 rfl rfl)
theorem dX4_fault_9 : decode cX4_fault 9 = .ok (.aload_n 0, 1) := dk_42 (dk_at dksX4_fault_0 9 rfl rfl)
theorem dX4_fault_10 : decode cX4_fault 10 = .ok (.getfield 294, 3) := dk_180 1 38 (dk_at dksX4_fault_0 10 rfl rfl)
theorem dX4_fault_13 : decode cX4_fault 13 = .ok (.goto 16, 3) := dk_167 0 16 (dk_at dksX4_fault_0 13 rfl rfl)
theorem dX4_fault_16 : decode cX4_fault 16 = .ok (.iload_n 1, 1) := dk_27 (dk_at dksX4_fault_0 16 rfl rfl)
theorem dX4_fault_17 : decode cX4_fault 17 = .ok (.iconst 1, 1) := dk_4 (dk_at dksX4_fault_0 17 rfl rfl)
theorem dX4_fault_18 : decode cX4_fault 18 = .ok (.if_icmp .ne 10, 3) := dk_160 0 10 (dk_at dksX4_fault_0 18 rfl rfl)
theorem dX4_fault_21 : decode cX4_fault 21 = .ok (.aload_n 0, 1) := dk_42 (dk_at dksX4_fault_0 21 rfl rfl)
theorem dX4_fault_22 : decode cX4_fault 22 = .ok (.getfield 70, 3) := dk_180 0 70 (dk_at dksX4_fault_1 0 rfl rfl)
theorem dX4_fault_25 : decode cX4_fault 25 = .ok (.goto 4, 3) := dk_167 0 4 (dk_at dksX4_fault_1 3 rfl rfl)
theorem dX4_fault_28 : decode cX4_fault 28 = .ok (.iconst (-1), 1) := dk_2 (dk_at dksX4_fault_1 6 rfl rfl)
theorem dX4_fault_29 : decode cX4_fault 29 = .ok (.ireturn, 1) := dk_172 (dk_at dksX4_fault_1 7 rfl rfl)
abbrev cX4_way : ByteArray := prog_26_method_56_code
def yX4_way : MethodName := ⟨RX4, "way", "(II)I"⟩
def dkwX4_way_2 : List UInt8 := [182, 1, 50, 167, 0, 4, 2, 172]
abbrev dktX4_way_2 : List UInt8 := dkwX4_way_2 ++ []
def dkwX4_way_1 : List UInt8 := [167, 0, 30, 28, 154, 0, 12, 42, 180, 0, 54, 27, 46, 167, 0, 17, 28, 4, 160, 0, 11, 42, 27]
abbrev dktX4_way_1 : List UInt8 := dkwX4_way_1 ++ dktX4_way_2
def dkwX4_way_0 : List UInt8 := [42, 3, 181, 0, 1, 27, 133, 9, 42, 180, 1, 41, 4, 100, 133, 184, 0, 140, 154, 0, 7, 2]
abbrev dktX4_way_0 : List UInt8 := dkwX4_way_0 ++ dktX4_way_1
theorem dksX4_way_0 : cX4_way.data.toList.drop 0 = dktX4_way_0 := by decide +kernel
theorem dksX4_way_1 : cX4_way.data.toList.drop 22 = dktX4_way_1 := dk_seg dksX4_way_0 22 rfl rfl
theorem dksX4_way_2 : cX4_way.data.toList.drop 45 = dktX4_way_2 := dk_seg dksX4_way_1 23 rfl rfl
theorem dX4_way_0 : decode cX4_way 0 = .ok (.aload_n 0, 1) := dk_42 (dk_at dksX4_way_0 0 rfl rfl)
theorem dX4_way_1 : decode cX4_way 1 = .ok (.iconst 0, 1) := dk_3 (dk_at dksX4_way_0 1 rfl rfl)
theorem dX4_way_2 : decode cX4_way 2 = .ok (.putfield 1, 3) := dk_181 0 1 (dk_at dksX4_way_0 2 rfl rfl)
theorem dX4_way_5 : decode cX4_way 5 = .ok (.iload_n 1, 1) := dk_27 (dk_at dksX4_way_0 5 rfl rfl)
theorem dX4_way_6 : decode cX4_way 6 = .ok (.i2l, 1) := dk_133 (dk_at dksX4_way_0 6 rfl rfl)
theorem dX4_way_7 : decode cX4_way 7 = .ok (.lconst 0, 1) := dk_9 (dk_at dksX4_way_0 7 rfl rfl)
theorem dX4_way_8 : decode cX4_way 8 = .ok (.aload_n 0, 1) := dk_42 (dk_at dksX4_way_0 8 rfl rfl)
theorem dX4_way_9 : decode cX4_way 9 = .ok (.getfield 297, 3) := dk_180 1 41 (dk_at dksX4_way_0 9 rfl rfl)
theorem dX4_way_12 : decode cX4_way 12 = .ok (.iconst 1, 1) := dk_4 (dk_at dksX4_way_0 12 rfl rfl)
theorem dX4_way_13 : decode cX4_way 13 = .ok (.isub, 1) := dk_100 (dk_at dksX4_way_0 13 rfl rfl)
theorem dX4_way_14 : decode cX4_way 14 = .ok (.i2l, 1) := dk_133 (dk_at dksX4_way_0 14 rfl rfl)
theorem dX4_way_15 : decode cX4_way 15 = .ok (.invokestatic 140, 3) := dk_184 0 140 (dk_at dksX4_way_0 15 rfl rfl)
theorem dX4_way_18 : decode cX4_way 18 = .ok (.ifCond .ne 7, 3) := dk_154 0 7 (dk_at dksX4_way_0 18 rfl rfl)
theorem dX4_way_21 : decode cX4_way 21 = .ok (.iconst (-1), 1) := dk_2 (dk_at dksX4_way_0 21 rfl rfl)
theorem dX4_way_22 : decode cX4_way 22 = .ok (.goto 30, 3) := dk_167 0 30 (dk_at dksX4_way_1 0 rfl rfl)
theorem dX4_way_25 : decode cX4_way 25 = .ok (.iload_n 2, 1) := dk_28 (dk_at dksX4_way_1 3 rfl rfl)
theorem dX4_way_26 : decode cX4_way 26 = .ok (.ifCond .ne 12, 3) := dk_154 0 12 (dk_at dksX4_way_1 4 rfl rfl)
theorem dX4_way_29 : decode cX4_way 29 = .ok (.aload_n 0, 1) := dk_42 (dk_at dksX4_way_1 7 rfl rfl)
theorem dX4_way_30 : decode cX4_way 30 = .ok (.getfield 54, 3) := dk_180 0 54 (dk_at dksX4_way_1 8 rfl rfl)
theorem dX4_way_33 : decode cX4_way 33 = .ok (.iload_n 1, 1) := dk_27 (dk_at dksX4_way_1 11 rfl rfl)
theorem dX4_way_34 : decode cX4_way 34 = .ok (.iaload, 1) := dk_46 (dk_at dksX4_way_1 12 rfl rfl)
theorem dX4_way_35 : decode cX4_way 35 = .ok (.goto 17, 3) := dk_167 0 17 (dk_at dksX4_way_1 13 rfl rfl)
theorem dX4_way_38 : decode cX4_way 38 = .ok (.iload_n 2, 1) := dk_28 (dk_at dksX4_way_1 16 rfl rfl)
theorem dX4_way_39 : decode cX4_way 39 = .ok (.iconst 1, 1) := dk_4 (dk_at dksX4_way_1 17 rfl rfl)
theorem dX4_way_40 : decode cX4_way 40 = .ok (.if_icmp .ne 11, 3) := dk_160 0 11 (dk_at dksX4_way_1 18 rfl rfl)
theorem dX4_way_43 : decode cX4_way 43 = .ok (.aload_n 0, 1) := dk_42 (dk_at dksX4_way_1 21 rfl rfl)
theorem dX4_way_44 : decode cX4_way 44 = .ok (.iload_n 1, 1) := dk_27 (dk_at dksX4_way_1 22 rfl rfl)
theorem dX4_way_45 : decode cX4_way 45 = .ok (.invokevirtual 306, 3) := dk_182 1 50 (dk_at dksX4_way_2 0 rfl rfl)
theorem dX4_way_48 : decode cX4_way 48 = .ok (.goto 4, 3) := dk_167 0 4 (dk_at dksX4_way_2 3 rfl rfl)
theorem dX4_way_51 : decode cX4_way 51 = .ok (.iconst (-1), 1) := dk_2 (dk_at dksX4_way_2 6 rfl rfl)
theorem dX4_way_52 : decode cX4_way 52 = .ok (.ireturn, 1) := dk_172 (dk_at dksX4_way_2 7 rfl rfl)
abbrev cX4_takes : ByteArray := prog_26_method_55_code
def yX4_takes : MethodName := ⟨RX4, "takes", "(I)I"⟩
def dkwX4_takes_2 : List UInt8 := [46, 167, 0, 4, 3, 96, 61, 132, 3, 1, 167, 255, 205, 28, 172]
abbrev dktX4_takes_2 : List UInt8 := dkwX4_takes_2 ++ []
def dkwX4_takes_1 : List UInt8 := [180, 0, 57, 29, 46, 4, 159, 0, 13, 42, 180, 0, 57, 29, 46, 5, 160, 0, 12, 42, 180, 0, 63, 29]
abbrev dktX4_takes_1 : List UInt8 := dkwX4_takes_1 ++ dktX4_takes_2
def dkwX4_takes_0 : List UInt8 := [3, 61, 16, 8, 27, 104, 62, 29, 16, 8, 27, 104, 42, 180, 0, 54, 27, 46, 96, 162, 0, 42, 28, 42]
abbrev dktX4_takes_0 : List UInt8 := dkwX4_takes_0 ++ dktX4_takes_1
theorem dksX4_takes_0 : cX4_takes.data.toList.drop 0 = dktX4_takes_0 := by decide +kernel
theorem dksX4_takes_1 : cX4_takes.data.toList.drop 24 = dktX4_takes_1 := dk_seg dksX4_takes_0 24 rfl rfl
theorem dksX4_takes_2 : cX4_takes.data.toList.drop 48 = dktX4_takes_2 := dk_seg dksX4_takes_1 24 rfl rfl
theorem dX4_takes_0 : decode cX4_takes 0 = .ok (.iconst 0, 1) := dk_3 (dk_at dksX4_takes_0 0 rfl rfl)
theorem dX4_takes_1 : decode cX4_takes 1 = .ok (.istore_n 2, 1) := dk_61 (dk_at dksX4_takes_0 1 rfl rfl)
theorem dX4_takes_2 : decode cX4_takes 2 = .ok (.bipush 8, 2) := dk_16 8 (dk_at dksX4_takes_0 2 rfl rfl)
theorem dX4_takes_4 : decode cX4_takes 4 = .ok (.iload_n 1, 1) := dk_27 (dk_at dksX4_takes_0 4 rfl rfl)
theorem dX4_takes_5 : decode cX4_takes 5 = .ok (.imul, 1) := dk_104 (dk_at dksX4_takes_0 5 rfl rfl)
theorem dX4_takes_6 : decode cX4_takes 6 = .ok (.istore_n 3, 1) := dk_62 (dk_at dksX4_takes_0 6 rfl rfl)
theorem dX4_takes_7 : decode cX4_takes 7 = .ok (.iload_n 3, 1) := dk_29 (dk_at dksX4_takes_0 7 rfl rfl)
theorem dX4_takes_8 : decode cX4_takes 8 = .ok (.bipush 8, 2) := dk_16 8 (dk_at dksX4_takes_0 8 rfl rfl)
theorem dX4_takes_10 : decode cX4_takes 10 = .ok (.iload_n 1, 1) := dk_27 (dk_at dksX4_takes_0 10 rfl rfl)
theorem dX4_takes_11 : decode cX4_takes 11 = .ok (.imul, 1) := dk_104 (dk_at dksX4_takes_0 11 rfl rfl)
theorem dX4_takes_12 : decode cX4_takes 12 = .ok (.aload_n 0, 1) := dk_42 (dk_at dksX4_takes_0 12 rfl rfl)
theorem dX4_takes_13 : decode cX4_takes 13 = .ok (.getfield 54, 3) := dk_180 0 54 (dk_at dksX4_takes_0 13 rfl rfl)
theorem dX4_takes_16 : decode cX4_takes 16 = .ok (.iload_n 1, 1) := dk_27 (dk_at dksX4_takes_0 16 rfl rfl)
theorem dX4_takes_17 : decode cX4_takes 17 = .ok (.iaload, 1) := dk_46 (dk_at dksX4_takes_0 17 rfl rfl)
theorem dX4_takes_18 : decode cX4_takes 18 = .ok (.iadd, 1) := dk_96 (dk_at dksX4_takes_0 18 rfl rfl)
theorem dX4_takes_19 : decode cX4_takes 19 = .ok (.if_icmp .ge 42, 3) := dk_162 0 42 (dk_at dksX4_takes_0 19 rfl rfl)
theorem dX4_takes_22 : decode cX4_takes 22 = .ok (.iload_n 2, 1) := dk_28 (dk_at dksX4_takes_0 22 rfl rfl)
theorem dX4_takes_23 : decode cX4_takes 23 = .ok (.aload_n 0, 1) := dk_42 (dk_at dksX4_takes_0 23 rfl rfl)
theorem dX4_takes_24 : decode cX4_takes 24 = .ok (.getfield 57, 3) := dk_180 0 57 (dk_at dksX4_takes_1 0 rfl rfl)
theorem dX4_takes_27 : decode cX4_takes 27 = .ok (.iload_n 3, 1) := dk_29 (dk_at dksX4_takes_1 3 rfl rfl)
theorem dX4_takes_28 : decode cX4_takes 28 = .ok (.iaload, 1) := dk_46 (dk_at dksX4_takes_1 4 rfl rfl)
theorem dX4_takes_29 : decode cX4_takes 29 = .ok (.iconst 1, 1) := dk_4 (dk_at dksX4_takes_1 5 rfl rfl)
theorem dX4_takes_30 : decode cX4_takes 30 = .ok (.if_icmp .eq 13, 3) := dk_159 0 13 (dk_at dksX4_takes_1 6 rfl rfl)
theorem dX4_takes_33 : decode cX4_takes 33 = .ok (.aload_n 0, 1) := dk_42 (dk_at dksX4_takes_1 9 rfl rfl)
theorem dX4_takes_34 : decode cX4_takes 34 = .ok (.getfield 57, 3) := dk_180 0 57 (dk_at dksX4_takes_1 10 rfl rfl)
theorem dX4_takes_37 : decode cX4_takes 37 = .ok (.iload_n 3, 1) := dk_29 (dk_at dksX4_takes_1 13 rfl rfl)
theorem dX4_takes_38 : decode cX4_takes 38 = .ok (.iaload, 1) := dk_46 (dk_at dksX4_takes_1 14 rfl rfl)
theorem dX4_takes_39 : decode cX4_takes 39 = .ok (.iconst 2, 1) := dk_5 (dk_at dksX4_takes_1 15 rfl rfl)
theorem dX4_takes_40 : decode cX4_takes 40 = .ok (.if_icmp .ne 12, 3) := dk_160 0 12 (dk_at dksX4_takes_1 16 rfl rfl)
theorem dX4_takes_43 : decode cX4_takes 43 = .ok (.aload_n 0, 1) := dk_42 (dk_at dksX4_takes_1 19 rfl rfl)
theorem dX4_takes_44 : decode cX4_takes 44 = .ok (.getfield 63, 3) := dk_180 0 63 (dk_at dksX4_takes_1 20 rfl rfl)
theorem dX4_takes_47 : decode cX4_takes 47 = .ok (.iload_n 3, 1) := dk_29 (dk_at dksX4_takes_1 23 rfl rfl)
theorem dX4_takes_48 : decode cX4_takes 48 = .ok (.iaload, 1) := dk_46 (dk_at dksX4_takes_2 0 rfl rfl)
theorem dX4_takes_49 : decode cX4_takes 49 = .ok (.goto 4, 3) := dk_167 0 4 (dk_at dksX4_takes_2 1 rfl rfl)
theorem dX4_takes_52 : decode cX4_takes 52 = .ok (.iconst 0, 1) := dk_3 (dk_at dksX4_takes_2 4 rfl rfl)
theorem dX4_takes_53 : decode cX4_takes 53 = .ok (.iadd, 1) := dk_96 (dk_at dksX4_takes_2 5 rfl rfl)
theorem dX4_takes_54 : decode cX4_takes 54 = .ok (.istore_n 2, 1) := dk_61 (dk_at dksX4_takes_2 6 rfl rfl)
theorem dX4_takes_55 : decode cX4_takes 55 = .ok (.iinc 3 1, 3) := dk_132 3 1 (dk_at dksX4_takes_2 7 rfl rfl)
theorem dX4_takes_58 : decode cX4_takes 58 = .ok (.goto (-51), 3) := dk_167 255 205 (dk_at dksX4_takes_2 10 rfl rfl)
theorem dX4_takes_61 : decode cX4_takes 61 = .ok (.iload_n 2, 1) := dk_28 (dk_at dksX4_takes_2 13 rfl rfl)
theorem dX4_takes_62 : decode cX4_takes 62 = .ok (.ireturn, 1) := dk_172 (dk_at dksX4_takes_2 14 rfl rfl)
abbrev cX4_fits : ByteArray := prog_26_method_66_code
def yX4_fits : MethodName := ⟨RX4, "fits", "(IIIIIII)I"⟩
def dkwX4_fits_3 : List UInt8 := [28, 29, 21, 4, 21, 5, 21, 6, 21, 7, 182, 1, 98, 172]
abbrev dktX4_fits_3 : List UInt8 := dkwX4_fits_3 ++ []
def dkwX4_fits_2 : List UInt8 := [42, 21, 4, 21, 5, 21, 6, 21, 7, 182, 1, 95, 154, 0, 5, 2, 172, 42, 3, 182, 0, 170, 42, 27]
abbrev dktX4_fits_2 : List UInt8 := dkwX4_fits_2 ++ dktX4_fits_3
def dkwX4_fits_1 : List UInt8 := [182, 0, 147, 153, 0, 36, 29, 133, 9, 4, 42, 180, 0, 24, 120, 4, 100, 133, 184, 0, 140, 153, 0, 18]
abbrev dktX4_fits_1 : List UInt8 := dkwX4_fits_1 ++ dktX4_fits_2
def dkwX4_fits_0 : List UInt8 := [42, 3, 181, 0, 1, 27, 133, 9, 42, 180, 1, 41, 4, 100, 133, 184, 0, 140, 153, 0, 44, 42, 28]
abbrev dktX4_fits_0 : List UInt8 := dkwX4_fits_0 ++ dktX4_fits_1
theorem dksX4_fits_0 : cX4_fits.data.toList.drop 0 = dktX4_fits_0 := by decide +kernel
theorem dksX4_fits_1 : cX4_fits.data.toList.drop 23 = dktX4_fits_1 := dk_seg dksX4_fits_0 23 rfl rfl
theorem dksX4_fits_2 : cX4_fits.data.toList.drop 47 = dktX4_fits_2 := dk_seg dksX4_fits_1 24 rfl rfl
theorem dksX4_fits_3 : cX4_fits.data.toList.drop 71 = dktX4_fits_3 := dk_seg dksX4_fits_2 24 rfl rfl
theorem dX4_fits_0 : decode cX4_fits 0 = .ok (.aload_n 0, 1) := dk_42 (dk_at dksX4_fits_0 0 rfl rfl)
theorem dX4_fits_1 : decode cX4_fits 1 = .ok (.iconst 0, 1) := dk_3 (dk_at dksX4_fits_0 1 rfl rfl)
theorem dX4_fits_2 : decode cX4_fits 2 = .ok (.putfield 1, 3) := dk_181 0 1 (dk_at dksX4_fits_0 2 rfl rfl)
theorem dX4_fits_5 : decode cX4_fits 5 = .ok (.iload_n 1, 1) := dk_27 (dk_at dksX4_fits_0 5 rfl rfl)
theorem dX4_fits_6 : decode cX4_fits 6 = .ok (.i2l, 1) := dk_133 (dk_at dksX4_fits_0 6 rfl rfl)
theorem dX4_fits_7 : decode cX4_fits 7 = .ok (.lconst 0, 1) := dk_9 (dk_at dksX4_fits_0 7 rfl rfl)
theorem dX4_fits_8 : decode cX4_fits 8 = .ok (.aload_n 0, 1) := dk_42 (dk_at dksX4_fits_0 8 rfl rfl)
theorem dX4_fits_9 : decode cX4_fits 9 = .ok (.getfield 297, 3) := dk_180 1 41 (dk_at dksX4_fits_0 9 rfl rfl)
theorem dX4_fits_12 : decode cX4_fits 12 = .ok (.iconst 1, 1) := dk_4 (dk_at dksX4_fits_0 12 rfl rfl)
theorem dX4_fits_13 : decode cX4_fits 13 = .ok (.isub, 1) := dk_100 (dk_at dksX4_fits_0 13 rfl rfl)
theorem dX4_fits_14 : decode cX4_fits 14 = .ok (.i2l, 1) := dk_133 (dk_at dksX4_fits_0 14 rfl rfl)
theorem dX4_fits_15 : decode cX4_fits 15 = .ok (.invokestatic 140, 3) := dk_184 0 140 (dk_at dksX4_fits_0 15 rfl rfl)
theorem dX4_fits_18 : decode cX4_fits 18 = .ok (.ifCond .eq 44, 3) := dk_153 0 44 (dk_at dksX4_fits_0 18 rfl rfl)
theorem dX4_fits_21 : decode cX4_fits 21 = .ok (.aload_n 0, 1) := dk_42 (dk_at dksX4_fits_0 21 rfl rfl)
theorem dX4_fits_22 : decode cX4_fits 22 = .ok (.iload_n 2, 1) := dk_28 (dk_at dksX4_fits_0 22 rfl rfl)
theorem dX4_fits_23 : decode cX4_fits 23 = .ok (.invokevirtual 147, 3) := dk_182 0 147 (dk_at dksX4_fits_1 0 rfl rfl)
theorem dX4_fits_26 : decode cX4_fits 26 = .ok (.ifCond .eq 36, 3) := dk_153 0 36 (dk_at dksX4_fits_1 3 rfl rfl)
theorem dX4_fits_29 : decode cX4_fits 29 = .ok (.iload_n 3, 1) := dk_29 (dk_at dksX4_fits_1 6 rfl rfl)
theorem dX4_fits_30 : decode cX4_fits 30 = .ok (.i2l, 1) := dk_133 (dk_at dksX4_fits_1 7 rfl rfl)
theorem dX4_fits_31 : decode cX4_fits 31 = .ok (.lconst 0, 1) := dk_9 (dk_at dksX4_fits_1 8 rfl rfl)
theorem dX4_fits_32 : decode cX4_fits 32 = .ok (.iconst 1, 1) := dk_4 (dk_at dksX4_fits_1 9 rfl rfl)
theorem dX4_fits_33 : decode cX4_fits 33 = .ok (.aload_n 0, 1) := dk_42 (dk_at dksX4_fits_1 10 rfl rfl)
theorem dX4_fits_34 : decode cX4_fits 34 = .ok (.getfield 24, 3) := dk_180 0 24 (dk_at dksX4_fits_1 11 rfl rfl)
theorem dX4_fits_37 : decode cX4_fits 37 = .ok (.ishl, 1) := dk_120 (dk_at dksX4_fits_1 14 rfl rfl)
theorem dX4_fits_38 : decode cX4_fits 38 = .ok (.iconst 1, 1) := dk_4 (dk_at dksX4_fits_1 15 rfl rfl)
theorem dX4_fits_39 : decode cX4_fits 39 = .ok (.isub, 1) := dk_100 (dk_at dksX4_fits_1 16 rfl rfl)
theorem dX4_fits_40 : decode cX4_fits 40 = .ok (.i2l, 1) := dk_133 (dk_at dksX4_fits_1 17 rfl rfl)
theorem dX4_fits_41 : decode cX4_fits 41 = .ok (.invokestatic 140, 3) := dk_184 0 140 (dk_at dksX4_fits_1 18 rfl rfl)
theorem dX4_fits_44 : decode cX4_fits 44 = .ok (.ifCond .eq 18, 3) := dk_153 0 18 (dk_at dksX4_fits_1 21 rfl rfl)
theorem dX4_fits_47 : decode cX4_fits 47 = .ok (.aload_n 0, 1) := dk_42 (dk_at dksX4_fits_2 0 rfl rfl)
theorem dX4_fits_48 : decode cX4_fits 48 = .ok (.iload 4, 2) := dk_21 4 (dk_at dksX4_fits_2 1 rfl rfl)
theorem dX4_fits_50 : decode cX4_fits 50 = .ok (.iload 5, 2) := dk_21 5 (dk_at dksX4_fits_2 3 rfl rfl)
theorem dX4_fits_52 : decode cX4_fits 52 = .ok (.iload 6, 2) := dk_21 6 (dk_at dksX4_fits_2 5 rfl rfl)
theorem dX4_fits_54 : decode cX4_fits 54 = .ok (.iload 7, 2) := dk_21 7 (dk_at dksX4_fits_2 7 rfl rfl)
theorem dX4_fits_56 : decode cX4_fits 56 = .ok (.invokevirtual 351, 3) := dk_182 1 95 (dk_at dksX4_fits_2 9 rfl rfl)
theorem dX4_fits_59 : decode cX4_fits 59 = .ok (.ifCond .ne 5, 3) := dk_154 0 5 (dk_at dksX4_fits_2 12 rfl rfl)
theorem dX4_fits_62 : decode cX4_fits 62 = .ok (.iconst (-1), 1) := dk_2 (dk_at dksX4_fits_2 15 rfl rfl)
theorem dX4_fits_63 : decode cX4_fits 63 = .ok (.ireturn, 1) := dk_172 (dk_at dksX4_fits_2 16 rfl rfl)
theorem dX4_fits_64 : decode cX4_fits 64 = .ok (.aload_n 0, 1) := dk_42 (dk_at dksX4_fits_2 17 rfl rfl)
theorem dX4_fits_65 : decode cX4_fits 65 = .ok (.iconst 0, 1) := dk_3 (dk_at dksX4_fits_2 18 rfl rfl)
theorem dX4_fits_66 : decode cX4_fits 66 = .ok (.invokevirtual 170, 3) := dk_182 0 170 (dk_at dksX4_fits_2 19 rfl rfl)
theorem dX4_fits_69 : decode cX4_fits 69 = .ok (.aload_n 0, 1) := dk_42 (dk_at dksX4_fits_2 22 rfl rfl)
theorem dX4_fits_70 : decode cX4_fits 70 = .ok (.iload_n 1, 1) := dk_27 (dk_at dksX4_fits_2 23 rfl rfl)
theorem dX4_fits_71 : decode cX4_fits 71 = .ok (.iload_n 2, 1) := dk_28 (dk_at dksX4_fits_3 0 rfl rfl)
theorem dX4_fits_72 : decode cX4_fits 72 = .ok (.iload_n 3, 1) := dk_29 (dk_at dksX4_fits_3 1 rfl rfl)
theorem dX4_fits_73 : decode cX4_fits 73 = .ok (.iload 4, 2) := dk_21 4 (dk_at dksX4_fits_3 2 rfl rfl)
theorem dX4_fits_75 : decode cX4_fits 75 = .ok (.iload 5, 2) := dk_21 5 (dk_at dksX4_fits_3 4 rfl rfl)
theorem dX4_fits_77 : decode cX4_fits 77 = .ok (.iload 6, 2) := dk_21 6 (dk_at dksX4_fits_3 6 rfl rfl)
theorem dX4_fits_79 : decode cX4_fits 79 = .ok (.iload 7, 2) := dk_21 7 (dk_at dksX4_fits_3 8 rfl rfl)
theorem dX4_fits_81 : decode cX4_fits 81 = .ok (.invokevirtual 354, 3) := dk_182 1 98 (dk_at dksX4_fits_3 10 rfl rfl)
theorem dX4_fits_84 : decode cX4_fits 84 = .ok (.ireturn, 1) := dk_172 (dk_at dksX4_fits_3 13 rfl rfl)
abbrev cX4_isTask : ByteArray := prog_26_method_65_code
def yX4_isTask : MethodName := ⟨RX4, "isTask", "(IIII)Z"⟩
def dkwX4_isTask_1 : List UInt8 := [153, 0, 7, 4, 167, 0, 4, 3, 172]
abbrev dktX4_isTask_1 : List UInt8 := dkwX4_isTask_1 ++ []
def dkwX4_isTask_0 : List UInt8 := [42, 27, 182, 0, 167, 153, 0, 24, 42, 28, 182, 0, 153, 153, 0, 16, 29, 21, 4, 184, 0, 150]
abbrev dktX4_isTask_0 : List UInt8 := dkwX4_isTask_0 ++ dktX4_isTask_1
theorem dksX4_isTask_0 : cX4_isTask.data.toList.drop 0 = dktX4_isTask_0 := by decide +kernel
theorem dksX4_isTask_1 : cX4_isTask.data.toList.drop 22 = dktX4_isTask_1 := dk_seg dksX4_isTask_0 22 rfl rfl
theorem dX4_isTask_0 : decode cX4_isTask 0 = .ok (.aload_n 0, 1) := dk_42 (dk_at dksX4_isTask_0 0 rfl rfl)
theorem dX4_isTask_1 : decode cX4_isTask 1 = .ok (.iload_n 1, 1) := dk_27 (dk_at dksX4_isTask_0 1 rfl rfl)
theorem dX4_isTask_2 : decode cX4_isTask 2 = .ok (.invokevirtual 167, 3) := dk_182 0 167 (dk_at dksX4_isTask_0 2 rfl rfl)
theorem dX4_isTask_5 : decode cX4_isTask 5 = .ok (.ifCond .eq 24, 3) := dk_153 0 24 (dk_at dksX4_isTask_0 5 rfl rfl)
theorem dX4_isTask_8 : decode cX4_isTask 8 = .ok (.aload_n 0, 1) := dk_42 (dk_at dksX4_isTask_0 8 rfl rfl)
theorem dX4_isTask_9 : decode cX4_isTask 9 = .ok (.iload_n 2, 1) := dk_28 (dk_at dksX4_isTask_0 9 rfl rfl)
theorem dX4_isTask_10 : decode cX4_isTask 10 = .ok (.invokevirtual 153, 3) := dk_182 0 153 (dk_at dksX4_isTask_0 10 rfl rfl)
theorem dX4_isTask_13 : decode cX4_isTask 13 = .ok (.ifCond .eq 16, 3) := dk_153 0 16 (dk_at dksX4_isTask_0 13 rfl rfl)
theorem dX4_isTask_16 : decode cX4_isTask 16 = .ok (.iload_n 3, 1) := dk_29 (dk_at dksX4_isTask_0 16 rfl rfl)
theorem dX4_isTask_17 : decode cX4_isTask 17 = .ok (.iload 4, 2) := dk_21 4 (dk_at dksX4_isTask_0 17 rfl rfl)
theorem dX4_isTask_19 : decode cX4_isTask 19 = .ok (.invokestatic 150, 3) := dk_184 0 150 (dk_at dksX4_isTask_0 19 rfl rfl)
theorem dX4_isTask_22 : decode cX4_isTask 22 = .ok (.ifCond .eq 7, 3) := dk_153 0 7 (dk_at dksX4_isTask_1 0 rfl rfl)
theorem dX4_isTask_25 : decode cX4_isTask 25 = .ok (.iconst 1, 1) := dk_4 (dk_at dksX4_isTask_1 3 rfl rfl)
theorem dX4_isTask_26 : decode cX4_isTask 26 = .ok (.goto 4, 3) := dk_167 0 4 (dk_at dksX4_isTask_1 4 rfl rfl)
theorem dX4_isTask_29 : decode cX4_isTask 29 = .ok (.iconst 0, 1) := dk_3 (dk_at dksX4_isTask_1 7 rfl rfl)
theorem dX4_isTask_30 : decode cX4_isTask 30 = .ok (.ireturn, 1) := dk_172 (dk_at dksX4_isTask_1 8 rfl rfl)
abbrev cX4_fitsAt : ByteArray := prog_26_method_64_code
def yX4_fitsAt : MethodName := ⟨RX4, "fitsAt", "(IIIIIII)I"⟩
def dkwX4_fitsAt_1 : List UInt8 := [182, 1, 91, 153, 0, 6, 21, 8, 172, 132, 8, 1, 167, 255, 225, 2, 172]
abbrev dktX4_fitsAt_1 : List UInt8 := dkwX4_fitsAt_1 ++ []
def dkwX4_fitsAt_0 : List UInt8 := [21, 6, 54, 8, 21, 8, 21, 7, 163, 0, 30, 42, 27, 28, 29, 21, 4, 21, 5, 21, 8, 21, 7]
abbrev dktX4_fitsAt_0 : List UInt8 := dkwX4_fitsAt_0 ++ dktX4_fitsAt_1
theorem dksX4_fitsAt_0 : cX4_fitsAt.data.toList.drop 0 = dktX4_fitsAt_0 := by decide +kernel
theorem dksX4_fitsAt_1 : cX4_fitsAt.data.toList.drop 23 = dktX4_fitsAt_1 := dk_seg dksX4_fitsAt_0 23 rfl rfl
theorem dX4_fitsAt_0 : decode cX4_fitsAt 0 = .ok (.iload 6, 2) := dk_21 6 (dk_at dksX4_fitsAt_0 0 rfl rfl)
theorem dX4_fitsAt_2 : decode cX4_fitsAt 2 = .ok (.istore 8, 2) := dk_54 8 (dk_at dksX4_fitsAt_0 2 rfl rfl)
theorem dX4_fitsAt_4 : decode cX4_fitsAt 4 = .ok (.iload 8, 2) := dk_21 8 (dk_at dksX4_fitsAt_0 4 rfl rfl)
theorem dX4_fitsAt_6 : decode cX4_fitsAt 6 = .ok (.iload 7, 2) := dk_21 7 (dk_at dksX4_fitsAt_0 6 rfl rfl)
theorem dX4_fitsAt_8 : decode cX4_fitsAt 8 = .ok (.if_icmp .gt 30, 3) := dk_163 0 30 (dk_at dksX4_fitsAt_0 8 rfl rfl)
theorem dX4_fitsAt_11 : decode cX4_fitsAt 11 = .ok (.aload_n 0, 1) := dk_42 (dk_at dksX4_fitsAt_0 11 rfl rfl)
theorem dX4_fitsAt_12 : decode cX4_fitsAt 12 = .ok (.iload_n 1, 1) := dk_27 (dk_at dksX4_fitsAt_0 12 rfl rfl)
theorem dX4_fitsAt_13 : decode cX4_fitsAt 13 = .ok (.iload_n 2, 1) := dk_28 (dk_at dksX4_fitsAt_0 13 rfl rfl)
theorem dX4_fitsAt_14 : decode cX4_fitsAt 14 = .ok (.iload_n 3, 1) := dk_29 (dk_at dksX4_fitsAt_0 14 rfl rfl)
theorem dX4_fitsAt_15 : decode cX4_fitsAt 15 = .ok (.iload 4, 2) := dk_21 4 (dk_at dksX4_fitsAt_0 15 rfl rfl)
theorem dX4_fitsAt_17 : decode cX4_fitsAt 17 = .ok (.iload 5, 2) := dk_21 5 (dk_at dksX4_fitsAt_0 17 rfl rfl)
theorem dX4_fitsAt_19 : decode cX4_fitsAt 19 = .ok (.iload 8, 2) := dk_21 8 (dk_at dksX4_fitsAt_0 19 rfl rfl)
theorem dX4_fitsAt_21 : decode cX4_fitsAt 21 = .ok (.iload 7, 2) := dk_21 7 (dk_at dksX4_fitsAt_0 21 rfl rfl)
theorem dX4_fitsAt_23 : decode cX4_fitsAt 23 = .ok (.invokevirtual 347, 3) := dk_182 1 91 (dk_at dksX4_fitsAt_1 0 rfl rfl)
theorem dX4_fitsAt_26 : decode cX4_fitsAt 26 = .ok (.ifCond .eq 6, 3) := dk_153 0 6 (dk_at dksX4_fitsAt_1 3 rfl rfl)
theorem dX4_fitsAt_29 : decode cX4_fitsAt 29 = .ok (.iload 8, 2) := dk_21 8 (dk_at dksX4_fitsAt_1 6 rfl rfl)
theorem dX4_fitsAt_31 : decode cX4_fitsAt 31 = .ok (.ireturn, 1) := dk_172 (dk_at dksX4_fitsAt_1 8 rfl rfl)
theorem dX4_fitsAt_32 : decode cX4_fitsAt 32 = .ok (.iinc 8 1, 3) := dk_132 8 1 (dk_at dksX4_fitsAt_1 9 rfl rfl)
theorem dX4_fitsAt_35 : decode cX4_fitsAt 35 = .ok (.goto (-31), 3) := dk_167 255 225 (dk_at dksX4_fitsAt_1 12 rfl rfl)
theorem dX4_fitsAt_38 : decode cX4_fitsAt 38 = .ok (.iconst (-1), 1) := dk_2 (dk_at dksX4_fitsAt_1 15 rfl rfl)
theorem dX4_fitsAt_39 : decode cX4_fitsAt 39 = .ok (.ireturn, 1) := dk_172 (dk_at dksX4_fitsAt_1 16 rfl rfl)
abbrev cX4_runs : ByteArray := prog_26_method_63_code
def yX4_runs : MethodName := ⟨RX4, "runs", "(IIIIIII)Z"⟩
def dkwX4_runs_11 : List UInt8 := [167, 255, 125, 4, 172]
abbrev dktX4_runs_11 : List UInt8 := dkwX4_runs_11 ++ []
def dkwX4_runs_10 : List UInt8 := [167, 0, 20, 42, 21, 11, 21, 10, 21, 6, 21, 9, 182, 1, 87, 154, 0, 5, 3, 172, 132, 11, 1]
abbrev dktX4_runs_10 : List UInt8 := dkwX4_runs_10 ++ dktX4_runs_11
def dkwX4_runs_9 : List UInt8 := [180, 0, 57, 21, 11, 46, 5, 160, 0, 18, 21, 10, 42, 180, 0, 63, 21, 11, 46, 96, 54, 10]
abbrev dktX4_runs_9 : List UInt8 := dkwX4_runs_9 ++ dktX4_runs_10
def dkwX4_runs_8 : List UInt8 := [154, 0, 5, 3, 172, 132, 12, 1, 167, 255, 216, 42, 180, 0, 57, 21, 11, 46, 4, 159, 0, 14, 42]
abbrev dktX4_runs_8 : List UInt8 := dkwX4_runs_8 ++ dktX4_runs_9
def dkwX4_runs_7 : List UInt8 := [46, 96, 162, 0, 31, 42, 5, 28, 104, 42, 180, 0, 60, 21, 11, 46, 96, 21, 12, 182, 1, 84]
abbrev dktX4_runs_7 : List UInt8 := dkwX4_runs_7 ++ dktX4_runs_8
def dkwX4_runs_6 : List UInt8 := [180, 0, 57, 21, 11, 46, 4, 160, 0, 50, 21, 10, 54, 12, 21, 12, 21, 10, 42, 180, 0, 63, 21, 11]
abbrev dktX4_runs_6 : List UInt8 := dkwX4_runs_6 ++ dktX4_runs_7
def dkwX4_runs_5 : List UInt8 := [16, 8, 27, 104, 54, 11, 21, 11, 16, 8, 27, 104, 42, 180, 0, 54, 27, 46, 96, 162, 0, 121, 42]
abbrev dktX4_runs_5 : List UInt8 := dkwX4_runs_5 ++ dktX4_runs_6
def dkwX4_runs_4 : List UInt8 := [181, 1, 62, 42, 21, 5, 181, 1, 74, 42, 3, 181, 1, 56, 42, 3, 181, 1, 65, 21, 6, 54, 10]
abbrev dktX4_runs_4 : List UInt8 := dkwX4_runs_4 ++ dktX4_runs_5
def dkwX4_runs_3 : List UInt8 := [21, 9, 21, 7, 164, 0, 5, 3, 172, 42, 28, 181, 1, 53, 42, 4, 28, 120, 29, 128, 2, 130]
abbrev dktX4_runs_3 : List UInt8 := dkwX4_runs_3 ++ dktX4_runs_4
def dkwX4_runs_2 : List UInt8 := [182, 1, 50, 54, 8, 21, 8, 154, 0, 8, 21, 6, 167, 0, 10, 21, 6, 21, 8, 96, 4, 100, 54, 9]
abbrev dktX4_runs_2 : List UInt8 := dkwX4_runs_2 ++ dktX4_runs_3
def dkwX4_runs_1 : List UInt8 := [180, 1, 71, 182, 0, 176, 153, 0, 13, 42, 28, 21, 5, 182, 0, 176, 154, 0, 5, 3, 172, 42, 27]
abbrev dktX4_runs_1 : List UInt8 := dkwX4_runs_1 ++ dktX4_runs_2
def dkwX4_runs_0 : List UInt8 := [42, 42, 21, 4, 21, 6, 182, 0, 173, 181, 1, 71, 42, 180, 1, 71, 21, 5, 159, 0, 25, 42, 28, 42]
abbrev dktX4_runs_0 : List UInt8 := dkwX4_runs_0 ++ dktX4_runs_1
theorem dksX4_runs_0 : cX4_runs.data.toList.drop 0 = dktX4_runs_0 := by decide +kernel
theorem dksX4_runs_1 : cX4_runs.data.toList.drop 24 = dktX4_runs_1 := dk_seg dksX4_runs_0 24 rfl rfl
theorem dksX4_runs_2 : cX4_runs.data.toList.drop 47 = dktX4_runs_2 := dk_seg dksX4_runs_1 23 rfl rfl
theorem dksX4_runs_3 : cX4_runs.data.toList.drop 71 = dktX4_runs_3 := dk_seg dksX4_runs_2 24 rfl rfl
theorem dksX4_runs_4 : cX4_runs.data.toList.drop 93 = dktX4_runs_4 := dk_seg dksX4_runs_3 22 rfl rfl
theorem dksX4_runs_5 : cX4_runs.data.toList.drop 116 = dktX4_runs_5 := dk_seg dksX4_runs_4 23 rfl rfl
theorem dksX4_runs_6 : cX4_runs.data.toList.drop 139 = dktX4_runs_6 := dk_seg dksX4_runs_5 23 rfl rfl
theorem dksX4_runs_7 : cX4_runs.data.toList.drop 163 = dktX4_runs_7 := dk_seg dksX4_runs_6 24 rfl rfl
theorem dksX4_runs_8 : cX4_runs.data.toList.drop 185 = dktX4_runs_8 := dk_seg dksX4_runs_7 22 rfl rfl
theorem dksX4_runs_9 : cX4_runs.data.toList.drop 208 = dktX4_runs_9 := dk_seg dksX4_runs_8 23 rfl rfl
theorem dksX4_runs_10 : cX4_runs.data.toList.drop 230 = dktX4_runs_10 := dk_seg dksX4_runs_9 22 rfl rfl
theorem dksX4_runs_11 : cX4_runs.data.toList.drop 253 = dktX4_runs_11 := dk_seg dksX4_runs_10 23 rfl rfl
theorem dX4_runs_0 : decode cX4_runs 0 = .ok (.aload_n 0, 1) := dk_42 (dk_at dksX4_runs_0 0 rfl rfl)
theorem dX4_runs_1 : decode cX4_runs 1 = .ok (.aload_n 0, 1) := dk_42 (dk_at dksX4_runs_0 1 rfl rfl)
theorem dX4_runs_2 : decode cX4_runs 2 = .ok (.iload 4, 2) := dk_21 4 (dk_at dksX4_runs_0 2 rfl rfl)
theorem dX4_runs_4 : decode cX4_runs 4 = .ok (.iload 6, 2) := dk_21 6 (dk_at dksX4_runs_0 4 rfl rfl)
theorem dX4_runs_6 : decode cX4_runs 6 = .ok (.invokevirtual 173, 3) := dk_182 0 173 (dk_at dksX4_runs_0 6 rfl rfl)
theorem dX4_runs_9 : decode cX4_runs 9 = .ok (.putfield 327, 3) := dk_181 1 71 (dk_at dksX4_runs_0 9 rfl rfl)
theorem dX4_runs_12 : decode cX4_runs 12 = .ok (.aload_n 0, 1) := dk_42 (dk_at dksX4_runs_0 12 rfl rfl)
theorem dX4_runs_13 : decode cX4_runs 13 = .ok (.getfield 327, 3) := dk_180 1 71 (dk_at dksX4_runs_0 13 rfl rfl)
theorem dX4_runs_16 : decode cX4_runs 16 = .ok (.iload 5, 2) := dk_21 5 (dk_at dksX4_runs_0 16 rfl rfl)
theorem dX4_runs_18 : decode cX4_runs 18 = .ok (.if_icmp .eq 25, 3) := dk_159 0 25 (dk_at dksX4_runs_0 18 rfl rfl)
theorem dX4_runs_21 : decode cX4_runs 21 = .ok (.aload_n 0, 1) := dk_42 (dk_at dksX4_runs_0 21 rfl rfl)
theorem dX4_runs_22 : decode cX4_runs 22 = .ok (.iload_n 2, 1) := dk_28 (dk_at dksX4_runs_0 22 rfl rfl)
theorem dX4_runs_23 : decode cX4_runs 23 = .ok (.aload_n 0, 1) := dk_42 (dk_at dksX4_runs_0 23 rfl rfl)
theorem dX4_runs_24 : decode cX4_runs 24 = .ok (.getfield 327, 3) := dk_180 1 71 (dk_at dksX4_runs_1 0 rfl rfl)
theorem dX4_runs_27 : decode cX4_runs 27 = .ok (.invokevirtual 176, 3) := dk_182 0 176 (dk_at dksX4_runs_1 3 rfl rfl)
theorem dX4_runs_30 : decode cX4_runs 30 = .ok (.ifCond .eq 13, 3) := dk_153 0 13 (dk_at dksX4_runs_1 6 rfl rfl)
theorem dX4_runs_33 : decode cX4_runs 33 = .ok (.aload_n 0, 1) := dk_42 (dk_at dksX4_runs_1 9 rfl rfl)
theorem dX4_runs_34 : decode cX4_runs 34 = .ok (.iload_n 2, 1) := dk_28 (dk_at dksX4_runs_1 10 rfl rfl)
theorem dX4_runs_35 : decode cX4_runs 35 = .ok (.iload 5, 2) := dk_21 5 (dk_at dksX4_runs_1 11 rfl rfl)
theorem dX4_runs_37 : decode cX4_runs 37 = .ok (.invokevirtual 176, 3) := dk_182 0 176 (dk_at dksX4_runs_1 13 rfl rfl)
theorem dX4_runs_40 : decode cX4_runs 40 = .ok (.ifCond .ne 5, 3) := dk_154 0 5 (dk_at dksX4_runs_1 16 rfl rfl)
theorem dX4_runs_43 : decode cX4_runs 43 = .ok (.iconst 0, 1) := dk_3 (dk_at dksX4_runs_1 19 rfl rfl)
theorem dX4_runs_44 : decode cX4_runs 44 = .ok (.ireturn, 1) := dk_172 (dk_at dksX4_runs_1 20 rfl rfl)
theorem dX4_runs_45 : decode cX4_runs 45 = .ok (.aload_n 0, 1) := dk_42 (dk_at dksX4_runs_1 21 rfl rfl)
theorem dX4_runs_46 : decode cX4_runs 46 = .ok (.iload_n 1, 1) := dk_27 (dk_at dksX4_runs_1 22 rfl rfl)
theorem dX4_runs_47 : decode cX4_runs 47 = .ok (.invokevirtual 306, 3) := dk_182 1 50 (dk_at dksX4_runs_2 0 rfl rfl)
theorem dX4_runs_50 : decode cX4_runs 50 = .ok (.istore 8, 2) := dk_54 8 (dk_at dksX4_runs_2 3 rfl rfl)
theorem dX4_runs_52 : decode cX4_runs 52 = .ok (.iload 8, 2) := dk_21 8 (dk_at dksX4_runs_2 5 rfl rfl)
theorem dX4_runs_54 : decode cX4_runs 54 = .ok (.ifCond .ne 8, 3) := dk_154 0 8 (dk_at dksX4_runs_2 7 rfl rfl)
theorem dX4_runs_57 : decode cX4_runs 57 = .ok (.iload 6, 2) := dk_21 6 (dk_at dksX4_runs_2 10 rfl rfl)
theorem dX4_runs_59 : decode cX4_runs 59 = .ok (.goto 10, 3) := dk_167 0 10 (dk_at dksX4_runs_2 12 rfl rfl)
theorem dX4_runs_62 : decode cX4_runs 62 = .ok (.iload 6, 2) := dk_21 6 (dk_at dksX4_runs_2 15 rfl rfl)
theorem dX4_runs_64 : decode cX4_runs 64 = .ok (.iload 8, 2) := dk_21 8 (dk_at dksX4_runs_2 17 rfl rfl)
theorem dX4_runs_66 : decode cX4_runs 66 = .ok (.iadd, 1) := dk_96 (dk_at dksX4_runs_2 19 rfl rfl)
theorem dX4_runs_67 : decode cX4_runs 67 = .ok (.iconst 1, 1) := dk_4 (dk_at dksX4_runs_2 20 rfl rfl)
theorem dX4_runs_68 : decode cX4_runs 68 = .ok (.isub, 1) := dk_100 (dk_at dksX4_runs_2 21 rfl rfl)
theorem dX4_runs_69 : decode cX4_runs 69 = .ok (.istore 9, 2) := dk_54 9 (dk_at dksX4_runs_2 22 rfl rfl)
theorem dX4_runs_71 : decode cX4_runs 71 = .ok (.iload 9, 2) := dk_21 9 (dk_at dksX4_runs_3 0 rfl rfl)
theorem dX4_runs_73 : decode cX4_runs 73 = .ok (.iload 7, 2) := dk_21 7 (dk_at dksX4_runs_3 2 rfl rfl)
theorem dX4_runs_75 : decode cX4_runs 75 = .ok (.if_icmp .le 5, 3) := dk_164 0 5 (dk_at dksX4_runs_3 4 rfl rfl)
theorem dX4_runs_78 : decode cX4_runs 78 = .ok (.iconst 0, 1) := dk_3 (dk_at dksX4_runs_3 7 rfl rfl)
theorem dX4_runs_79 : decode cX4_runs 79 = .ok (.ireturn, 1) := dk_172 (dk_at dksX4_runs_3 8 rfl rfl)
theorem dX4_runs_80 : decode cX4_runs 80 = .ok (.aload_n 0, 1) := dk_42 (dk_at dksX4_runs_3 9 rfl rfl)
theorem dX4_runs_81 : decode cX4_runs 81 = .ok (.iload_n 2, 1) := dk_28 (dk_at dksX4_runs_3 10 rfl rfl)
theorem dX4_runs_82 : decode cX4_runs 82 = .ok (.putfield 309, 3) := dk_181 1 53 (dk_at dksX4_runs_3 11 rfl rfl)
theorem dX4_runs_85 : decode cX4_runs 85 = .ok (.aload_n 0, 1) := dk_42 (dk_at dksX4_runs_3 14 rfl rfl)
theorem dX4_runs_86 : decode cX4_runs 86 = .ok (.iconst 1, 1) := dk_4 (dk_at dksX4_runs_3 15 rfl rfl)
theorem dX4_runs_87 : decode cX4_runs 87 = .ok (.iload_n 2, 1) := dk_28 (dk_at dksX4_runs_3 16 rfl rfl)
theorem dX4_runs_88 : decode cX4_runs 88 = .ok (.ishl, 1) := dk_120 (dk_at dksX4_runs_3 17 rfl rfl)
theorem dX4_runs_89 : decode cX4_runs 89 = .ok (.iload_n 3, 1) := dk_29 (dk_at dksX4_runs_3 18 rfl rfl)
theorem dX4_runs_90 : decode cX4_runs 90 = .ok (.ior, 1) := dk_128 (dk_at dksX4_runs_3 19 rfl rfl)
theorem dX4_runs_91 : decode cX4_runs 91 = .ok (.iconst (-1), 1) := dk_2 (dk_at dksX4_runs_3 20 rfl rfl)
theorem dX4_runs_92 : decode cX4_runs 92 = .ok (.ixor, 1) := dk_130 (dk_at dksX4_runs_3 21 rfl rfl)
theorem dX4_runs_93 : decode cX4_runs 93 = .ok (.putfield 318, 3) := dk_181 1 62 (dk_at dksX4_runs_4 0 rfl rfl)
theorem dX4_runs_96 : decode cX4_runs 96 = .ok (.aload_n 0, 1) := dk_42 (dk_at dksX4_runs_4 3 rfl rfl)
theorem dX4_runs_97 : decode cX4_runs 97 = .ok (.iload 5, 2) := dk_21 5 (dk_at dksX4_runs_4 4 rfl rfl)
theorem dX4_runs_99 : decode cX4_runs 99 = .ok (.putfield 330, 3) := dk_181 1 74 (dk_at dksX4_runs_4 6 rfl rfl)
theorem dX4_runs_102 : decode cX4_runs 102 = .ok (.aload_n 0, 1) := dk_42 (dk_at dksX4_runs_4 9 rfl rfl)
theorem dX4_runs_103 : decode cX4_runs 103 = .ok (.iconst 0, 1) := dk_3 (dk_at dksX4_runs_4 10 rfl rfl)
theorem dX4_runs_104 : decode cX4_runs 104 = .ok (.putfield 312, 3) := dk_181 1 56 (dk_at dksX4_runs_4 11 rfl rfl)
theorem dX4_runs_107 : decode cX4_runs 107 = .ok (.aload_n 0, 1) := dk_42 (dk_at dksX4_runs_4 14 rfl rfl)
theorem dX4_runs_108 : decode cX4_runs 108 = .ok (.iconst 0, 1) := dk_3 (dk_at dksX4_runs_4 15 rfl rfl)
theorem dX4_runs_109 : decode cX4_runs 109 = .ok (.putfield 321, 3) := dk_181 1 65 (dk_at dksX4_runs_4 16 rfl rfl)
theorem dX4_runs_112 : decode cX4_runs 112 = .ok (.iload 6, 2) := dk_21 6 (dk_at dksX4_runs_4 19 rfl rfl)
theorem dX4_runs_114 : decode cX4_runs 114 = .ok (.istore 10, 2) := dk_54 10 (dk_at dksX4_runs_4 21 rfl rfl)
theorem dX4_runs_116 : decode cX4_runs 116 = .ok (.bipush 8, 2) := dk_16 8 (dk_at dksX4_runs_5 0 rfl rfl)
theorem dX4_runs_118 : decode cX4_runs 118 = .ok (.iload_n 1, 1) := dk_27 (dk_at dksX4_runs_5 2 rfl rfl)
theorem dX4_runs_119 : decode cX4_runs 119 = .ok (.imul, 1) := dk_104 (dk_at dksX4_runs_5 3 rfl rfl)
theorem dX4_runs_120 : decode cX4_runs 120 = .ok (.istore 11, 2) := dk_54 11 (dk_at dksX4_runs_5 4 rfl rfl)
theorem dX4_runs_122 : decode cX4_runs 122 = .ok (.iload 11, 2) := dk_21 11 (dk_at dksX4_runs_5 6 rfl rfl)
theorem dX4_runs_124 : decode cX4_runs 124 = .ok (.bipush 8, 2) := dk_16 8 (dk_at dksX4_runs_5 8 rfl rfl)
theorem dX4_runs_126 : decode cX4_runs 126 = .ok (.iload_n 1, 1) := dk_27 (dk_at dksX4_runs_5 10 rfl rfl)
theorem dX4_runs_127 : decode cX4_runs 127 = .ok (.imul, 1) := dk_104 (dk_at dksX4_runs_5 11 rfl rfl)
theorem dX4_runs_128 : decode cX4_runs 128 = .ok (.aload_n 0, 1) := dk_42 (dk_at dksX4_runs_5 12 rfl rfl)
theorem dX4_runs_129 : decode cX4_runs 129 = .ok (.getfield 54, 3) := dk_180 0 54 (dk_at dksX4_runs_5 13 rfl rfl)
theorem dX4_runs_132 : decode cX4_runs 132 = .ok (.iload_n 1, 1) := dk_27 (dk_at dksX4_runs_5 16 rfl rfl)
theorem dX4_runs_133 : decode cX4_runs 133 = .ok (.iaload, 1) := dk_46 (dk_at dksX4_runs_5 17 rfl rfl)
theorem dX4_runs_134 : decode cX4_runs 134 = .ok (.iadd, 1) := dk_96 (dk_at dksX4_runs_5 18 rfl rfl)
theorem dX4_runs_135 : decode cX4_runs 135 = .ok (.if_icmp .ge 121, 3) := dk_162 0 121 (dk_at dksX4_runs_5 19 rfl rfl)
theorem dX4_runs_138 : decode cX4_runs 138 = .ok (.aload_n 0, 1) := dk_42 (dk_at dksX4_runs_5 22 rfl rfl)
theorem dX4_runs_139 : decode cX4_runs 139 = .ok (.getfield 57, 3) := dk_180 0 57 (dk_at dksX4_runs_6 0 rfl rfl)
theorem dX4_runs_142 : decode cX4_runs 142 = .ok (.iload 11, 2) := dk_21 11 (dk_at dksX4_runs_6 3 rfl rfl)
theorem dX4_runs_144 : decode cX4_runs 144 = .ok (.iaload, 1) := dk_46 (dk_at dksX4_runs_6 5 rfl rfl)
theorem dX4_runs_145 : decode cX4_runs 145 = .ok (.iconst 1, 1) := dk_4 (dk_at dksX4_runs_6 6 rfl rfl)
theorem dX4_runs_146 : decode cX4_runs 146 = .ok (.if_icmp .ne 50, 3) := dk_160 0 50 (dk_at dksX4_runs_6 7 rfl rfl)
theorem dX4_runs_149 : decode cX4_runs 149 = .ok (.iload 10, 2) := dk_21 10 (dk_at dksX4_runs_6 10 rfl rfl)
theorem dX4_runs_151 : decode cX4_runs 151 = .ok (.istore 12, 2) := dk_54 12 (dk_at dksX4_runs_6 12 rfl rfl)
theorem dX4_runs_153 : decode cX4_runs 153 = .ok (.iload 12, 2) := dk_21 12 (dk_at dksX4_runs_6 14 rfl rfl)
theorem dX4_runs_155 : decode cX4_runs 155 = .ok (.iload 10, 2) := dk_21 10 (dk_at dksX4_runs_6 16 rfl rfl)
theorem dX4_runs_157 : decode cX4_runs 157 = .ok (.aload_n 0, 1) := dk_42 (dk_at dksX4_runs_6 18 rfl rfl)
theorem dX4_runs_158 : decode cX4_runs 158 = .ok (.getfield 63, 3) := dk_180 0 63 (dk_at dksX4_runs_6 19 rfl rfl)
theorem dX4_runs_161 : decode cX4_runs 161 = .ok (.iload 11, 2) := dk_21 11 (dk_at dksX4_runs_6 22 rfl rfl)
theorem dX4_runs_163 : decode cX4_runs 163 = .ok (.iaload, 1) := dk_46 (dk_at dksX4_runs_7 0 rfl rfl)
theorem dX4_runs_164 : decode cX4_runs 164 = .ok (.iadd, 1) := dk_96 (dk_at dksX4_runs_7 1 rfl rfl)
theorem dX4_runs_165 : decode cX4_runs 165 = .ok (.if_icmp .ge 31, 3) := dk_162 0 31 (dk_at dksX4_runs_7 2 rfl rfl)
theorem dX4_runs_168 : decode cX4_runs 168 = .ok (.aload_n 0, 1) := dk_42 (dk_at dksX4_runs_7 5 rfl rfl)
theorem dX4_runs_169 : decode cX4_runs 169 = .ok (.iconst 2, 1) := dk_5 (dk_at dksX4_runs_7 6 rfl rfl)
theorem dX4_runs_170 : decode cX4_runs 170 = .ok (.iload_n 2, 1) := dk_28 (dk_at dksX4_runs_7 7 rfl rfl)
theorem dX4_runs_171 : decode cX4_runs 171 = .ok (.imul, 1) := dk_104 (dk_at dksX4_runs_7 8 rfl rfl)
theorem dX4_runs_172 : decode cX4_runs 172 = .ok (.aload_n 0, 1) := dk_42 (dk_at dksX4_runs_7 9 rfl rfl)
theorem dX4_runs_173 : decode cX4_runs 173 = .ok (.getfield 60, 3) := dk_180 0 60 (dk_at dksX4_runs_7 10 rfl rfl)
theorem dX4_runs_176 : decode cX4_runs 176 = .ok (.iload 11, 2) := dk_21 11 (dk_at dksX4_runs_7 13 rfl rfl)
theorem dX4_runs_178 : decode cX4_runs 178 = .ok (.iaload, 1) := dk_46 (dk_at dksX4_runs_7 15 rfl rfl)
theorem dX4_runs_179 : decode cX4_runs 179 = .ok (.iadd, 1) := dk_96 (dk_at dksX4_runs_7 16 rfl rfl)
theorem dX4_runs_180 : decode cX4_runs 180 = .ok (.iload 12, 2) := dk_21 12 (dk_at dksX4_runs_7 17 rfl rfl)
theorem dX4_runs_182 : decode cX4_runs 182 = .ok (.invokevirtual 340, 3) := dk_182 1 84 (dk_at dksX4_runs_7 19 rfl rfl)
theorem dX4_runs_185 : decode cX4_runs 185 = .ok (.ifCond .ne 5, 3) := dk_154 0 5 (dk_at dksX4_runs_8 0 rfl rfl)
theorem dX4_runs_188 : decode cX4_runs 188 = .ok (.iconst 0, 1) := dk_3 (dk_at dksX4_runs_8 3 rfl rfl)
theorem dX4_runs_189 : decode cX4_runs 189 = .ok (.ireturn, 1) := dk_172 (dk_at dksX4_runs_8 4 rfl rfl)
theorem dX4_runs_190 : decode cX4_runs 190 = .ok (.iinc 12 1, 3) := dk_132 12 1 (dk_at dksX4_runs_8 5 rfl rfl)
theorem dX4_runs_193 : decode cX4_runs 193 = .ok (.goto (-40), 3) := dk_167 255 216 (dk_at dksX4_runs_8 8 rfl rfl)
theorem dX4_runs_196 : decode cX4_runs 196 = .ok (.aload_n 0, 1) := dk_42 (dk_at dksX4_runs_8 11 rfl rfl)
theorem dX4_runs_197 : decode cX4_runs 197 = .ok (.getfield 57, 3) := dk_180 0 57 (dk_at dksX4_runs_8 12 rfl rfl)
theorem dX4_runs_200 : decode cX4_runs 200 = .ok (.iload 11, 2) := dk_21 11 (dk_at dksX4_runs_8 15 rfl rfl)
theorem dX4_runs_202 : decode cX4_runs 202 = .ok (.iaload, 1) := dk_46 (dk_at dksX4_runs_8 17 rfl rfl)
theorem dX4_runs_203 : decode cX4_runs 203 = .ok (.iconst 1, 1) := dk_4 (dk_at dksX4_runs_8 18 rfl rfl)
theorem dX4_runs_204 : decode cX4_runs 204 = .ok (.if_icmp .eq 14, 3) := dk_159 0 14 (dk_at dksX4_runs_8 19 rfl rfl)
theorem dX4_runs_207 : decode cX4_runs 207 = .ok (.aload_n 0, 1) := dk_42 (dk_at dksX4_runs_8 22 rfl rfl)
theorem dX4_runs_208 : decode cX4_runs 208 = .ok (.getfield 57, 3) := dk_180 0 57 (dk_at dksX4_runs_9 0 rfl rfl)
theorem dX4_runs_211 : decode cX4_runs 211 = .ok (.iload 11, 2) := dk_21 11 (dk_at dksX4_runs_9 3 rfl rfl)
theorem dX4_runs_213 : decode cX4_runs 213 = .ok (.iaload, 1) := dk_46 (dk_at dksX4_runs_9 5 rfl rfl)
theorem dX4_runs_214 : decode cX4_runs 214 = .ok (.iconst 2, 1) := dk_5 (dk_at dksX4_runs_9 6 rfl rfl)
theorem dX4_runs_215 : decode cX4_runs 215 = .ok (.if_icmp .ne 18, 3) := dk_160 0 18 (dk_at dksX4_runs_9 7 rfl rfl)
theorem dX4_runs_218 : decode cX4_runs 218 = .ok (.iload 10, 2) := dk_21 10 (dk_at dksX4_runs_9 10 rfl rfl)
theorem dX4_runs_220 : decode cX4_runs 220 = .ok (.aload_n 0, 1) := dk_42 (dk_at dksX4_runs_9 12 rfl rfl)
theorem dX4_runs_221 : decode cX4_runs 221 = .ok (.getfield 63, 3) := dk_180 0 63 (dk_at dksX4_runs_9 13 rfl rfl)
theorem dX4_runs_224 : decode cX4_runs 224 = .ok (.iload 11, 2) := dk_21 11 (dk_at dksX4_runs_9 16 rfl rfl)
theorem dX4_runs_226 : decode cX4_runs 226 = .ok (.iaload, 1) := dk_46 (dk_at dksX4_runs_9 18 rfl rfl)
theorem dX4_runs_227 : decode cX4_runs 227 = .ok (.iadd, 1) := dk_96 (dk_at dksX4_runs_9 19 rfl rfl)
theorem dX4_runs_228 : decode cX4_runs 228 = .ok (.istore 10, 2) := dk_54 10 (dk_at dksX4_runs_9 20 rfl rfl)
theorem dX4_runs_230 : decode cX4_runs 230 = .ok (.goto 20, 3) := dk_167 0 20 (dk_at dksX4_runs_10 0 rfl rfl)
theorem dX4_runs_233 : decode cX4_runs 233 = .ok (.aload_n 0, 1) := dk_42 (dk_at dksX4_runs_10 3 rfl rfl)
theorem dX4_runs_234 : decode cX4_runs 234 = .ok (.iload 11, 2) := dk_21 11 (dk_at dksX4_runs_10 4 rfl rfl)
theorem dX4_runs_236 : decode cX4_runs 236 = .ok (.iload 10, 2) := dk_21 10 (dk_at dksX4_runs_10 6 rfl rfl)
theorem dX4_runs_238 : decode cX4_runs 238 = .ok (.iload 6, 2) := dk_21 6 (dk_at dksX4_runs_10 8 rfl rfl)
theorem dX4_runs_240 : decode cX4_runs 240 = .ok (.iload 9, 2) := dk_21 9 (dk_at dksX4_runs_10 10 rfl rfl)
theorem dX4_runs_242 : decode cX4_runs 242 = .ok (.invokevirtual 343, 3) := dk_182 1 87 (dk_at dksX4_runs_10 12 rfl rfl)
theorem dX4_runs_245 : decode cX4_runs 245 = .ok (.ifCond .ne 5, 3) := dk_154 0 5 (dk_at dksX4_runs_10 15 rfl rfl)
theorem dX4_runs_248 : decode cX4_runs 248 = .ok (.iconst 0, 1) := dk_3 (dk_at dksX4_runs_10 18 rfl rfl)
theorem dX4_runs_249 : decode cX4_runs 249 = .ok (.ireturn, 1) := dk_172 (dk_at dksX4_runs_10 19 rfl rfl)
theorem dX4_runs_250 : decode cX4_runs 250 = .ok (.iinc 11 1, 3) := dk_132 11 1 (dk_at dksX4_runs_10 20 rfl rfl)
theorem dX4_runs_253 : decode cX4_runs 253 = .ok (.goto (-131), 3) := dk_167 255 125 (dk_at dksX4_runs_11 0 rfl rfl)
theorem dX4_runs_256 : decode cX4_runs 256 = .ok (.iconst 1, 1) := dk_4 (dk_at dksX4_runs_11 3 rfl rfl)
theorem dX4_runs_257 : decode cX4_runs 257 = .ok (.ireturn, 1) := dk_172 (dk_at dksX4_runs_11 4 rfl rfl)
abbrev cX4_goesUnseen : ByteArray := prog_26_method_60_code
def yX4_goesUnseen : MethodName := ⟨RX4, "goesUnseen", "(II)Z"⟩
def dkwX4_goesUnseen_3 : List UInt8 := [154, 0, 7, 4, 167, 0, 4, 3, 172]
abbrev dktX4_goesUnseen_3 : List UInt8 := dkwX4_goesUnseen_3 ++ []
def dkwX4_goesUnseen_2 : List UInt8 := [154, 0, 31, 42, 42, 180, 1, 71, 28, 182, 1, 68, 154, 0, 19, 42, 42, 180, 1, 74, 28, 182, 1, 68]
abbrev dktX4_goesUnseen_2 : List UInt8 := dkwX4_goesUnseen_2 ++ dktX4_goesUnseen_3
def dkwX4_goesUnseen_1 : List UInt8 := [104, 28, 96, 46, 42, 180, 1, 62, 126, 62, 29, 154, 0, 43, 42, 42, 180, 1, 53, 28, 182, 1, 68]
abbrev dktX4_goesUnseen_1 : List UInt8 := dkwX4_goesUnseen_1 ++ dktX4_goesUnseen_2
def dkwX4_goesUnseen_0 : List UInt8 := [42, 180, 1, 65, 27, 5, 112, 184, 0, 179, 153, 0, 7, 3, 167, 0, 19, 42, 180, 0, 39, 16, 100, 27]
abbrev dktX4_goesUnseen_0 : List UInt8 := dkwX4_goesUnseen_0 ++ dktX4_goesUnseen_1
theorem dksX4_goesUnseen_0 : cX4_goesUnseen.data.toList.drop 0 = dktX4_goesUnseen_0 := by decide +kernel
theorem dksX4_goesUnseen_1 : cX4_goesUnseen.data.toList.drop 24 = dktX4_goesUnseen_1 := dk_seg dksX4_goesUnseen_0 24 rfl rfl
theorem dksX4_goesUnseen_2 : cX4_goesUnseen.data.toList.drop 47 = dktX4_goesUnseen_2 := dk_seg dksX4_goesUnseen_1 23 rfl rfl
theorem dksX4_goesUnseen_3 : cX4_goesUnseen.data.toList.drop 71 = dktX4_goesUnseen_3 := dk_seg dksX4_goesUnseen_2 24 rfl rfl
theorem dX4_goesUnseen_0 : decode cX4_goesUnseen 0 = .ok (.aload_n 0, 1) := dk_42 (dk_at dksX4_goesUnseen_0 0 rfl rfl)
theorem dX4_goesUnseen_1 : decode cX4_goesUnseen 1 = .ok (.getfield 321, 3) := dk_180 1 65 (dk_at dksX4_goesUnseen_0 1 rfl rfl)
theorem dX4_goesUnseen_4 : decode cX4_goesUnseen 4 = .ok (.iload_n 1, 1) := dk_27 (dk_at dksX4_goesUnseen_0 4 rfl rfl)
theorem dX4_goesUnseen_5 : decode cX4_goesUnseen 5 = .ok (.iconst 2, 1) := dk_5 (dk_at dksX4_goesUnseen_0 5 rfl rfl)
theorem dX4_goesUnseen_6 : decode cX4_goesUnseen 6 = .ok (.irem, 1) := dk_112 (dk_at dksX4_goesUnseen_0 6 rfl rfl)
theorem dX4_goesUnseen_7 : decode cX4_goesUnseen 7 = .ok (.invokestatic 179, 3) := dk_184 0 179 (dk_at dksX4_goesUnseen_0 7 rfl rfl)
theorem dX4_goesUnseen_10 : decode cX4_goesUnseen 10 = .ok (.ifCond .eq 7, 3) := dk_153 0 7 (dk_at dksX4_goesUnseen_0 10 rfl rfl)
theorem dX4_goesUnseen_13 : decode cX4_goesUnseen 13 = .ok (.iconst 0, 1) := dk_3 (dk_at dksX4_goesUnseen_0 13 rfl rfl)
theorem dX4_goesUnseen_14 : decode cX4_goesUnseen 14 = .ok (.goto 19, 3) := dk_167 0 19 (dk_at dksX4_goesUnseen_0 14 rfl rfl)
theorem dX4_goesUnseen_17 : decode cX4_goesUnseen 17 = .ok (.aload_n 0, 1) := dk_42 (dk_at dksX4_goesUnseen_0 17 rfl rfl)
theorem dX4_goesUnseen_18 : decode cX4_goesUnseen 18 = .ok (.getfield 39, 3) := dk_180 0 39 (dk_at dksX4_goesUnseen_0 18 rfl rfl)
theorem dX4_goesUnseen_21 : decode cX4_goesUnseen 21 = .ok (.bipush 100, 2) := dk_16 100 (dk_at dksX4_goesUnseen_0 21 rfl rfl)
theorem dX4_goesUnseen_23 : decode cX4_goesUnseen 23 = .ok (.iload_n 1, 1) := dk_27 (dk_at dksX4_goesUnseen_0 23 rfl rfl)
theorem dX4_goesUnseen_24 : decode cX4_goesUnseen 24 = .ok (.imul, 1) := dk_104 (dk_at dksX4_goesUnseen_1 0 rfl rfl)
theorem dX4_goesUnseen_25 : decode cX4_goesUnseen 25 = .ok (.iload_n 2, 1) := dk_28 (dk_at dksX4_goesUnseen_1 1 rfl rfl)
theorem dX4_goesUnseen_26 : decode cX4_goesUnseen 26 = .ok (.iadd, 1) := dk_96 (dk_at dksX4_goesUnseen_1 2 rfl rfl)
theorem dX4_goesUnseen_27 : decode cX4_goesUnseen 27 = .ok (.iaload, 1) := dk_46 (dk_at dksX4_goesUnseen_1 3 rfl rfl)
theorem dX4_goesUnseen_28 : decode cX4_goesUnseen 28 = .ok (.aload_n 0, 1) := dk_42 (dk_at dksX4_goesUnseen_1 4 rfl rfl)
theorem dX4_goesUnseen_29 : decode cX4_goesUnseen 29 = .ok (.getfield 318, 3) := dk_180 1 62 (dk_at dksX4_goesUnseen_1 5 rfl rfl)
theorem dX4_goesUnseen_32 : decode cX4_goesUnseen 32 = .ok (.iand, 1) := dk_126 (dk_at dksX4_goesUnseen_1 8 rfl rfl)
theorem dX4_goesUnseen_33 : decode cX4_goesUnseen 33 = .ok (.istore_n 3, 1) := dk_62 (dk_at dksX4_goesUnseen_1 9 rfl rfl)
theorem dX4_goesUnseen_34 : decode cX4_goesUnseen 34 = .ok (.iload_n 3, 1) := dk_29 (dk_at dksX4_goesUnseen_1 10 rfl rfl)
theorem dX4_goesUnseen_35 : decode cX4_goesUnseen 35 = .ok (.ifCond .ne 43, 3) := dk_154 0 43 (dk_at dksX4_goesUnseen_1 11 rfl rfl)
theorem dX4_goesUnseen_38 : decode cX4_goesUnseen 38 = .ok (.aload_n 0, 1) := dk_42 (dk_at dksX4_goesUnseen_1 14 rfl rfl)
theorem dX4_goesUnseen_39 : decode cX4_goesUnseen 39 = .ok (.aload_n 0, 1) := dk_42 (dk_at dksX4_goesUnseen_1 15 rfl rfl)
theorem dX4_goesUnseen_40 : decode cX4_goesUnseen 40 = .ok (.getfield 309, 3) := dk_180 1 53 (dk_at dksX4_goesUnseen_1 16 rfl rfl)
theorem dX4_goesUnseen_43 : decode cX4_goesUnseen 43 = .ok (.iload_n 2, 1) := dk_28 (dk_at dksX4_goesUnseen_1 19 rfl rfl)
theorem dX4_goesUnseen_44 : decode cX4_goesUnseen 44 = .ok (.invokevirtual 324, 3) := dk_182 1 68 (dk_at dksX4_goesUnseen_1 20 rfl rfl)
theorem dX4_goesUnseen_47 : decode cX4_goesUnseen 47 = .ok (.ifCond .ne 31, 3) := dk_154 0 31 (dk_at dksX4_goesUnseen_2 0 rfl rfl)
theorem dX4_goesUnseen_50 : decode cX4_goesUnseen 50 = .ok (.aload_n 0, 1) := dk_42 (dk_at dksX4_goesUnseen_2 3 rfl rfl)
theorem dX4_goesUnseen_51 : decode cX4_goesUnseen 51 = .ok (.aload_n 0, 1) := dk_42 (dk_at dksX4_goesUnseen_2 4 rfl rfl)
theorem dX4_goesUnseen_52 : decode cX4_goesUnseen 52 = .ok (.getfield 327, 3) := dk_180 1 71 (dk_at dksX4_goesUnseen_2 5 rfl rfl)
theorem dX4_goesUnseen_55 : decode cX4_goesUnseen 55 = .ok (.iload_n 2, 1) := dk_28 (dk_at dksX4_goesUnseen_2 8 rfl rfl)
theorem dX4_goesUnseen_56 : decode cX4_goesUnseen 56 = .ok (.invokevirtual 324, 3) := dk_182 1 68 (dk_at dksX4_goesUnseen_2 9 rfl rfl)
theorem dX4_goesUnseen_59 : decode cX4_goesUnseen 59 = .ok (.ifCond .ne 19, 3) := dk_154 0 19 (dk_at dksX4_goesUnseen_2 12 rfl rfl)
theorem dX4_goesUnseen_62 : decode cX4_goesUnseen 62 = .ok (.aload_n 0, 1) := dk_42 (dk_at dksX4_goesUnseen_2 15 rfl rfl)
theorem dX4_goesUnseen_63 : decode cX4_goesUnseen 63 = .ok (.aload_n 0, 1) := dk_42 (dk_at dksX4_goesUnseen_2 16 rfl rfl)
theorem dX4_goesUnseen_64 : decode cX4_goesUnseen 64 = .ok (.getfield 330, 3) := dk_180 1 74 (dk_at dksX4_goesUnseen_2 17 rfl rfl)
theorem dX4_goesUnseen_67 : decode cX4_goesUnseen 67 = .ok (.iload_n 2, 1) := dk_28 (dk_at dksX4_goesUnseen_2 20 rfl rfl)
theorem dX4_goesUnseen_68 : decode cX4_goesUnseen 68 = .ok (.invokevirtual 324, 3) := dk_182 1 68 (dk_at dksX4_goesUnseen_2 21 rfl rfl)
theorem dX4_goesUnseen_71 : decode cX4_goesUnseen 71 = .ok (.ifCond .ne 7, 3) := dk_154 0 7 (dk_at dksX4_goesUnseen_3 0 rfl rfl)
theorem dX4_goesUnseen_74 : decode cX4_goesUnseen 74 = .ok (.iconst 1, 1) := dk_4 (dk_at dksX4_goesUnseen_3 3 rfl rfl)
theorem dX4_goesUnseen_75 : decode cX4_goesUnseen 75 = .ok (.goto 4, 3) := dk_167 0 4 (dk_at dksX4_goesUnseen_3 4 rfl rfl)
theorem dX4_goesUnseen_78 : decode cX4_goesUnseen 78 = .ok (.iconst 0, 1) := dk_3 (dk_at dksX4_goesUnseen_3 7 rfl rfl)
theorem dX4_goesUnseen_79 : decode cX4_goesUnseen 79 = .ok (.ireturn, 1) := dk_172 (dk_at dksX4_goesUnseen_3 8 rfl rfl)
abbrev cX4_seers : ByteArray := prog_26_method_58_code
def yX4_seers : MethodName := ⟨RX4, "seers", "(II)I"⟩
def dkwX4_seers_4 : List UInt8 := [62, 132, 5, 1, 167, 255, 200, 29, 42, 180, 1, 62, 126, 172]
abbrev dktX4_seers_4 : List UInt8 := dkwX4_seers_4 ++ []
def dkwX4_seers_3 : List UInt8 := [180, 0, 27, 28, 46, 42, 180, 0, 17, 16, 100, 21, 5, 96, 46, 161, 0, 10, 29, 4, 21, 5, 120, 128]
abbrev dktX4_seers_3 : List UInt8 := dkwX4_seers_3 ++ dktX4_seers_4
def dkwX4_seers_2 : List UInt8 := [162, 0, 53, 27, 42, 180, 0, 24, 160, 0, 45, 21, 4, 21, 5, 184, 0, 179, 153, 0, 29, 42]
abbrev dktX4_seers_2 : List UInt8 := dkwX4_seers_2 ++ dktX4_seers_3
def dkwX4_seers_1 : List UInt8 := [28, 182, 1, 59, 54, 4, 29, 21, 4, 2, 130, 126, 62, 3, 54, 5, 21, 5, 42, 180, 0, 24]
abbrev dktX4_seers_1 : List UInt8 := dkwX4_seers_1 ++ dktX4_seers_2
def dkwX4_seers_0 : List UInt8 := [42, 180, 0, 33, 16, 100, 27, 104, 28, 96, 46, 62, 42, 180, 1, 56, 154, 0, 7, 3, 167, 0, 8, 42]
abbrev dktX4_seers_0 : List UInt8 := dkwX4_seers_0 ++ dktX4_seers_1
theorem dksX4_seers_0 : cX4_seers.data.toList.drop 0 = dktX4_seers_0 := by decide +kernel
theorem dksX4_seers_1 : cX4_seers.data.toList.drop 24 = dktX4_seers_1 := dk_seg dksX4_seers_0 24 rfl rfl
theorem dksX4_seers_2 : cX4_seers.data.toList.drop 46 = dktX4_seers_2 := dk_seg dksX4_seers_1 22 rfl rfl
theorem dksX4_seers_3 : cX4_seers.data.toList.drop 68 = dktX4_seers_3 := dk_seg dksX4_seers_2 22 rfl rfl
theorem dksX4_seers_4 : cX4_seers.data.toList.drop 92 = dktX4_seers_4 := dk_seg dksX4_seers_3 24 rfl rfl
theorem dX4_seers_0 : decode cX4_seers 0 = .ok (.aload_n 0, 1) := dk_42 (dk_at dksX4_seers_0 0 rfl rfl)
theorem dX4_seers_1 : decode cX4_seers 1 = .ok (.getfield 33, 3) := dk_180 0 33 (dk_at dksX4_seers_0 1 rfl rfl)
theorem dX4_seers_4 : decode cX4_seers 4 = .ok (.bipush 100, 2) := dk_16 100 (dk_at dksX4_seers_0 4 rfl rfl)
theorem dX4_seers_6 : decode cX4_seers 6 = .ok (.iload_n 1, 1) := dk_27 (dk_at dksX4_seers_0 6 rfl rfl)
theorem dX4_seers_7 : decode cX4_seers 7 = .ok (.imul, 1) := dk_104 (dk_at dksX4_seers_0 7 rfl rfl)
theorem dX4_seers_8 : decode cX4_seers 8 = .ok (.iload_n 2, 1) := dk_28 (dk_at dksX4_seers_0 8 rfl rfl)
theorem dX4_seers_9 : decode cX4_seers 9 = .ok (.iadd, 1) := dk_96 (dk_at dksX4_seers_0 9 rfl rfl)
theorem dX4_seers_10 : decode cX4_seers 10 = .ok (.iaload, 1) := dk_46 (dk_at dksX4_seers_0 10 rfl rfl)
theorem dX4_seers_11 : decode cX4_seers 11 = .ok (.istore_n 3, 1) := dk_62 (dk_at dksX4_seers_0 11 rfl rfl)
theorem dX4_seers_12 : decode cX4_seers 12 = .ok (.aload_n 0, 1) := dk_42 (dk_at dksX4_seers_0 12 rfl rfl)
theorem dX4_seers_13 : decode cX4_seers 13 = .ok (.getfield 312, 3) := dk_180 1 56 (dk_at dksX4_seers_0 13 rfl rfl)
theorem dX4_seers_16 : decode cX4_seers 16 = .ok (.ifCond .ne 7, 3) := dk_154 0 7 (dk_at dksX4_seers_0 16 rfl rfl)
theorem dX4_seers_19 : decode cX4_seers 19 = .ok (.iconst 0, 1) := dk_3 (dk_at dksX4_seers_0 19 rfl rfl)
theorem dX4_seers_20 : decode cX4_seers 20 = .ok (.goto 8, 3) := dk_167 0 8 (dk_at dksX4_seers_0 20 rfl rfl)
theorem dX4_seers_23 : decode cX4_seers 23 = .ok (.aload_n 0, 1) := dk_42 (dk_at dksX4_seers_0 23 rfl rfl)
theorem dX4_seers_24 : decode cX4_seers 24 = .ok (.iload_n 2, 1) := dk_28 (dk_at dksX4_seers_1 0 rfl rfl)
theorem dX4_seers_25 : decode cX4_seers 25 = .ok (.invokevirtual 315, 3) := dk_182 1 59 (dk_at dksX4_seers_1 1 rfl rfl)
theorem dX4_seers_28 : decode cX4_seers 28 = .ok (.istore 4, 2) := dk_54 4 (dk_at dksX4_seers_1 4 rfl rfl)
theorem dX4_seers_30 : decode cX4_seers 30 = .ok (.iload_n 3, 1) := dk_29 (dk_at dksX4_seers_1 6 rfl rfl)
theorem dX4_seers_31 : decode cX4_seers 31 = .ok (.iload 4, 2) := dk_21 4 (dk_at dksX4_seers_1 7 rfl rfl)
theorem dX4_seers_33 : decode cX4_seers 33 = .ok (.iconst (-1), 1) := dk_2 (dk_at dksX4_seers_1 9 rfl rfl)
theorem dX4_seers_34 : decode cX4_seers 34 = .ok (.ixor, 1) := dk_130 (dk_at dksX4_seers_1 10 rfl rfl)
theorem dX4_seers_35 : decode cX4_seers 35 = .ok (.iand, 1) := dk_126 (dk_at dksX4_seers_1 11 rfl rfl)
theorem dX4_seers_36 : decode cX4_seers 36 = .ok (.istore_n 3, 1) := dk_62 (dk_at dksX4_seers_1 12 rfl rfl)
theorem dX4_seers_37 : decode cX4_seers 37 = .ok (.iconst 0, 1) := dk_3 (dk_at dksX4_seers_1 13 rfl rfl)
theorem dX4_seers_38 : decode cX4_seers 38 = .ok (.istore 5, 2) := dk_54 5 (dk_at dksX4_seers_1 14 rfl rfl)
theorem dX4_seers_40 : decode cX4_seers 40 = .ok (.iload 5, 2) := dk_21 5 (dk_at dksX4_seers_1 16 rfl rfl)
theorem dX4_seers_42 : decode cX4_seers 42 = .ok (.aload_n 0, 1) := dk_42 (dk_at dksX4_seers_1 18 rfl rfl)
theorem dX4_seers_43 : decode cX4_seers 43 = .ok (.getfield 24, 3) := dk_180 0 24 (dk_at dksX4_seers_1 19 rfl rfl)
theorem dX4_seers_46 : decode cX4_seers 46 = .ok (.if_icmp .ge 53, 3) := dk_162 0 53 (dk_at dksX4_seers_2 0 rfl rfl)
theorem dX4_seers_49 : decode cX4_seers 49 = .ok (.iload_n 1, 1) := dk_27 (dk_at dksX4_seers_2 3 rfl rfl)
theorem dX4_seers_50 : decode cX4_seers 50 = .ok (.aload_n 0, 1) := dk_42 (dk_at dksX4_seers_2 4 rfl rfl)
theorem dX4_seers_51 : decode cX4_seers 51 = .ok (.getfield 24, 3) := dk_180 0 24 (dk_at dksX4_seers_2 5 rfl rfl)
theorem dX4_seers_54 : decode cX4_seers 54 = .ok (.if_icmp .ne 45, 3) := dk_160 0 45 (dk_at dksX4_seers_2 8 rfl rfl)
theorem dX4_seers_57 : decode cX4_seers 57 = .ok (.iload 4, 2) := dk_21 4 (dk_at dksX4_seers_2 11 rfl rfl)
theorem dX4_seers_59 : decode cX4_seers 59 = .ok (.iload 5, 2) := dk_21 5 (dk_at dksX4_seers_2 13 rfl rfl)
theorem dX4_seers_61 : decode cX4_seers 61 = .ok (.invokestatic 179, 3) := dk_184 0 179 (dk_at dksX4_seers_2 15 rfl rfl)
theorem dX4_seers_64 : decode cX4_seers 64 = .ok (.ifCond .eq 29, 3) := dk_153 0 29 (dk_at dksX4_seers_2 18 rfl rfl)
theorem dX4_seers_67 : decode cX4_seers 67 = .ok (.aload_n 0, 1) := dk_42 (dk_at dksX4_seers_2 21 rfl rfl)
theorem dX4_seers_68 : decode cX4_seers 68 = .ok (.getfield 27, 3) := dk_180 0 27 (dk_at dksX4_seers_3 0 rfl rfl)
theorem dX4_seers_71 : decode cX4_seers 71 = .ok (.iload_n 2, 1) := dk_28 (dk_at dksX4_seers_3 3 rfl rfl)
theorem dX4_seers_72 : decode cX4_seers 72 = .ok (.iaload, 1) := dk_46 (dk_at dksX4_seers_3 4 rfl rfl)
theorem dX4_seers_73 : decode cX4_seers 73 = .ok (.aload_n 0, 1) := dk_42 (dk_at dksX4_seers_3 5 rfl rfl)
theorem dX4_seers_74 : decode cX4_seers 74 = .ok (.getfield 17, 3) := dk_180 0 17 (dk_at dksX4_seers_3 6 rfl rfl)
theorem dX4_seers_77 : decode cX4_seers 77 = .ok (.bipush 100, 2) := dk_16 100 (dk_at dksX4_seers_3 9 rfl rfl)
theorem dX4_seers_79 : decode cX4_seers 79 = .ok (.iload 5, 2) := dk_21 5 (dk_at dksX4_seers_3 11 rfl rfl)
theorem dX4_seers_81 : decode cX4_seers 81 = .ok (.iadd, 1) := dk_96 (dk_at dksX4_seers_3 13 rfl rfl)
theorem dX4_seers_82 : decode cX4_seers 82 = .ok (.iaload, 1) := dk_46 (dk_at dksX4_seers_3 14 rfl rfl)
theorem dX4_seers_83 : decode cX4_seers 83 = .ok (.if_icmp .lt 10, 3) := dk_161 0 10 (dk_at dksX4_seers_3 15 rfl rfl)
theorem dX4_seers_86 : decode cX4_seers 86 = .ok (.iload_n 3, 1) := dk_29 (dk_at dksX4_seers_3 18 rfl rfl)
theorem dX4_seers_87 : decode cX4_seers 87 = .ok (.iconst 1, 1) := dk_4 (dk_at dksX4_seers_3 19 rfl rfl)
theorem dX4_seers_88 : decode cX4_seers 88 = .ok (.iload 5, 2) := dk_21 5 (dk_at dksX4_seers_3 20 rfl rfl)
theorem dX4_seers_90 : decode cX4_seers 90 = .ok (.ishl, 1) := dk_120 (dk_at dksX4_seers_3 22 rfl rfl)
theorem dX4_seers_91 : decode cX4_seers 91 = .ok (.ior, 1) := dk_128 (dk_at dksX4_seers_3 23 rfl rfl)
theorem dX4_seers_92 : decode cX4_seers 92 = .ok (.istore_n 3, 1) := dk_62 (dk_at dksX4_seers_4 0 rfl rfl)
theorem dX4_seers_93 : decode cX4_seers 93 = .ok (.iinc 5 1, 3) := dk_132 5 1 (dk_at dksX4_seers_4 1 rfl rfl)
theorem dX4_seers_96 : decode cX4_seers 96 = .ok (.goto (-56), 3) := dk_167 255 200 (dk_at dksX4_seers_4 4 rfl rfl)
theorem dX4_seers_99 : decode cX4_seers 99 = .ok (.iload_n 3, 1) := dk_29 (dk_at dksX4_seers_4 7 rfl rfl)
theorem dX4_seers_100 : decode cX4_seers 100 = .ok (.aload_n 0, 1) := dk_42 (dk_at dksX4_seers_4 8 rfl rfl)
theorem dX4_seers_101 : decode cX4_seers 101 = .ok (.getfield 318, 3) := dk_180 1 62 (dk_at dksX4_seers_4 9 rfl rfl)
theorem dX4_seers_104 : decode cX4_seers 104 = .ok (.iand, 1) := dk_126 (dk_at dksX4_seers_4 12 rfl rfl)
theorem dX4_seers_105 : decode cX4_seers 105 = .ok (.ireturn, 1) := dk_172 (dk_at dksX4_seers_4 13 rfl rfl)
abbrev cX4_ledBy : ByteArray := prog_26_method_57_code
def yX4_ledBy : MethodName := ⟨RX4, "ledBy", "(I)I"⟩
def dkwX4_ledBy_2 : List UInt8 := [28, 42, 180, 0, 42, 27, 46, 2, 130, 126, 172]
abbrev dktX4_ledBy_2 : List UInt8 := dkwX4_ledBy_2 ++ []
def dkwX4_ledBy_1 : List UInt8 := [16, 110, 29, 96, 46, 42, 180, 1, 56, 162, 0, 9, 28, 4, 29, 120, 128, 61, 132, 3, 1, 167, 255, 215]
abbrev dktX4_ledBy_1 : List UInt8 := dkwX4_ledBy_1 ++ dktX4_ledBy_2
def dkwX4_ledBy_0 : List UInt8 := [3, 61, 3, 62, 29, 42, 180, 0, 24, 162, 0, 39, 29, 42, 180, 1, 53, 159, 0, 25, 42, 180, 0, 17]
abbrev dktX4_ledBy_0 : List UInt8 := dkwX4_ledBy_0 ++ dktX4_ledBy_1
theorem dksX4_ledBy_0 : cX4_ledBy.data.toList.drop 0 = dktX4_ledBy_0 := by decide +kernel
theorem dksX4_ledBy_1 : cX4_ledBy.data.toList.drop 24 = dktX4_ledBy_1 := dk_seg dksX4_ledBy_0 24 rfl rfl
theorem dksX4_ledBy_2 : cX4_ledBy.data.toList.drop 48 = dktX4_ledBy_2 := dk_seg dksX4_ledBy_1 24 rfl rfl
theorem dX4_ledBy_0 : decode cX4_ledBy 0 = .ok (.iconst 0, 1) := dk_3 (dk_at dksX4_ledBy_0 0 rfl rfl)
theorem dX4_ledBy_1 : decode cX4_ledBy 1 = .ok (.istore_n 2, 1) := dk_61 (dk_at dksX4_ledBy_0 1 rfl rfl)
theorem dX4_ledBy_2 : decode cX4_ledBy 2 = .ok (.iconst 0, 1) := dk_3 (dk_at dksX4_ledBy_0 2 rfl rfl)
theorem dX4_ledBy_3 : decode cX4_ledBy 3 = .ok (.istore_n 3, 1) := dk_62 (dk_at dksX4_ledBy_0 3 rfl rfl)
theorem dX4_ledBy_4 : decode cX4_ledBy 4 = .ok (.iload_n 3, 1) := dk_29 (dk_at dksX4_ledBy_0 4 rfl rfl)
theorem dX4_ledBy_5 : decode cX4_ledBy 5 = .ok (.aload_n 0, 1) := dk_42 (dk_at dksX4_ledBy_0 5 rfl rfl)
theorem dX4_ledBy_6 : decode cX4_ledBy 6 = .ok (.getfield 24, 3) := dk_180 0 24 (dk_at dksX4_ledBy_0 6 rfl rfl)
theorem dX4_ledBy_9 : decode cX4_ledBy 9 = .ok (.if_icmp .ge 39, 3) := dk_162 0 39 (dk_at dksX4_ledBy_0 9 rfl rfl)
theorem dX4_ledBy_12 : decode cX4_ledBy 12 = .ok (.iload_n 3, 1) := dk_29 (dk_at dksX4_ledBy_0 12 rfl rfl)
theorem dX4_ledBy_13 : decode cX4_ledBy 13 = .ok (.aload_n 0, 1) := dk_42 (dk_at dksX4_ledBy_0 13 rfl rfl)
theorem dX4_ledBy_14 : decode cX4_ledBy 14 = .ok (.getfield 309, 3) := dk_180 1 53 (dk_at dksX4_ledBy_0 14 rfl rfl)
theorem dX4_ledBy_17 : decode cX4_ledBy 17 = .ok (.if_icmp .eq 25, 3) := dk_159 0 25 (dk_at dksX4_ledBy_0 17 rfl rfl)
theorem dX4_ledBy_20 : decode cX4_ledBy 20 = .ok (.aload_n 0, 1) := dk_42 (dk_at dksX4_ledBy_0 20 rfl rfl)
theorem dX4_ledBy_21 : decode cX4_ledBy 21 = .ok (.getfield 17, 3) := dk_180 0 17 (dk_at dksX4_ledBy_0 21 rfl rfl)
theorem dX4_ledBy_24 : decode cX4_ledBy 24 = .ok (.bipush 110, 2) := dk_16 110 (dk_at dksX4_ledBy_1 0 rfl rfl)
theorem dX4_ledBy_26 : decode cX4_ledBy 26 = .ok (.iload_n 3, 1) := dk_29 (dk_at dksX4_ledBy_1 2 rfl rfl)
theorem dX4_ledBy_27 : decode cX4_ledBy 27 = .ok (.iadd, 1) := dk_96 (dk_at dksX4_ledBy_1 3 rfl rfl)
theorem dX4_ledBy_28 : decode cX4_ledBy 28 = .ok (.iaload, 1) := dk_46 (dk_at dksX4_ledBy_1 4 rfl rfl)
theorem dX4_ledBy_29 : decode cX4_ledBy 29 = .ok (.aload_n 0, 1) := dk_42 (dk_at dksX4_ledBy_1 5 rfl rfl)
theorem dX4_ledBy_30 : decode cX4_ledBy 30 = .ok (.getfield 312, 3) := dk_180 1 56 (dk_at dksX4_ledBy_1 6 rfl rfl)
theorem dX4_ledBy_33 : decode cX4_ledBy 33 = .ok (.if_icmp .ge 9, 3) := dk_162 0 9 (dk_at dksX4_ledBy_1 9 rfl rfl)
theorem dX4_ledBy_36 : decode cX4_ledBy 36 = .ok (.iload_n 2, 1) := dk_28 (dk_at dksX4_ledBy_1 12 rfl rfl)
theorem dX4_ledBy_37 : decode cX4_ledBy 37 = .ok (.iconst 1, 1) := dk_4 (dk_at dksX4_ledBy_1 13 rfl rfl)
theorem dX4_ledBy_38 : decode cX4_ledBy 38 = .ok (.iload_n 3, 1) := dk_29 (dk_at dksX4_ledBy_1 14 rfl rfl)
theorem dX4_ledBy_39 : decode cX4_ledBy 39 = .ok (.ishl, 1) := dk_120 (dk_at dksX4_ledBy_1 15 rfl rfl)
theorem dX4_ledBy_40 : decode cX4_ledBy 40 = .ok (.ior, 1) := dk_128 (dk_at dksX4_ledBy_1 16 rfl rfl)
theorem dX4_ledBy_41 : decode cX4_ledBy 41 = .ok (.istore_n 2, 1) := dk_61 (dk_at dksX4_ledBy_1 17 rfl rfl)
theorem dX4_ledBy_42 : decode cX4_ledBy 42 = .ok (.iinc 3 1, 3) := dk_132 3 1 (dk_at dksX4_ledBy_1 18 rfl rfl)
theorem dX4_ledBy_45 : decode cX4_ledBy 45 = .ok (.goto (-41), 3) := dk_167 255 215 (dk_at dksX4_ledBy_1 21 rfl rfl)
theorem dX4_ledBy_48 : decode cX4_ledBy 48 = .ok (.iload_n 2, 1) := dk_28 (dk_at dksX4_ledBy_2 0 rfl rfl)
theorem dX4_ledBy_49 : decode cX4_ledBy 49 = .ok (.aload_n 0, 1) := dk_42 (dk_at dksX4_ledBy_2 1 rfl rfl)
theorem dX4_ledBy_50 : decode cX4_ledBy 50 = .ok (.getfield 42, 3) := dk_180 0 42 (dk_at dksX4_ledBy_2 2 rfl rfl)
theorem dX4_ledBy_53 : decode cX4_ledBy 53 = .ok (.iload_n 1, 1) := dk_27 (dk_at dksX4_ledBy_2 5 rfl rfl)
theorem dX4_ledBy_54 : decode cX4_ledBy 54 = .ok (.iaload, 1) := dk_46 (dk_at dksX4_ledBy_2 6 rfl rfl)
theorem dX4_ledBy_55 : decode cX4_ledBy 55 = .ok (.iconst (-1), 1) := dk_2 (dk_at dksX4_ledBy_2 7 rfl rfl)
theorem dX4_ledBy_56 : decode cX4_ledBy 56 = .ok (.ixor, 1) := dk_130 (dk_at dksX4_ledBy_2 8 rfl rfl)
theorem dX4_ledBy_57 : decode cX4_ledBy 57 = .ok (.iand, 1) := dk_126 (dk_at dksX4_ledBy_2 9 rfl rfl)
theorem dX4_ledBy_58 : decode cX4_ledBy 58 = .ok (.ireturn, 1) := dk_172 (dk_at dksX4_ledBy_2 10 rfl rfl)
abbrev cX4_can : ByteArray := prog_26_method_62_code
def yX4_can : MethodName := ⟨RX4, "can", "(IIII)Z"⟩
def dkwX4_can_12 : List UInt8 := [89, 180, 1, 65, 4, 42, 180, 0, 60, 27, 46, 120, 128, 181, 1, 65, 4, 172]
abbrev dktX4_can_12 : List UInt8 := dkwX4_can_12 ++ []
def dkwX4_can_11 : List UInt8 := [4, 130, 104, 28, 96, 46, 153, 0, 15, 42, 42, 180, 1, 53, 28, 182, 1, 68, 153, 0, 5, 3, 172, 42]
abbrev dktX4_can_11 : List UInt8 := dkwX4_can_11 ++ dktX4_can_12
def dkwX4_can_10 : List UInt8 := [130, 126, 42, 180, 1, 62, 126, 154, 0, 7, 4, 167, 0, 4, 3, 172, 42, 180, 0, 39, 16, 100, 21, 5]
abbrev dktX4_can_10 : List UInt8 := dkwX4_can_10 ++ dktX4_can_11
def dkwX4_can_9 : List UInt8 := [180, 1, 53, 104, 28, 96, 46, 42, 180, 1, 56, 154, 0, 7, 3, 167, 0, 8, 42, 28, 182, 1, 59, 2]
abbrev dktX4_can_9 : List UInt8 := dkwX4_can_9 ++ dktX4_can_10
def dkwX4_can_8 : List UInt8 := [46, 42, 180, 0, 63, 27, 46, 163, 0, 7, 4, 167, 0, 4, 3, 172, 42, 180, 0, 30, 16, 100, 42]
abbrev dktX4_can_8 : List UInt8 := dkwX4_can_8 ++ dktX4_can_9
def dkwX4_can_7 : List UInt8 := [42, 21, 5, 21, 7, 182, 1, 81, 54, 6, 132, 7, 1, 167, 255, 225, 21, 6, 172, 42, 180, 0, 27, 28]
abbrev dktX4_can_7 : List UInt8 := dkwX4_can_7 ++ dktX4_can_8
def dkwX4_can_6 : List UInt8 := [4, 54, 6, 28, 54, 7, 21, 7, 21, 4, 164, 0, 9, 21, 7, 28, 160, 0, 24, 21, 6, 153, 0, 19]
abbrev dktX4_can_6 : List UInt8 := dkwX4_can_6 ++ dktX4_can_7
def dkwX4_can_5 : List UInt8 := [170, 0, 0, 0, 0, 0, 146, 0, 0, 0, 0, 0, 0, 0, 4, 0, 0, 0, 35, 0, 0, 0, 146, 0, 0, 0, 146, 0, 0, 0, 78, 0, 0, 0, 99]
abbrev dktX4_can_5 : List UInt8 := dkwX4_can_5 ++ dktX4_can_6
def dkwX4_can_4 : List UInt8 := [180, 0, 57, 27, 46]
abbrev dktX4_can_4 : List UInt8 := dkwX4_can_4 ++ dktX4_can_5
def dkwX4_can_3 : List UInt8 := [21, 5, 42, 180, 0, 63, 27, 46, 29, 182, 1, 77, 172, 28, 16, 99, 164, 0, 5, 3, 172, 42]
abbrev dktX4_can_3 : List UInt8 := dkwX4_can_3 ++ dktX4_can_4
def dkwX4_can_2 : List UInt8 := [167, 0, 7, 42, 180, 1, 56, 181, 1, 56, 4, 172, 42, 180, 0, 57, 27, 46, 16, 7, 160, 0, 17, 42]
abbrev dktX4_can_2 : List UInt8 := dkwX4_can_2 ++ dktX4_can_3
def dkwX4_can_1 : List UInt8 := [160, 0, 35, 42, 42, 180, 0, 63, 27, 46, 42, 180, 1, 56, 164, 0, 12, 42, 180, 0, 63, 27, 46]
abbrev dktX4_can_1 : List UInt8 := dkwX4_can_1 ++ dktX4_can_2
def dkwX4_can_0 : List UInt8 := [5, 42, 180, 1, 53, 104, 42, 180, 0, 60, 27, 46, 96, 54, 5, 42, 180, 0, 57, 27, 46, 16, 6]
abbrev dktX4_can_0 : List UInt8 := dkwX4_can_0 ++ dktX4_can_1
theorem dksX4_can_0 : cX4_can.data.toList.drop 0 = dktX4_can_0 := by decide +kernel
theorem dksX4_can_1 : cX4_can.data.toList.drop 23 = dktX4_can_1 := dk_seg dksX4_can_0 23 rfl rfl
theorem dksX4_can_2 : cX4_can.data.toList.drop 46 = dktX4_can_2 := dk_seg dksX4_can_1 23 rfl rfl
theorem dksX4_can_3 : cX4_can.data.toList.drop 70 = dktX4_can_3 := dk_seg dksX4_can_2 24 rfl rfl
theorem dksX4_can_4 : cX4_can.data.toList.drop 92 = dktX4_can_4 := dk_seg dksX4_can_3 22 rfl rfl
theorem dksX4_can_5 : cX4_can.data.toList.drop 97 = dktX4_can_5 := dk_seg dksX4_can_4 5 rfl rfl
theorem dksX4_can_6 : cX4_can.data.toList.drop 132 = dktX4_can_6 := dk_seg dksX4_can_5 35 rfl rfl
theorem dksX4_can_7 : cX4_can.data.toList.drop 156 = dktX4_can_7 := dk_seg dksX4_can_6 24 rfl rfl
theorem dksX4_can_8 : cX4_can.data.toList.drop 180 = dktX4_can_8 := dk_seg dksX4_can_7 24 rfl rfl
theorem dksX4_can_9 : cX4_can.data.toList.drop 203 = dktX4_can_9 := dk_seg dksX4_can_8 23 rfl rfl
theorem dksX4_can_10 : cX4_can.data.toList.drop 227 = dktX4_can_10 := dk_seg dksX4_can_9 24 rfl rfl
theorem dksX4_can_11 : cX4_can.data.toList.drop 251 = dktX4_can_11 := dk_seg dksX4_can_10 24 rfl rfl
theorem dksX4_can_12 : cX4_can.data.toList.drop 275 = dktX4_can_12 := dk_seg dksX4_can_11 24 rfl rfl
theorem dX4_can_0 : decode cX4_can 0 = .ok (.iconst 2, 1) := dk_5 (dk_at dksX4_can_0 0 rfl rfl)
theorem dX4_can_1 : decode cX4_can 1 = .ok (.aload_n 0, 1) := dk_42 (dk_at dksX4_can_0 1 rfl rfl)
theorem dX4_can_2 : decode cX4_can 2 = .ok (.getfield 309, 3) := dk_180 1 53 (dk_at dksX4_can_0 2 rfl rfl)
theorem dX4_can_5 : decode cX4_can 5 = .ok (.imul, 1) := dk_104 (dk_at dksX4_can_0 5 rfl rfl)
theorem dX4_can_6 : decode cX4_can 6 = .ok (.aload_n 0, 1) := dk_42 (dk_at dksX4_can_0 6 rfl rfl)
theorem dX4_can_7 : decode cX4_can 7 = .ok (.getfield 60, 3) := dk_180 0 60 (dk_at dksX4_can_0 7 rfl rfl)
theorem dX4_can_10 : decode cX4_can 10 = .ok (.iload_n 1, 1) := dk_27 (dk_at dksX4_can_0 10 rfl rfl)
theorem dX4_can_11 : decode cX4_can 11 = .ok (.iaload, 1) := dk_46 (dk_at dksX4_can_0 11 rfl rfl)
theorem dX4_can_12 : decode cX4_can 12 = .ok (.iadd, 1) := dk_96 (dk_at dksX4_can_0 12 rfl rfl)
theorem dX4_can_13 : decode cX4_can 13 = .ok (.istore 5, 2) := dk_54 5 (dk_at dksX4_can_0 13 rfl rfl)
theorem dX4_can_15 : decode cX4_can 15 = .ok (.aload_n 0, 1) := dk_42 (dk_at dksX4_can_0 15 rfl rfl)
theorem dX4_can_16 : decode cX4_can 16 = .ok (.getfield 57, 3) := dk_180 0 57 (dk_at dksX4_can_0 16 rfl rfl)
theorem dX4_can_19 : decode cX4_can 19 = .ok (.iload_n 1, 1) := dk_27 (dk_at dksX4_can_0 19 rfl rfl)
theorem dX4_can_20 : decode cX4_can 20 = .ok (.iaload, 1) := dk_46 (dk_at dksX4_can_0 20 rfl rfl)
theorem dX4_can_21 : decode cX4_can 21 = .ok (.bipush 6, 2) := dk_16 6 (dk_at dksX4_can_0 21 rfl rfl)
theorem dX4_can_23 : decode cX4_can 23 = .ok (.if_icmp .ne 35, 3) := dk_160 0 35 (dk_at dksX4_can_1 0 rfl rfl)
theorem dX4_can_26 : decode cX4_can 26 = .ok (.aload_n 0, 1) := dk_42 (dk_at dksX4_can_1 3 rfl rfl)
theorem dX4_can_27 : decode cX4_can 27 = .ok (.aload_n 0, 1) := dk_42 (dk_at dksX4_can_1 4 rfl rfl)
theorem dX4_can_28 : decode cX4_can 28 = .ok (.getfield 63, 3) := dk_180 0 63 (dk_at dksX4_can_1 5 rfl rfl)
theorem dX4_can_31 : decode cX4_can 31 = .ok (.iload_n 1, 1) := dk_27 (dk_at dksX4_can_1 8 rfl rfl)
theorem dX4_can_32 : decode cX4_can 32 = .ok (.iaload, 1) := dk_46 (dk_at dksX4_can_1 9 rfl rfl)
theorem dX4_can_33 : decode cX4_can 33 = .ok (.aload_n 0, 1) := dk_42 (dk_at dksX4_can_1 10 rfl rfl)
theorem dX4_can_34 : decode cX4_can 34 = .ok (.getfield 312, 3) := dk_180 1 56 (dk_at dksX4_can_1 11 rfl rfl)
theorem dX4_can_37 : decode cX4_can 37 = .ok (.if_icmp .le 12, 3) := dk_164 0 12 (dk_at dksX4_can_1 14 rfl rfl)
theorem dX4_can_40 : decode cX4_can 40 = .ok (.aload_n 0, 1) := dk_42 (dk_at dksX4_can_1 17 rfl rfl)
theorem dX4_can_41 : decode cX4_can 41 = .ok (.getfield 63, 3) := dk_180 0 63 (dk_at dksX4_can_1 18 rfl rfl)
theorem dX4_can_44 : decode cX4_can 44 = .ok (.iload_n 1, 1) := dk_27 (dk_at dksX4_can_1 21 rfl rfl)
theorem dX4_can_45 : decode cX4_can 45 = .ok (.iaload, 1) := dk_46 (dk_at dksX4_can_1 22 rfl rfl)
theorem dX4_can_46 : decode cX4_can 46 = .ok (.goto 7, 3) := dk_167 0 7 (dk_at dksX4_can_2 0 rfl rfl)
theorem dX4_can_49 : decode cX4_can 49 = .ok (.aload_n 0, 1) := dk_42 (dk_at dksX4_can_2 3 rfl rfl)
theorem dX4_can_50 : decode cX4_can 50 = .ok (.getfield 312, 3) := dk_180 1 56 (dk_at dksX4_can_2 4 rfl rfl)
theorem dX4_can_53 : decode cX4_can 53 = .ok (.putfield 312, 3) := dk_181 1 56 (dk_at dksX4_can_2 7 rfl rfl)
theorem dX4_can_56 : decode cX4_can 56 = .ok (.iconst 1, 1) := dk_4 (dk_at dksX4_can_2 10 rfl rfl)
theorem dX4_can_57 : decode cX4_can 57 = .ok (.ireturn, 1) := dk_172 (dk_at dksX4_can_2 11 rfl rfl)
theorem dX4_can_58 : decode cX4_can 58 = .ok (.aload_n 0, 1) := dk_42 (dk_at dksX4_can_2 12 rfl rfl)
theorem dX4_can_59 : decode cX4_can 59 = .ok (.getfield 57, 3) := dk_180 0 57 (dk_at dksX4_can_2 13 rfl rfl)
theorem dX4_can_62 : decode cX4_can 62 = .ok (.iload_n 1, 1) := dk_27 (dk_at dksX4_can_2 16 rfl rfl)
theorem dX4_can_63 : decode cX4_can 63 = .ok (.iaload, 1) := dk_46 (dk_at dksX4_can_2 17 rfl rfl)
theorem dX4_can_64 : decode cX4_can 64 = .ok (.bipush 7, 2) := dk_16 7 (dk_at dksX4_can_2 18 rfl rfl)
theorem dX4_can_66 : decode cX4_can 66 = .ok (.if_icmp .ne 17, 3) := dk_160 0 17 (dk_at dksX4_can_2 20 rfl rfl)
theorem dX4_can_69 : decode cX4_can 69 = .ok (.aload_n 0, 1) := dk_42 (dk_at dksX4_can_2 23 rfl rfl)
theorem dX4_can_70 : decode cX4_can 70 = .ok (.iload 5, 2) := dk_21 5 (dk_at dksX4_can_3 0 rfl rfl)
theorem dX4_can_72 : decode cX4_can 72 = .ok (.aload_n 0, 1) := dk_42 (dk_at dksX4_can_3 2 rfl rfl)
theorem dX4_can_73 : decode cX4_can 73 = .ok (.getfield 63, 3) := dk_180 0 63 (dk_at dksX4_can_3 3 rfl rfl)
theorem dX4_can_76 : decode cX4_can 76 = .ok (.iload_n 1, 1) := dk_27 (dk_at dksX4_can_3 6 rfl rfl)
theorem dX4_can_77 : decode cX4_can 77 = .ok (.iaload, 1) := dk_46 (dk_at dksX4_can_3 7 rfl rfl)
theorem dX4_can_78 : decode cX4_can 78 = .ok (.iload_n 3, 1) := dk_29 (dk_at dksX4_can_3 8 rfl rfl)
theorem dX4_can_79 : decode cX4_can 79 = .ok (.invokevirtual 333, 3) := dk_182 1 77 (dk_at dksX4_can_3 9 rfl rfl)
theorem dX4_can_82 : decode cX4_can 82 = .ok (.ireturn, 1) := dk_172 (dk_at dksX4_can_3 12 rfl rfl)
theorem dX4_can_83 : decode cX4_can 83 = .ok (.iload_n 2, 1) := dk_28 (dk_at dksX4_can_3 13 rfl rfl)
theorem dX4_can_84 : decode cX4_can 84 = .ok (.bipush 99, 2) := dk_16 99 (dk_at dksX4_can_3 14 rfl rfl)
theorem dX4_can_86 : decode cX4_can 86 = .ok (.if_icmp .le 5, 3) := dk_164 0 5 (dk_at dksX4_can_3 16 rfl rfl)
theorem dX4_can_89 : decode cX4_can 89 = .ok (.iconst 0, 1) := dk_3 (dk_at dksX4_can_3 19 rfl rfl)
theorem dX4_can_90 : decode cX4_can 90 = .ok (.ireturn, 1) := dk_172 (dk_at dksX4_can_3 20 rfl rfl)
theorem dX4_can_91 : decode cX4_can 91 = .ok (.aload_n 0, 1) := dk_42 (dk_at dksX4_can_3 21 rfl rfl)
theorem dX4_can_92 : decode cX4_can 92 = .ok (.getfield 57, 3) := dk_180 0 57 (dk_at dksX4_can_4 0 rfl rfl)
theorem dX4_can_95 : decode cX4_can 95 = .ok (.iload_n 1, 1) := dk_27 (dk_at dksX4_can_4 3 rfl rfl)
theorem dX4_can_96 : decode cX4_can 96 = .ok (.iaload, 1) := dk_46 (dk_at dksX4_can_4 4 rfl rfl)
theorem dX4_can_97 : decode cX4_can 97 = .ok (.tableswitch 146 0 4 #[35, 146, 146, 78, 99], 35) := by decide +kernel
theorem dX4_can_132 : decode cX4_can 132 = .ok (.iconst 1, 1) := dk_4 (dk_at dksX4_can_6 0 rfl rfl)
theorem dX4_can_133 : decode cX4_can 133 = .ok (.istore 6, 2) := dk_54 6 (dk_at dksX4_can_6 1 rfl rfl)
theorem dX4_can_135 : decode cX4_can 135 = .ok (.iload_n 2, 1) := dk_28 (dk_at dksX4_can_6 3 rfl rfl)
theorem dX4_can_136 : decode cX4_can 136 = .ok (.istore 7, 2) := dk_54 7 (dk_at dksX4_can_6 4 rfl rfl)
theorem dX4_can_138 : decode cX4_can 138 = .ok (.iload 7, 2) := dk_21 7 (dk_at dksX4_can_6 6 rfl rfl)
theorem dX4_can_140 : decode cX4_can 140 = .ok (.iload 4, 2) := dk_21 4 (dk_at dksX4_can_6 8 rfl rfl)
theorem dX4_can_142 : decode cX4_can 142 = .ok (.if_icmp .le 9, 3) := dk_164 0 9 (dk_at dksX4_can_6 10 rfl rfl)
theorem dX4_can_145 : decode cX4_can 145 = .ok (.iload 7, 2) := dk_21 7 (dk_at dksX4_can_6 13 rfl rfl)
theorem dX4_can_147 : decode cX4_can 147 = .ok (.iload_n 2, 1) := dk_28 (dk_at dksX4_can_6 15 rfl rfl)
theorem dX4_can_148 : decode cX4_can 148 = .ok (.if_icmp .ne 24, 3) := dk_160 0 24 (dk_at dksX4_can_6 16 rfl rfl)
theorem dX4_can_151 : decode cX4_can 151 = .ok (.iload 6, 2) := dk_21 6 (dk_at dksX4_can_6 19 rfl rfl)
theorem dX4_can_153 : decode cX4_can 153 = .ok (.ifCond .eq 19, 3) := dk_153 0 19 (dk_at dksX4_can_6 21 rfl rfl)
theorem dX4_can_156 : decode cX4_can 156 = .ok (.aload_n 0, 1) := dk_42 (dk_at dksX4_can_7 0 rfl rfl)
theorem dX4_can_157 : decode cX4_can 157 = .ok (.iload 5, 2) := dk_21 5 (dk_at dksX4_can_7 1 rfl rfl)
theorem dX4_can_159 : decode cX4_can 159 = .ok (.iload 7, 2) := dk_21 7 (dk_at dksX4_can_7 3 rfl rfl)
theorem dX4_can_161 : decode cX4_can 161 = .ok (.invokevirtual 337, 3) := dk_182 1 81 (dk_at dksX4_can_7 5 rfl rfl)
theorem dX4_can_164 : decode cX4_can 164 = .ok (.istore 6, 2) := dk_54 6 (dk_at dksX4_can_7 8 rfl rfl)
theorem dX4_can_166 : decode cX4_can 166 = .ok (.iinc 7 1, 3) := dk_132 7 1 (dk_at dksX4_can_7 10 rfl rfl)
theorem dX4_can_169 : decode cX4_can 169 = .ok (.goto (-31), 3) := dk_167 255 225 (dk_at dksX4_can_7 13 rfl rfl)
theorem dX4_can_172 : decode cX4_can 172 = .ok (.iload 6, 2) := dk_21 6 (dk_at dksX4_can_7 16 rfl rfl)
theorem dX4_can_174 : decode cX4_can 174 = .ok (.ireturn, 1) := dk_172 (dk_at dksX4_can_7 18 rfl rfl)
theorem dX4_can_175 : decode cX4_can 175 = .ok (.aload_n 0, 1) := dk_42 (dk_at dksX4_can_7 19 rfl rfl)
theorem dX4_can_176 : decode cX4_can 176 = .ok (.getfield 27, 3) := dk_180 0 27 (dk_at dksX4_can_7 20 rfl rfl)
theorem dX4_can_179 : decode cX4_can 179 = .ok (.iload_n 2, 1) := dk_28 (dk_at dksX4_can_7 23 rfl rfl)
theorem dX4_can_180 : decode cX4_can 180 = .ok (.iaload, 1) := dk_46 (dk_at dksX4_can_8 0 rfl rfl)
theorem dX4_can_181 : decode cX4_can 181 = .ok (.aload_n 0, 1) := dk_42 (dk_at dksX4_can_8 1 rfl rfl)
theorem dX4_can_182 : decode cX4_can 182 = .ok (.getfield 63, 3) := dk_180 0 63 (dk_at dksX4_can_8 2 rfl rfl)
theorem dX4_can_185 : decode cX4_can 185 = .ok (.iload_n 1, 1) := dk_27 (dk_at dksX4_can_8 5 rfl rfl)
theorem dX4_can_186 : decode cX4_can 186 = .ok (.iaload, 1) := dk_46 (dk_at dksX4_can_8 6 rfl rfl)
theorem dX4_can_187 : decode cX4_can 187 = .ok (.if_icmp .gt 7, 3) := dk_163 0 7 (dk_at dksX4_can_8 7 rfl rfl)
theorem dX4_can_190 : decode cX4_can 190 = .ok (.iconst 1, 1) := dk_4 (dk_at dksX4_can_8 10 rfl rfl)
theorem dX4_can_191 : decode cX4_can 191 = .ok (.goto 4, 3) := dk_167 0 4 (dk_at dksX4_can_8 11 rfl rfl)
theorem dX4_can_194 : decode cX4_can 194 = .ok (.iconst 0, 1) := dk_3 (dk_at dksX4_can_8 14 rfl rfl)
theorem dX4_can_195 : decode cX4_can 195 = .ok (.ireturn, 1) := dk_172 (dk_at dksX4_can_8 15 rfl rfl)
theorem dX4_can_196 : decode cX4_can 196 = .ok (.aload_n 0, 1) := dk_42 (dk_at dksX4_can_8 16 rfl rfl)
theorem dX4_can_197 : decode cX4_can 197 = .ok (.getfield 30, 3) := dk_180 0 30 (dk_at dksX4_can_8 17 rfl rfl)
theorem dX4_can_200 : decode cX4_can 200 = .ok (.bipush 100, 2) := dk_16 100 (dk_at dksX4_can_8 20 rfl rfl)
theorem dX4_can_202 : decode cX4_can 202 = .ok (.aload_n 0, 1) := dk_42 (dk_at dksX4_can_8 22 rfl rfl)
theorem dX4_can_203 : decode cX4_can 203 = .ok (.getfield 309, 3) := dk_180 1 53 (dk_at dksX4_can_9 0 rfl rfl)
theorem dX4_can_206 : decode cX4_can 206 = .ok (.imul, 1) := dk_104 (dk_at dksX4_can_9 3 rfl rfl)
theorem dX4_can_207 : decode cX4_can 207 = .ok (.iload_n 2, 1) := dk_28 (dk_at dksX4_can_9 4 rfl rfl)
theorem dX4_can_208 : decode cX4_can 208 = .ok (.iadd, 1) := dk_96 (dk_at dksX4_can_9 5 rfl rfl)
theorem dX4_can_209 : decode cX4_can 209 = .ok (.iaload, 1) := dk_46 (dk_at dksX4_can_9 6 rfl rfl)
theorem dX4_can_210 : decode cX4_can 210 = .ok (.aload_n 0, 1) := dk_42 (dk_at dksX4_can_9 7 rfl rfl)
theorem dX4_can_211 : decode cX4_can 211 = .ok (.getfield 312, 3) := dk_180 1 56 (dk_at dksX4_can_9 8 rfl rfl)
theorem dX4_can_214 : decode cX4_can 214 = .ok (.ifCond .ne 7, 3) := dk_154 0 7 (dk_at dksX4_can_9 11 rfl rfl)
theorem dX4_can_217 : decode cX4_can 217 = .ok (.iconst 0, 1) := dk_3 (dk_at dksX4_can_9 14 rfl rfl)
theorem dX4_can_218 : decode cX4_can 218 = .ok (.goto 8, 3) := dk_167 0 8 (dk_at dksX4_can_9 15 rfl rfl)
theorem dX4_can_221 : decode cX4_can 221 = .ok (.aload_n 0, 1) := dk_42 (dk_at dksX4_can_9 18 rfl rfl)
theorem dX4_can_222 : decode cX4_can 222 = .ok (.iload_n 2, 1) := dk_28 (dk_at dksX4_can_9 19 rfl rfl)
theorem dX4_can_223 : decode cX4_can 223 = .ok (.invokevirtual 315, 3) := dk_182 1 59 (dk_at dksX4_can_9 20 rfl rfl)
theorem dX4_can_226 : decode cX4_can 226 = .ok (.iconst (-1), 1) := dk_2 (dk_at dksX4_can_9 23 rfl rfl)
theorem dX4_can_227 : decode cX4_can 227 = .ok (.ixor, 1) := dk_130 (dk_at dksX4_can_10 0 rfl rfl)
theorem dX4_can_228 : decode cX4_can 228 = .ok (.iand, 1) := dk_126 (dk_at dksX4_can_10 1 rfl rfl)
theorem dX4_can_229 : decode cX4_can 229 = .ok (.aload_n 0, 1) := dk_42 (dk_at dksX4_can_10 2 rfl rfl)
theorem dX4_can_230 : decode cX4_can 230 = .ok (.getfield 318, 3) := dk_180 1 62 (dk_at dksX4_can_10 3 rfl rfl)
theorem dX4_can_233 : decode cX4_can 233 = .ok (.iand, 1) := dk_126 (dk_at dksX4_can_10 6 rfl rfl)
theorem dX4_can_234 : decode cX4_can 234 = .ok (.ifCond .ne 7, 3) := dk_154 0 7 (dk_at dksX4_can_10 7 rfl rfl)
theorem dX4_can_237 : decode cX4_can 237 = .ok (.iconst 1, 1) := dk_4 (dk_at dksX4_can_10 10 rfl rfl)
theorem dX4_can_238 : decode cX4_can 238 = .ok (.goto 4, 3) := dk_167 0 4 (dk_at dksX4_can_10 11 rfl rfl)
theorem dX4_can_241 : decode cX4_can 241 = .ok (.iconst 0, 1) := dk_3 (dk_at dksX4_can_10 14 rfl rfl)
theorem dX4_can_242 : decode cX4_can 242 = .ok (.ireturn, 1) := dk_172 (dk_at dksX4_can_10 15 rfl rfl)
theorem dX4_can_243 : decode cX4_can 243 = .ok (.aload_n 0, 1) := dk_42 (dk_at dksX4_can_10 16 rfl rfl)
theorem dX4_can_244 : decode cX4_can 244 = .ok (.getfield 39, 3) := dk_180 0 39 (dk_at dksX4_can_10 17 rfl rfl)
theorem dX4_can_247 : decode cX4_can 247 = .ok (.bipush 100, 2) := dk_16 100 (dk_at dksX4_can_10 20 rfl rfl)
theorem dX4_can_249 : decode cX4_can 249 = .ok (.iload 5, 2) := dk_21 5 (dk_at dksX4_can_10 22 rfl rfl)
theorem dX4_can_251 : decode cX4_can 251 = .ok (.iconst 1, 1) := dk_4 (dk_at dksX4_can_11 0 rfl rfl)
theorem dX4_can_252 : decode cX4_can 252 = .ok (.ixor, 1) := dk_130 (dk_at dksX4_can_11 1 rfl rfl)
theorem dX4_can_253 : decode cX4_can 253 = .ok (.imul, 1) := dk_104 (dk_at dksX4_can_11 2 rfl rfl)
theorem dX4_can_254 : decode cX4_can 254 = .ok (.iload_n 2, 1) := dk_28 (dk_at dksX4_can_11 3 rfl rfl)
theorem dX4_can_255 : decode cX4_can 255 = .ok (.iadd, 1) := dk_96 (dk_at dksX4_can_11 4 rfl rfl)
theorem dX4_can_256 : decode cX4_can 256 = .ok (.iaload, 1) := dk_46 (dk_at dksX4_can_11 5 rfl rfl)
theorem dX4_can_257 : decode cX4_can 257 = .ok (.ifCond .eq 15, 3) := dk_153 0 15 (dk_at dksX4_can_11 6 rfl rfl)
theorem dX4_can_260 : decode cX4_can 260 = .ok (.aload_n 0, 1) := dk_42 (dk_at dksX4_can_11 9 rfl rfl)
theorem dX4_can_261 : decode cX4_can 261 = .ok (.aload_n 0, 1) := dk_42 (dk_at dksX4_can_11 10 rfl rfl)
theorem dX4_can_262 : decode cX4_can 262 = .ok (.getfield 309, 3) := dk_180 1 53 (dk_at dksX4_can_11 11 rfl rfl)
theorem dX4_can_265 : decode cX4_can 265 = .ok (.iload_n 2, 1) := dk_28 (dk_at dksX4_can_11 14 rfl rfl)
theorem dX4_can_266 : decode cX4_can 266 = .ok (.invokevirtual 324, 3) := dk_182 1 68 (dk_at dksX4_can_11 15 rfl rfl)
theorem dX4_can_269 : decode cX4_can 269 = .ok (.ifCond .eq 5, 3) := dk_153 0 5 (dk_at dksX4_can_11 18 rfl rfl)
theorem dX4_can_272 : decode cX4_can 272 = .ok (.iconst 0, 1) := dk_3 (dk_at dksX4_can_11 21 rfl rfl)
theorem dX4_can_273 : decode cX4_can 273 = .ok (.ireturn, 1) := dk_172 (dk_at dksX4_can_11 22 rfl rfl)
theorem dX4_can_274 : decode cX4_can 274 = .ok (.aload_n 0, 1) := dk_42 (dk_at dksX4_can_11 23 rfl rfl)
theorem dX4_can_275 : decode cX4_can 275 = .ok (.dup, 1) := dk_89 (dk_at dksX4_can_12 0 rfl rfl)
theorem dX4_can_276 : decode cX4_can 276 = .ok (.getfield 321, 3) := dk_180 1 65 (dk_at dksX4_can_12 1 rfl rfl)
theorem dX4_can_279 : decode cX4_can 279 = .ok (.iconst 1, 1) := dk_4 (dk_at dksX4_can_12 4 rfl rfl)
theorem dX4_can_280 : decode cX4_can 280 = .ok (.aload_n 0, 1) := dk_42 (dk_at dksX4_can_12 5 rfl rfl)
theorem dX4_can_281 : decode cX4_can 281 = .ok (.getfield 60, 3) := dk_180 0 60 (dk_at dksX4_can_12 6 rfl rfl)
theorem dX4_can_284 : decode cX4_can 284 = .ok (.iload_n 1, 1) := dk_27 (dk_at dksX4_can_12 9 rfl rfl)
theorem dX4_can_285 : decode cX4_can 285 = .ok (.iaload, 1) := dk_46 (dk_at dksX4_can_12 10 rfl rfl)
theorem dX4_can_286 : decode cX4_can 286 = .ok (.ishl, 1) := dk_120 (dk_at dksX4_can_12 11 rfl rfl)
theorem dX4_can_287 : decode cX4_can 287 = .ok (.ior, 1) := dk_128 (dk_at dksX4_can_12 12 rfl rfl)
theorem dX4_can_288 : decode cX4_can 288 = .ok (.putfield 321, 3) := dk_181 1 65 (dk_at dksX4_can_12 13 rfl rfl)
theorem dX4_can_291 : decode cX4_can 291 = .ok (.iconst 1, 1) := dk_4 (dk_at dksX4_can_12 16 rfl rfl)
theorem dX4_can_292 : decode cX4_can 292 = .ok (.ireturn, 1) := dk_172 (dk_at dksX4_can_12 17 rfl rfl)
abbrev cX4_wasReady : ByteArray := prog_26_method_61_code
def yX4_wasReady : MethodName := ⟨RX4, "wasReady", "(III)Z"⟩
def dkwX4_wasReady_2 : List UInt8 := [16, 100, 27, 104, 21, 4, 96, 51, 153, 0, 5, 4, 172, 132, 4, 255, 167, 255, 198, 3, 172]
abbrev dktX4_wasReady_2 : List UInt8 := dkwX4_wasReady_2 ++ []
def dkwX4_wasReady_1 : List UInt8 := [42, 180, 1, 71, 104, 21, 4, 96, 46, 42, 180, 1, 62, 126, 153, 0, 5, 3, 172, 42, 180, 0, 45]
abbrev dktX4_wasReady_1 : List UInt8 := dkwX4_wasReady_1 ++ dktX4_wasReady_2
def dkwX4_wasReady_0 : List UInt8 := [29, 4, 100, 54, 4, 21, 4, 29, 28, 100, 161, 0, 56, 21, 4, 155, 0, 51, 42, 180, 0, 33, 16, 100]
abbrev dktX4_wasReady_0 : List UInt8 := dkwX4_wasReady_0 ++ dktX4_wasReady_1
theorem dksX4_wasReady_0 : cX4_wasReady.data.toList.drop 0 = dktX4_wasReady_0 := by decide +kernel
theorem dksX4_wasReady_1 : cX4_wasReady.data.toList.drop 24 = dktX4_wasReady_1 := dk_seg dksX4_wasReady_0 24 rfl rfl
theorem dksX4_wasReady_2 : cX4_wasReady.data.toList.drop 47 = dktX4_wasReady_2 := dk_seg dksX4_wasReady_1 23 rfl rfl
theorem dX4_wasReady_0 : decode cX4_wasReady 0 = .ok (.iload_n 3, 1) := dk_29 (dk_at dksX4_wasReady_0 0 rfl rfl)
theorem dX4_wasReady_1 : decode cX4_wasReady 1 = .ok (.iconst 1, 1) := dk_4 (dk_at dksX4_wasReady_0 1 rfl rfl)
theorem dX4_wasReady_2 : decode cX4_wasReady 2 = .ok (.isub, 1) := dk_100 (dk_at dksX4_wasReady_0 2 rfl rfl)
theorem dX4_wasReady_3 : decode cX4_wasReady 3 = .ok (.istore 4, 2) := dk_54 4 (dk_at dksX4_wasReady_0 3 rfl rfl)
theorem dX4_wasReady_5 : decode cX4_wasReady 5 = .ok (.iload 4, 2) := dk_21 4 (dk_at dksX4_wasReady_0 5 rfl rfl)
theorem dX4_wasReady_7 : decode cX4_wasReady 7 = .ok (.iload_n 3, 1) := dk_29 (dk_at dksX4_wasReady_0 7 rfl rfl)
theorem dX4_wasReady_8 : decode cX4_wasReady 8 = .ok (.iload_n 2, 1) := dk_28 (dk_at dksX4_wasReady_0 8 rfl rfl)
theorem dX4_wasReady_9 : decode cX4_wasReady 9 = .ok (.isub, 1) := dk_100 (dk_at dksX4_wasReady_0 9 rfl rfl)
theorem dX4_wasReady_10 : decode cX4_wasReady 10 = .ok (.if_icmp .lt 56, 3) := dk_161 0 56 (dk_at dksX4_wasReady_0 10 rfl rfl)
theorem dX4_wasReady_13 : decode cX4_wasReady 13 = .ok (.iload 4, 2) := dk_21 4 (dk_at dksX4_wasReady_0 13 rfl rfl)
theorem dX4_wasReady_15 : decode cX4_wasReady 15 = .ok (.ifCond .lt 51, 3) := dk_155 0 51 (dk_at dksX4_wasReady_0 15 rfl rfl)
theorem dX4_wasReady_18 : decode cX4_wasReady 18 = .ok (.aload_n 0, 1) := dk_42 (dk_at dksX4_wasReady_0 18 rfl rfl)
theorem dX4_wasReady_19 : decode cX4_wasReady 19 = .ok (.getfield 33, 3) := dk_180 0 33 (dk_at dksX4_wasReady_0 19 rfl rfl)
theorem dX4_wasReady_22 : decode cX4_wasReady 22 = .ok (.bipush 100, 2) := dk_16 100 (dk_at dksX4_wasReady_0 22 rfl rfl)
theorem dX4_wasReady_24 : decode cX4_wasReady 24 = .ok (.aload_n 0, 1) := dk_42 (dk_at dksX4_wasReady_1 0 rfl rfl)
theorem dX4_wasReady_25 : decode cX4_wasReady 25 = .ok (.getfield 327, 3) := dk_180 1 71 (dk_at dksX4_wasReady_1 1 rfl rfl)
theorem dX4_wasReady_28 : decode cX4_wasReady 28 = .ok (.imul, 1) := dk_104 (dk_at dksX4_wasReady_1 4 rfl rfl)
theorem dX4_wasReady_29 : decode cX4_wasReady 29 = .ok (.iload 4, 2) := dk_21 4 (dk_at dksX4_wasReady_1 5 rfl rfl)
theorem dX4_wasReady_31 : decode cX4_wasReady 31 = .ok (.iadd, 1) := dk_96 (dk_at dksX4_wasReady_1 7 rfl rfl)
theorem dX4_wasReady_32 : decode cX4_wasReady 32 = .ok (.iaload, 1) := dk_46 (dk_at dksX4_wasReady_1 8 rfl rfl)
theorem dX4_wasReady_33 : decode cX4_wasReady 33 = .ok (.aload_n 0, 1) := dk_42 (dk_at dksX4_wasReady_1 9 rfl rfl)
theorem dX4_wasReady_34 : decode cX4_wasReady 34 = .ok (.getfield 318, 3) := dk_180 1 62 (dk_at dksX4_wasReady_1 10 rfl rfl)
theorem dX4_wasReady_37 : decode cX4_wasReady 37 = .ok (.iand, 1) := dk_126 (dk_at dksX4_wasReady_1 13 rfl rfl)
theorem dX4_wasReady_38 : decode cX4_wasReady 38 = .ok (.ifCond .eq 5, 3) := dk_153 0 5 (dk_at dksX4_wasReady_1 14 rfl rfl)
theorem dX4_wasReady_41 : decode cX4_wasReady 41 = .ok (.iconst 0, 1) := dk_3 (dk_at dksX4_wasReady_1 17 rfl rfl)
theorem dX4_wasReady_42 : decode cX4_wasReady 42 = .ok (.ireturn, 1) := dk_172 (dk_at dksX4_wasReady_1 18 rfl rfl)
theorem dX4_wasReady_43 : decode cX4_wasReady 43 = .ok (.aload_n 0, 1) := dk_42 (dk_at dksX4_wasReady_1 19 rfl rfl)
theorem dX4_wasReady_44 : decode cX4_wasReady 44 = .ok (.getfield 45, 3) := dk_180 0 45 (dk_at dksX4_wasReady_1 20 rfl rfl)
theorem dX4_wasReady_47 : decode cX4_wasReady 47 = .ok (.bipush 100, 2) := dk_16 100 (dk_at dksX4_wasReady_2 0 rfl rfl)
theorem dX4_wasReady_49 : decode cX4_wasReady 49 = .ok (.iload_n 1, 1) := dk_27 (dk_at dksX4_wasReady_2 2 rfl rfl)
theorem dX4_wasReady_50 : decode cX4_wasReady 50 = .ok (.imul, 1) := dk_104 (dk_at dksX4_wasReady_2 3 rfl rfl)
theorem dX4_wasReady_51 : decode cX4_wasReady 51 = .ok (.iload 4, 2) := dk_21 4 (dk_at dksX4_wasReady_2 4 rfl rfl)
theorem dX4_wasReady_53 : decode cX4_wasReady 53 = .ok (.iadd, 1) := dk_96 (dk_at dksX4_wasReady_2 6 rfl rfl)
theorem dX4_wasReady_54 : decode cX4_wasReady 54 = .ok (.baload, 1) := dk_51 (dk_at dksX4_wasReady_2 7 rfl rfl)
theorem dX4_wasReady_55 : decode cX4_wasReady 55 = .ok (.ifCond .eq 5, 3) := dk_153 0 5 (dk_at dksX4_wasReady_2 8 rfl rfl)
theorem dX4_wasReady_58 : decode cX4_wasReady 58 = .ok (.iconst 1, 1) := dk_4 (dk_at dksX4_wasReady_2 11 rfl rfl)
theorem dX4_wasReady_59 : decode cX4_wasReady 59 = .ok (.ireturn, 1) := dk_172 (dk_at dksX4_wasReady_2 12 rfl rfl)
theorem dX4_wasReady_60 : decode cX4_wasReady 60 = .ok (.iinc 4 (-1), 3) := dk_132 4 255 (dk_at dksX4_wasReady_2 13 rfl rfl)
theorem dX4_wasReady_63 : decode cX4_wasReady 63 = .ok (.goto (-58), 3) := dk_167 255 198 (dk_at dksX4_wasReady_2 16 rfl rfl)
theorem dX4_wasReady_66 : decode cX4_wasReady 66 = .ok (.iconst 0, 1) := dk_3 (dk_at dksX4_wasReady_2 19 rfl rfl)
theorem dX4_wasReady_67 : decode cX4_wasReady 67 = .ok (.ireturn, 1) := dk_172 (dk_at dksX4_wasReady_2 20 rfl rfl)
abbrev cX4_isFreeNow : ByteArray := prog_26_method_59_code
def yX4_isFreeNow : MethodName := ⟨RX4, "isFreeNow", "(II)Z"⟩
def dkwX4_isFreeNow_2 : List UInt8 := [167, 0, 9, 42, 180, 0, 45, 29, 51, 172]
abbrev dktX4_isFreeNow_2 : List UInt8 := dkwX4_isFreeNow_2 ++ []
def dkwX4_isFreeNow_1 : List UInt8 := [17, 11, 54, 29, 96, 46, 2, 160, 0, 16, 42, 180, 0, 48, 29, 51, 154, 0, 7, 4, 167, 0, 13, 3]
abbrev dktX4_isFreeNow_1 : List UInt8 := dkwX4_isFreeNow_1 ++ dktX4_isFreeNow_2
def dkwX4_isFreeNow_0 : List UInt8 := [16, 100, 27, 104, 28, 96, 62, 42, 180, 1, 65, 27, 5, 112, 184, 0, 179, 153, 0, 34, 42, 180, 0, 17]
abbrev dktX4_isFreeNow_0 : List UInt8 := dkwX4_isFreeNow_0 ++ dktX4_isFreeNow_1
theorem dksX4_isFreeNow_0 : cX4_isFreeNow.data.toList.drop 0 = dktX4_isFreeNow_0 := by decide +kernel
theorem dksX4_isFreeNow_1 : cX4_isFreeNow.data.toList.drop 24 = dktX4_isFreeNow_1 := dk_seg dksX4_isFreeNow_0 24 rfl rfl
theorem dksX4_isFreeNow_2 : cX4_isFreeNow.data.toList.drop 48 = dktX4_isFreeNow_2 := dk_seg dksX4_isFreeNow_1 24 rfl rfl
theorem dX4_isFreeNow_0 : decode cX4_isFreeNow 0 = .ok (.bipush 100, 2) := dk_16 100 (dk_at dksX4_isFreeNow_0 0 rfl rfl)
theorem dX4_isFreeNow_2 : decode cX4_isFreeNow 2 = .ok (.iload_n 1, 1) := dk_27 (dk_at dksX4_isFreeNow_0 2 rfl rfl)
theorem dX4_isFreeNow_3 : decode cX4_isFreeNow 3 = .ok (.imul, 1) := dk_104 (dk_at dksX4_isFreeNow_0 3 rfl rfl)
theorem dX4_isFreeNow_4 : decode cX4_isFreeNow 4 = .ok (.iload_n 2, 1) := dk_28 (dk_at dksX4_isFreeNow_0 4 rfl rfl)
theorem dX4_isFreeNow_5 : decode cX4_isFreeNow 5 = .ok (.iadd, 1) := dk_96 (dk_at dksX4_isFreeNow_0 5 rfl rfl)
theorem dX4_isFreeNow_6 : decode cX4_isFreeNow 6 = .ok (.istore_n 3, 1) := dk_62 (dk_at dksX4_isFreeNow_0 6 rfl rfl)
theorem dX4_isFreeNow_7 : decode cX4_isFreeNow 7 = .ok (.aload_n 0, 1) := dk_42 (dk_at dksX4_isFreeNow_0 7 rfl rfl)
theorem dX4_isFreeNow_8 : decode cX4_isFreeNow 8 = .ok (.getfield 321, 3) := dk_180 1 65 (dk_at dksX4_isFreeNow_0 8 rfl rfl)
theorem dX4_isFreeNow_11 : decode cX4_isFreeNow 11 = .ok (.iload_n 1, 1) := dk_27 (dk_at dksX4_isFreeNow_0 11 rfl rfl)
theorem dX4_isFreeNow_12 : decode cX4_isFreeNow 12 = .ok (.iconst 2, 1) := dk_5 (dk_at dksX4_isFreeNow_0 12 rfl rfl)
theorem dX4_isFreeNow_13 : decode cX4_isFreeNow 13 = .ok (.irem, 1) := dk_112 (dk_at dksX4_isFreeNow_0 13 rfl rfl)
theorem dX4_isFreeNow_14 : decode cX4_isFreeNow 14 = .ok (.invokestatic 179, 3) := dk_184 0 179 (dk_at dksX4_isFreeNow_0 14 rfl rfl)
theorem dX4_isFreeNow_17 : decode cX4_isFreeNow 17 = .ok (.ifCond .eq 34, 3) := dk_153 0 34 (dk_at dksX4_isFreeNow_0 17 rfl rfl)
theorem dX4_isFreeNow_20 : decode cX4_isFreeNow 20 = .ok (.aload_n 0, 1) := dk_42 (dk_at dksX4_isFreeNow_0 20 rfl rfl)
theorem dX4_isFreeNow_21 : decode cX4_isFreeNow 21 = .ok (.getfield 17, 3) := dk_180 0 17 (dk_at dksX4_isFreeNow_0 21 rfl rfl)
theorem dX4_isFreeNow_24 : decode cX4_isFreeNow 24 = .ok (.sipush 2870, 3) := dk_17 11 54 (dk_at dksX4_isFreeNow_1 0 rfl rfl)
theorem dX4_isFreeNow_27 : decode cX4_isFreeNow 27 = .ok (.iload_n 3, 1) := dk_29 (dk_at dksX4_isFreeNow_1 3 rfl rfl)
theorem dX4_isFreeNow_28 : decode cX4_isFreeNow 28 = .ok (.iadd, 1) := dk_96 (dk_at dksX4_isFreeNow_1 4 rfl rfl)
theorem dX4_isFreeNow_29 : decode cX4_isFreeNow 29 = .ok (.iaload, 1) := dk_46 (dk_at dksX4_isFreeNow_1 5 rfl rfl)
theorem dX4_isFreeNow_30 : decode cX4_isFreeNow 30 = .ok (.iconst (-1), 1) := dk_2 (dk_at dksX4_isFreeNow_1 6 rfl rfl)
theorem dX4_isFreeNow_31 : decode cX4_isFreeNow 31 = .ok (.if_icmp .ne 16, 3) := dk_160 0 16 (dk_at dksX4_isFreeNow_1 7 rfl rfl)
theorem dX4_isFreeNow_34 : decode cX4_isFreeNow 34 = .ok (.aload_n 0, 1) := dk_42 (dk_at dksX4_isFreeNow_1 10 rfl rfl)
theorem dX4_isFreeNow_35 : decode cX4_isFreeNow 35 = .ok (.getfield 48, 3) := dk_180 0 48 (dk_at dksX4_isFreeNow_1 11 rfl rfl)
theorem dX4_isFreeNow_38 : decode cX4_isFreeNow 38 = .ok (.iload_n 3, 1) := dk_29 (dk_at dksX4_isFreeNow_1 14 rfl rfl)
theorem dX4_isFreeNow_39 : decode cX4_isFreeNow 39 = .ok (.baload, 1) := dk_51 (dk_at dksX4_isFreeNow_1 15 rfl rfl)
theorem dX4_isFreeNow_40 : decode cX4_isFreeNow 40 = .ok (.ifCond .ne 7, 3) := dk_154 0 7 (dk_at dksX4_isFreeNow_1 16 rfl rfl)
theorem dX4_isFreeNow_43 : decode cX4_isFreeNow 43 = .ok (.iconst 1, 1) := dk_4 (dk_at dksX4_isFreeNow_1 19 rfl rfl)
theorem dX4_isFreeNow_44 : decode cX4_isFreeNow 44 = .ok (.goto 13, 3) := dk_167 0 13 (dk_at dksX4_isFreeNow_1 20 rfl rfl)
theorem dX4_isFreeNow_47 : decode cX4_isFreeNow 47 = .ok (.iconst 0, 1) := dk_3 (dk_at dksX4_isFreeNow_1 23 rfl rfl)
theorem dX4_isFreeNow_48 : decode cX4_isFreeNow 48 = .ok (.goto 9, 3) := dk_167 0 9 (dk_at dksX4_isFreeNow_2 0 rfl rfl)
theorem dX4_isFreeNow_51 : decode cX4_isFreeNow 51 = .ok (.aload_n 0, 1) := dk_42 (dk_at dksX4_isFreeNow_2 3 rfl rfl)
theorem dX4_isFreeNow_52 : decode cX4_isFreeNow 52 = .ok (.getfield 45, 3) := dk_180 0 45 (dk_at dksX4_isFreeNow_2 4 rfl rfl)
theorem dX4_isFreeNow_55 : decode cX4_isFreeNow 55 = .ok (.iload_n 3, 1) := dk_29 (dk_at dksX4_isFreeNow_2 7 rfl rfl)
theorem dX4_isFreeNow_56 : decode cX4_isFreeNow 56 = .ok (.baload, 1) := dk_51 (dk_at dksX4_isFreeNow_2 8 rfl rfl)
theorem dX4_isFreeNow_57 : decode cX4_isFreeNow 57 = .ok (.ireturn, 1) := dk_172 (dk_at dksX4_isFreeNow_2 9 rfl rfl)
abbrev cX4_report : ByteArray := prog_26_method_68_code
def yX4_report : MethodName := ⟨RX4, "report", "(IIIIIII)I"⟩
def dkwX4_report_9 : List UInt8 := [180, 0, 119, 4, 100, 172]
abbrev dktX4_report_9 : List UInt8 := dkwX4_report_9 ++ []
def dkwX4_report_8 : List UInt8 := [180, 0, 73, 21, 8, 16, 6, 96, 21, 7, 79, 42, 89, 180, 0, 119, 4, 96, 181, 0, 119, 42]
abbrev dktX4_report_8 : List UInt8 := dkwX4_report_8 ++ dktX4_report_9
def dkwX4_report_7 : List UInt8 := [180, 0, 73, 21, 8, 7, 96, 21, 5, 79, 42, 180, 0, 73, 21, 8, 8, 96, 21, 6, 79, 42]
abbrev dktX4_report_7 : List UInt8 := dkwX4_report_7 ++ dktX4_report_8
def dkwX4_report_6 : List UInt8 := [42, 180, 0, 73, 21, 8, 5, 96, 29, 79, 42, 180, 0, 73, 21, 8, 6, 96, 21, 4, 79, 42]
abbrev dktX4_report_6 : List UInt8 := dkwX4_report_6 ++ dktX4_report_7
def dkwX4_report_5 : List UInt8 := [180, 0, 119, 104, 54, 8, 42, 180, 0, 73, 21, 8, 27, 79, 42, 180, 0, 73, 21, 8, 4, 96, 28, 79]
abbrev dktX4_report_5 : List UInt8 := dkwX4_report_5 ++ dktX4_report_6
def dkwX4_report_4 : List UInt8 := [5, 182, 0, 156, 172, 42, 180, 0, 119, 16, 30, 160, 0, 9, 42, 6, 182, 0, 156, 172, 16, 7, 42]
abbrev dktX4_report_4 : List UInt8 := dkwX4_report_4 ++ dktX4_report_5
def dkwX4_report_3 : List UInt8 := [21, 5, 21, 6, 184, 0, 150, 153, 0, 16, 21, 7, 133, 9, 20, 1, 102, 184, 0, 140, 154, 0, 9, 42]
abbrev dktX4_report_3 : List UInt8 := dkwX4_report_3 ++ dktX4_report_4
def dkwX4_report_2 : List UInt8 := [160, 0, 24, 42, 29, 182, 0, 160, 153, 0, 10, 29, 5, 108, 27, 160, 0, 9, 42, 4, 182, 0, 156, 172]
abbrev dktX4_report_2 : List UInt8 := dkwX4_report_2 ++ dktX4_report_3
def dkwX4_report_1 : List UInt8 := [154, 0, 20, 42, 29, 182, 0, 167, 153, 0, 32, 42, 21, 4, 182, 0, 153, 153, 0, 23, 28, 4]
abbrev dktX4_report_1 : List UInt8 := dkwX4_report_1 ++ dktX4_report_2
def dkwX4_report_0 : List UInt8 := [42, 3, 181, 0, 1, 42, 27, 182, 0, 147, 153, 0, 54, 28, 133, 9, 10, 184, 0, 140, 153, 0, 44, 28]
abbrev dktX4_report_0 : List UInt8 := dkwX4_report_0 ++ dktX4_report_1
theorem dksX4_report_0 : cX4_report.data.toList.drop 0 = dktX4_report_0 := by decide +kernel
theorem dksX4_report_1 : cX4_report.data.toList.drop 24 = dktX4_report_1 := dk_seg dksX4_report_0 24 rfl rfl
theorem dksX4_report_2 : cX4_report.data.toList.drop 46 = dktX4_report_2 := dk_seg dksX4_report_1 22 rfl rfl
theorem dksX4_report_3 : cX4_report.data.toList.drop 70 = dktX4_report_3 := dk_seg dksX4_report_2 24 rfl rfl
theorem dksX4_report_4 : cX4_report.data.toList.drop 94 = dktX4_report_4 := dk_seg dksX4_report_3 24 rfl rfl
theorem dksX4_report_5 : cX4_report.data.toList.drop 117 = dktX4_report_5 := dk_seg dksX4_report_4 23 rfl rfl
theorem dksX4_report_6 : cX4_report.data.toList.drop 141 = dktX4_report_6 := dk_seg dksX4_report_5 24 rfl rfl
theorem dksX4_report_7 : cX4_report.data.toList.drop 163 = dktX4_report_7 := dk_seg dksX4_report_6 22 rfl rfl
theorem dksX4_report_8 : cX4_report.data.toList.drop 185 = dktX4_report_8 := dk_seg dksX4_report_7 22 rfl rfl
theorem dksX4_report_9 : cX4_report.data.toList.drop 207 = dktX4_report_9 := dk_seg dksX4_report_8 22 rfl rfl
theorem dX4_report_0 : decode cX4_report 0 = .ok (.aload_n 0, 1) := dk_42 (dk_at dksX4_report_0 0 rfl rfl)
theorem dX4_report_1 : decode cX4_report 1 = .ok (.iconst 0, 1) := dk_3 (dk_at dksX4_report_0 1 rfl rfl)
theorem dX4_report_2 : decode cX4_report 2 = .ok (.putfield 1, 3) := dk_181 0 1 (dk_at dksX4_report_0 2 rfl rfl)
theorem dX4_report_5 : decode cX4_report 5 = .ok (.aload_n 0, 1) := dk_42 (dk_at dksX4_report_0 5 rfl rfl)
theorem dX4_report_6 : decode cX4_report 6 = .ok (.iload_n 1, 1) := dk_27 (dk_at dksX4_report_0 6 rfl rfl)
theorem dX4_report_7 : decode cX4_report 7 = .ok (.invokevirtual 147, 3) := dk_182 0 147 (dk_at dksX4_report_0 7 rfl rfl)
theorem dX4_report_10 : decode cX4_report 10 = .ok (.ifCond .eq 54, 3) := dk_153 0 54 (dk_at dksX4_report_0 10 rfl rfl)
theorem dX4_report_13 : decode cX4_report 13 = .ok (.iload_n 2, 1) := dk_28 (dk_at dksX4_report_0 13 rfl rfl)
theorem dX4_report_14 : decode cX4_report 14 = .ok (.i2l, 1) := dk_133 (dk_at dksX4_report_0 14 rfl rfl)
theorem dX4_report_15 : decode cX4_report 15 = .ok (.lconst 0, 1) := dk_9 (dk_at dksX4_report_0 15 rfl rfl)
theorem dX4_report_16 : decode cX4_report 16 = .ok (.lconst 1, 1) := dk_10 (dk_at dksX4_report_0 16 rfl rfl)
theorem dX4_report_17 : decode cX4_report 17 = .ok (.invokestatic 140, 3) := dk_184 0 140 (dk_at dksX4_report_0 17 rfl rfl)
theorem dX4_report_20 : decode cX4_report 20 = .ok (.ifCond .eq 44, 3) := dk_153 0 44 (dk_at dksX4_report_0 20 rfl rfl)
theorem dX4_report_23 : decode cX4_report 23 = .ok (.iload_n 2, 1) := dk_28 (dk_at dksX4_report_0 23 rfl rfl)
theorem dX4_report_24 : decode cX4_report 24 = .ok (.ifCond .ne 20, 3) := dk_154 0 20 (dk_at dksX4_report_1 0 rfl rfl)
theorem dX4_report_27 : decode cX4_report 27 = .ok (.aload_n 0, 1) := dk_42 (dk_at dksX4_report_1 3 rfl rfl)
theorem dX4_report_28 : decode cX4_report 28 = .ok (.iload_n 3, 1) := dk_29 (dk_at dksX4_report_1 4 rfl rfl)
theorem dX4_report_29 : decode cX4_report 29 = .ok (.invokevirtual 167, 3) := dk_182 0 167 (dk_at dksX4_report_1 5 rfl rfl)
theorem dX4_report_32 : decode cX4_report 32 = .ok (.ifCond .eq 32, 3) := dk_153 0 32 (dk_at dksX4_report_1 8 rfl rfl)
theorem dX4_report_35 : decode cX4_report 35 = .ok (.aload_n 0, 1) := dk_42 (dk_at dksX4_report_1 11 rfl rfl)
theorem dX4_report_36 : decode cX4_report 36 = .ok (.iload 4, 2) := dk_21 4 (dk_at dksX4_report_1 12 rfl rfl)
theorem dX4_report_38 : decode cX4_report 38 = .ok (.invokevirtual 153, 3) := dk_182 0 153 (dk_at dksX4_report_1 14 rfl rfl)
theorem dX4_report_41 : decode cX4_report 41 = .ok (.ifCond .eq 23, 3) := dk_153 0 23 (dk_at dksX4_report_1 17 rfl rfl)
theorem dX4_report_44 : decode cX4_report 44 = .ok (.iload_n 2, 1) := dk_28 (dk_at dksX4_report_1 20 rfl rfl)
theorem dX4_report_45 : decode cX4_report 45 = .ok (.iconst 1, 1) := dk_4 (dk_at dksX4_report_1 21 rfl rfl)
theorem dX4_report_46 : decode cX4_report 46 = .ok (.if_icmp .ne 24, 3) := dk_160 0 24 (dk_at dksX4_report_2 0 rfl rfl)
theorem dX4_report_49 : decode cX4_report 49 = .ok (.aload_n 0, 1) := dk_42 (dk_at dksX4_report_2 3 rfl rfl)
theorem dX4_report_50 : decode cX4_report 50 = .ok (.iload_n 3, 1) := dk_29 (dk_at dksX4_report_2 4 rfl rfl)
theorem dX4_report_51 : decode cX4_report 51 = .ok (.invokevirtual 160, 3) := dk_182 0 160 (dk_at dksX4_report_2 5 rfl rfl)
theorem dX4_report_54 : decode cX4_report 54 = .ok (.ifCond .eq 10, 3) := dk_153 0 10 (dk_at dksX4_report_2 8 rfl rfl)
theorem dX4_report_57 : decode cX4_report 57 = .ok (.iload_n 3, 1) := dk_29 (dk_at dksX4_report_2 11 rfl rfl)
theorem dX4_report_58 : decode cX4_report 58 = .ok (.iconst 2, 1) := dk_5 (dk_at dksX4_report_2 12 rfl rfl)
theorem dX4_report_59 : decode cX4_report 59 = .ok (.idiv, 1) := dk_108 (dk_at dksX4_report_2 13 rfl rfl)
theorem dX4_report_60 : decode cX4_report 60 = .ok (.iload_n 1, 1) := dk_27 (dk_at dksX4_report_2 14 rfl rfl)
theorem dX4_report_61 : decode cX4_report 61 = .ok (.if_icmp .ne 9, 3) := dk_160 0 9 (dk_at dksX4_report_2 15 rfl rfl)
theorem dX4_report_64 : decode cX4_report 64 = .ok (.aload_n 0, 1) := dk_42 (dk_at dksX4_report_2 18 rfl rfl)
theorem dX4_report_65 : decode cX4_report 65 = .ok (.iconst 1, 1) := dk_4 (dk_at dksX4_report_2 19 rfl rfl)
theorem dX4_report_66 : decode cX4_report 66 = .ok (.invokevirtual 156, 3) := dk_182 0 156 (dk_at dksX4_report_2 20 rfl rfl)
theorem dX4_report_69 : decode cX4_report 69 = .ok (.ireturn, 1) := dk_172 (dk_at dksX4_report_2 23 rfl rfl)
theorem dX4_report_70 : decode cX4_report 70 = .ok (.iload 5, 2) := dk_21 5 (dk_at dksX4_report_3 0 rfl rfl)
theorem dX4_report_72 : decode cX4_report 72 = .ok (.iload 6, 2) := dk_21 6 (dk_at dksX4_report_3 2 rfl rfl)
theorem dX4_report_74 : decode cX4_report 74 = .ok (.invokestatic 150, 3) := dk_184 0 150 (dk_at dksX4_report_3 4 rfl rfl)
theorem dX4_report_77 : decode cX4_report 77 = .ok (.ifCond .eq 16, 3) := dk_153 0 16 (dk_at dksX4_report_3 7 rfl rfl)
theorem dX4_report_80 : decode cX4_report 80 = .ok (.iload 7, 2) := dk_21 7 (dk_at dksX4_report_3 10 rfl rfl)
theorem dX4_report_82 : decode cX4_report 82 = .ok (.i2l, 1) := dk_133 (dk_at dksX4_report_3 12 rfl rfl)
theorem dX4_report_83 : decode cX4_report 83 = .ok (.lconst 0, 1) := dk_9 (dk_at dksX4_report_3 13 rfl rfl)
theorem dX4_report_84 : decode cX4_report 84 = .ok (.ldc2_w 358, 3) := dk_20 1 102 (dk_at dksX4_report_3 14 rfl rfl)
theorem dX4_report_87 : decode cX4_report 87 = .ok (.invokestatic 140, 3) := dk_184 0 140 (dk_at dksX4_report_3 17 rfl rfl)
theorem dX4_report_90 : decode cX4_report 90 = .ok (.ifCond .ne 9, 3) := dk_154 0 9 (dk_at dksX4_report_3 20 rfl rfl)
theorem dX4_report_93 : decode cX4_report 93 = .ok (.aload_n 0, 1) := dk_42 (dk_at dksX4_report_3 23 rfl rfl)
theorem dX4_report_94 : decode cX4_report 94 = .ok (.iconst 2, 1) := dk_5 (dk_at dksX4_report_4 0 rfl rfl)
theorem dX4_report_95 : decode cX4_report 95 = .ok (.invokevirtual 156, 3) := dk_182 0 156 (dk_at dksX4_report_4 1 rfl rfl)
theorem dX4_report_98 : decode cX4_report 98 = .ok (.ireturn, 1) := dk_172 (dk_at dksX4_report_4 4 rfl rfl)
theorem dX4_report_99 : decode cX4_report 99 = .ok (.aload_n 0, 1) := dk_42 (dk_at dksX4_report_4 5 rfl rfl)
theorem dX4_report_100 : decode cX4_report 100 = .ok (.getfield 119, 3) := dk_180 0 119 (dk_at dksX4_report_4 6 rfl rfl)
theorem dX4_report_103 : decode cX4_report 103 = .ok (.bipush 30, 2) := dk_16 30 (dk_at dksX4_report_4 9 rfl rfl)
theorem dX4_report_105 : decode cX4_report 105 = .ok (.if_icmp .ne 9, 3) := dk_160 0 9 (dk_at dksX4_report_4 11 rfl rfl)
theorem dX4_report_108 : decode cX4_report 108 = .ok (.aload_n 0, 1) := dk_42 (dk_at dksX4_report_4 14 rfl rfl)
theorem dX4_report_109 : decode cX4_report 109 = .ok (.iconst 3, 1) := dk_6 (dk_at dksX4_report_4 15 rfl rfl)
theorem dX4_report_110 : decode cX4_report 110 = .ok (.invokevirtual 156, 3) := dk_182 0 156 (dk_at dksX4_report_4 16 rfl rfl)
theorem dX4_report_113 : decode cX4_report 113 = .ok (.ireturn, 1) := dk_172 (dk_at dksX4_report_4 19 rfl rfl)
theorem dX4_report_114 : decode cX4_report 114 = .ok (.bipush 7, 2) := dk_16 7 (dk_at dksX4_report_4 20 rfl rfl)
theorem dX4_report_116 : decode cX4_report 116 = .ok (.aload_n 0, 1) := dk_42 (dk_at dksX4_report_4 22 rfl rfl)
theorem dX4_report_117 : decode cX4_report 117 = .ok (.getfield 119, 3) := dk_180 0 119 (dk_at dksX4_report_5 0 rfl rfl)
theorem dX4_report_120 : decode cX4_report 120 = .ok (.imul, 1) := dk_104 (dk_at dksX4_report_5 3 rfl rfl)
theorem dX4_report_121 : decode cX4_report 121 = .ok (.istore 8, 2) := dk_54 8 (dk_at dksX4_report_5 4 rfl rfl)
theorem dX4_report_123 : decode cX4_report 123 = .ok (.aload_n 0, 1) := dk_42 (dk_at dksX4_report_5 6 rfl rfl)
theorem dX4_report_124 : decode cX4_report 124 = .ok (.getfield 73, 3) := dk_180 0 73 (dk_at dksX4_report_5 7 rfl rfl)
theorem dX4_report_127 : decode cX4_report 127 = .ok (.iload 8, 2) := dk_21 8 (dk_at dksX4_report_5 10 rfl rfl)
theorem dX4_report_129 : decode cX4_report 129 = .ok (.iload_n 1, 1) := dk_27 (dk_at dksX4_report_5 12 rfl rfl)
theorem dX4_report_130 : decode cX4_report 130 = .ok (.iastore, 1) := dk_79 (dk_at dksX4_report_5 13 rfl rfl)
theorem dX4_report_131 : decode cX4_report 131 = .ok (.aload_n 0, 1) := dk_42 (dk_at dksX4_report_5 14 rfl rfl)
theorem dX4_report_132 : decode cX4_report 132 = .ok (.getfield 73, 3) := dk_180 0 73 (dk_at dksX4_report_5 15 rfl rfl)
theorem dX4_report_135 : decode cX4_report 135 = .ok (.iload 8, 2) := dk_21 8 (dk_at dksX4_report_5 18 rfl rfl)
theorem dX4_report_137 : decode cX4_report 137 = .ok (.iconst 1, 1) := dk_4 (dk_at dksX4_report_5 20 rfl rfl)
theorem dX4_report_138 : decode cX4_report 138 = .ok (.iadd, 1) := dk_96 (dk_at dksX4_report_5 21 rfl rfl)
theorem dX4_report_139 : decode cX4_report 139 = .ok (.iload_n 2, 1) := dk_28 (dk_at dksX4_report_5 22 rfl rfl)
theorem dX4_report_140 : decode cX4_report 140 = .ok (.iastore, 1) := dk_79 (dk_at dksX4_report_5 23 rfl rfl)
theorem dX4_report_141 : decode cX4_report 141 = .ok (.aload_n 0, 1) := dk_42 (dk_at dksX4_report_6 0 rfl rfl)
theorem dX4_report_142 : decode cX4_report 142 = .ok (.getfield 73, 3) := dk_180 0 73 (dk_at dksX4_report_6 1 rfl rfl)
theorem dX4_report_145 : decode cX4_report 145 = .ok (.iload 8, 2) := dk_21 8 (dk_at dksX4_report_6 4 rfl rfl)
theorem dX4_report_147 : decode cX4_report 147 = .ok (.iconst 2, 1) := dk_5 (dk_at dksX4_report_6 6 rfl rfl)
theorem dX4_report_148 : decode cX4_report 148 = .ok (.iadd, 1) := dk_96 (dk_at dksX4_report_6 7 rfl rfl)
theorem dX4_report_149 : decode cX4_report 149 = .ok (.iload_n 3, 1) := dk_29 (dk_at dksX4_report_6 8 rfl rfl)
theorem dX4_report_150 : decode cX4_report 150 = .ok (.iastore, 1) := dk_79 (dk_at dksX4_report_6 9 rfl rfl)
theorem dX4_report_151 : decode cX4_report 151 = .ok (.aload_n 0, 1) := dk_42 (dk_at dksX4_report_6 10 rfl rfl)
theorem dX4_report_152 : decode cX4_report 152 = .ok (.getfield 73, 3) := dk_180 0 73 (dk_at dksX4_report_6 11 rfl rfl)
theorem dX4_report_155 : decode cX4_report 155 = .ok (.iload 8, 2) := dk_21 8 (dk_at dksX4_report_6 14 rfl rfl)
theorem dX4_report_157 : decode cX4_report 157 = .ok (.iconst 3, 1) := dk_6 (dk_at dksX4_report_6 16 rfl rfl)
theorem dX4_report_158 : decode cX4_report 158 = .ok (.iadd, 1) := dk_96 (dk_at dksX4_report_6 17 rfl rfl)
theorem dX4_report_159 : decode cX4_report 159 = .ok (.iload 4, 2) := dk_21 4 (dk_at dksX4_report_6 18 rfl rfl)
theorem dX4_report_161 : decode cX4_report 161 = .ok (.iastore, 1) := dk_79 (dk_at dksX4_report_6 20 rfl rfl)
theorem dX4_report_162 : decode cX4_report 162 = .ok (.aload_n 0, 1) := dk_42 (dk_at dksX4_report_6 21 rfl rfl)
theorem dX4_report_163 : decode cX4_report 163 = .ok (.getfield 73, 3) := dk_180 0 73 (dk_at dksX4_report_7 0 rfl rfl)
theorem dX4_report_166 : decode cX4_report 166 = .ok (.iload 8, 2) := dk_21 8 (dk_at dksX4_report_7 3 rfl rfl)
theorem dX4_report_168 : decode cX4_report 168 = .ok (.iconst 4, 1) := dk_7 (dk_at dksX4_report_7 5 rfl rfl)
theorem dX4_report_169 : decode cX4_report 169 = .ok (.iadd, 1) := dk_96 (dk_at dksX4_report_7 6 rfl rfl)
theorem dX4_report_170 : decode cX4_report 170 = .ok (.iload 5, 2) := dk_21 5 (dk_at dksX4_report_7 7 rfl rfl)
theorem dX4_report_172 : decode cX4_report 172 = .ok (.iastore, 1) := dk_79 (dk_at dksX4_report_7 9 rfl rfl)
theorem dX4_report_173 : decode cX4_report 173 = .ok (.aload_n 0, 1) := dk_42 (dk_at dksX4_report_7 10 rfl rfl)
theorem dX4_report_174 : decode cX4_report 174 = .ok (.getfield 73, 3) := dk_180 0 73 (dk_at dksX4_report_7 11 rfl rfl)
theorem dX4_report_177 : decode cX4_report 177 = .ok (.iload 8, 2) := dk_21 8 (dk_at dksX4_report_7 14 rfl rfl)
theorem dX4_report_179 : decode cX4_report 179 = .ok (.iconst 5, 1) := dk_8 (dk_at dksX4_report_7 16 rfl rfl)
theorem dX4_report_180 : decode cX4_report 180 = .ok (.iadd, 1) := dk_96 (dk_at dksX4_report_7 17 rfl rfl)
theorem dX4_report_181 : decode cX4_report 181 = .ok (.iload 6, 2) := dk_21 6 (dk_at dksX4_report_7 18 rfl rfl)
theorem dX4_report_183 : decode cX4_report 183 = .ok (.iastore, 1) := dk_79 (dk_at dksX4_report_7 20 rfl rfl)
theorem dX4_report_184 : decode cX4_report 184 = .ok (.aload_n 0, 1) := dk_42 (dk_at dksX4_report_7 21 rfl rfl)
theorem dX4_report_185 : decode cX4_report 185 = .ok (.getfield 73, 3) := dk_180 0 73 (dk_at dksX4_report_8 0 rfl rfl)
theorem dX4_report_188 : decode cX4_report 188 = .ok (.iload 8, 2) := dk_21 8 (dk_at dksX4_report_8 3 rfl rfl)
theorem dX4_report_190 : decode cX4_report 190 = .ok (.bipush 6, 2) := dk_16 6 (dk_at dksX4_report_8 5 rfl rfl)
theorem dX4_report_192 : decode cX4_report 192 = .ok (.iadd, 1) := dk_96 (dk_at dksX4_report_8 7 rfl rfl)
theorem dX4_report_193 : decode cX4_report 193 = .ok (.iload 7, 2) := dk_21 7 (dk_at dksX4_report_8 8 rfl rfl)
theorem dX4_report_195 : decode cX4_report 195 = .ok (.iastore, 1) := dk_79 (dk_at dksX4_report_8 10 rfl rfl)
theorem dX4_report_196 : decode cX4_report 196 = .ok (.aload_n 0, 1) := dk_42 (dk_at dksX4_report_8 11 rfl rfl)
theorem dX4_report_197 : decode cX4_report 197 = .ok (.dup, 1) := dk_89 (dk_at dksX4_report_8 12 rfl rfl)
theorem dX4_report_198 : decode cX4_report 198 = .ok (.getfield 119, 3) := dk_180 0 119 (dk_at dksX4_report_8 13 rfl rfl)
theorem dX4_report_201 : decode cX4_report 201 = .ok (.iconst 1, 1) := dk_4 (dk_at dksX4_report_8 16 rfl rfl)
theorem dX4_report_202 : decode cX4_report 202 = .ok (.iadd, 1) := dk_96 (dk_at dksX4_report_8 17 rfl rfl)
theorem dX4_report_203 : decode cX4_report 203 = .ok (.putfield 119, 3) := dk_181 0 119 (dk_at dksX4_report_8 18 rfl rfl)
theorem dX4_report_206 : decode cX4_report 206 = .ok (.aload_n 0, 1) := dk_42 (dk_at dksX4_report_8 21 rfl rfl)
theorem dX4_report_207 : decode cX4_report 207 = .ok (.getfield 119, 3) := dk_180 0 119 (dk_at dksX4_report_9 0 rfl rfl)
theorem dX4_report_210 : decode cX4_report 210 = .ok (.iconst 1, 1) := dk_4 (dk_at dksX4_report_9 3 rfl rfl)
theorem dX4_report_211 : decode cX4_report 211 = .ok (.isub, 1) := dk_100 (dk_at dksX4_report_9 4 rfl rfl)
theorem dX4_report_212 : decode cX4_report 212 = .ok (.ireturn, 1) := dk_172 (dk_at dksX4_report_9 5 rfl rfl)
abbrev cX4_right : ByteArray := prog_26_method_74_code
def yX4_right : MethodName := ⟨RX4, "right", "(I)I"⟩
def dkwX4_right_1 : List UInt8 := [153, 0, 7, 4, 167, 0, 4, 3, 172]
abbrev dktX4_right_1 : List UInt8 := dkwX4_right_1 ++ []
def dkwX4_right_0 : List UInt8 := [42, 3, 181, 0, 1, 42, 27, 182, 1, 104, 154, 0, 7, 2, 167, 0, 16, 42, 27, 182, 1, 116]
abbrev dktX4_right_0 : List UInt8 := dkwX4_right_0 ++ dktX4_right_1
theorem dksX4_right_0 : cX4_right.data.toList.drop 0 = dktX4_right_0 := by decide +kernel
theorem dksX4_right_1 : cX4_right.data.toList.drop 22 = dktX4_right_1 := dk_seg dksX4_right_0 22 rfl rfl
theorem dX4_right_0 : decode cX4_right 0 = .ok (.aload_n 0, 1) := dk_42 (dk_at dksX4_right_0 0 rfl rfl)
theorem dX4_right_1 : decode cX4_right 1 = .ok (.iconst 0, 1) := dk_3 (dk_at dksX4_right_0 1 rfl rfl)
theorem dX4_right_2 : decode cX4_right 2 = .ok (.putfield 1, 3) := dk_181 0 1 (dk_at dksX4_right_0 2 rfl rfl)
theorem dX4_right_5 : decode cX4_right 5 = .ok (.aload_n 0, 1) := dk_42 (dk_at dksX4_right_0 5 rfl rfl)
theorem dX4_right_6 : decode cX4_right 6 = .ok (.iload_n 1, 1) := dk_27 (dk_at dksX4_right_0 6 rfl rfl)
theorem dX4_right_7 : decode cX4_right 7 = .ok (.invokevirtual 360, 3) := dk_182 1 104 (dk_at dksX4_right_0 7 rfl rfl)
theorem dX4_right_10 : decode cX4_right 10 = .ok (.ifCond .ne 7, 3) := dk_154 0 7 (dk_at dksX4_right_0 10 rfl rfl)
theorem dX4_right_13 : decode cX4_right 13 = .ok (.iconst (-1), 1) := dk_2 (dk_at dksX4_right_0 13 rfl rfl)
theorem dX4_right_14 : decode cX4_right 14 = .ok (.goto 16, 3) := dk_167 0 16 (dk_at dksX4_right_0 14 rfl rfl)
theorem dX4_right_17 : decode cX4_right 17 = .ok (.aload_n 0, 1) := dk_42 (dk_at dksX4_right_0 17 rfl rfl)
theorem dX4_right_18 : decode cX4_right 18 = .ok (.iload_n 1, 1) := dk_27 (dk_at dksX4_right_0 18 rfl rfl)
theorem dX4_right_19 : decode cX4_right 19 = .ok (.invokevirtual 372, 3) := dk_182 1 116 (dk_at dksX4_right_0 19 rfl rfl)
theorem dX4_right_22 : decode cX4_right 22 = .ok (.ifCond .eq 7, 3) := dk_153 0 7 (dk_at dksX4_right_1 0 rfl rfl)
theorem dX4_right_25 : decode cX4_right 25 = .ok (.iconst 1, 1) := dk_4 (dk_at dksX4_right_1 3 rfl rfl)
theorem dX4_right_26 : decode cX4_right 26 = .ok (.goto 4, 3) := dk_167 0 4 (dk_at dksX4_right_1 4 rfl rfl)
theorem dX4_right_29 : decode cX4_right 29 = .ok (.iconst 0, 1) := dk_3 (dk_at dksX4_right_1 7 rfl rfl)
theorem dX4_right_30 : decode cX4_right 30 = .ok (.ireturn, 1) := dk_172 (dk_at dksX4_right_1 8 rfl rfl)
abbrev cX4_isReport : ByteArray := prog_26_method_69_code
def yX4_isReport : MethodName := ⟨RX4, "isReport", "(I)Z"⟩
def dkwX4_isReport_0 : List UInt8 := [27, 155, 0, 15, 27, 42, 180, 0, 119, 162, 0, 7, 4, 167, 0, 4, 3, 172]
abbrev dktX4_isReport_0 : List UInt8 := dkwX4_isReport_0 ++ []
theorem dksX4_isReport_0 : cX4_isReport.data.toList.drop 0 = dktX4_isReport_0 := by decide +kernel
theorem dX4_isReport_0 : decode cX4_isReport 0 = .ok (.iload_n 1, 1) := dk_27 (dk_at dksX4_isReport_0 0 rfl rfl)
theorem dX4_isReport_1 : decode cX4_isReport 1 = .ok (.ifCond .lt 15, 3) := dk_155 0 15 (dk_at dksX4_isReport_0 1 rfl rfl)
theorem dX4_isReport_4 : decode cX4_isReport 4 = .ok (.iload_n 1, 1) := dk_27 (dk_at dksX4_isReport_0 4 rfl rfl)
theorem dX4_isReport_5 : decode cX4_isReport 5 = .ok (.aload_n 0, 1) := dk_42 (dk_at dksX4_isReport_0 5 rfl rfl)
theorem dX4_isReport_6 : decode cX4_isReport 6 = .ok (.getfield 119, 3) := dk_180 0 119 (dk_at dksX4_isReport_0 6 rfl rfl)
theorem dX4_isReport_9 : decode cX4_isReport 9 = .ok (.if_icmp .ge 7, 3) := dk_162 0 7 (dk_at dksX4_isReport_0 9 rfl rfl)
theorem dX4_isReport_12 : decode cX4_isReport 12 = .ok (.iconst 1, 1) := dk_4 (dk_at dksX4_isReport_0 12 rfl rfl)
theorem dX4_isReport_13 : decode cX4_isReport 13 = .ok (.goto 4, 3) := dk_167 0 4 (dk_at dksX4_isReport_0 13 rfl rfl)
theorem dX4_isReport_16 : decode cX4_isReport 16 = .ok (.iconst 0, 1) := dk_3 (dk_at dksX4_isReport_0 16 rfl rfl)
theorem dX4_isReport_17 : decode cX4_isReport 17 = .ok (.ireturn, 1) := dk_172 (dk_at dksX4_isReport_0 17 rfl rfl)
abbrev cX4_isRight : ByteArray := prog_26_method_73_code
def yX4_isRight : MethodName := ⟨RX4, "isRight", "(I)Z"⟩
def dkwX4_isRight_3 : List UInt8 := [42, 27, 5, 182, 1, 107, 28, 182, 1, 113, 154, 0, 5, 3, 172, 132, 2, 1, 167, 255, 218, 4, 172]
abbrev dktX4_isRight_3 : List UInt8 := dkwX4_isRight_3 ++ []
def dkwX4_isRight_2 : List UInt8 := [182, 1, 107, 61, 28, 42, 27, 8, 182, 1, 107, 163, 0, 34, 42, 17, 11, 54, 42, 27, 3, 182, 1, 107]
abbrev dktX4_isRight_2 : List UInt8 := dkwX4_isRight_2 ++ dktX4_isRight_3
def dkwX4_isRight_1 : List UInt8 := [28, 27, 3, 182, 1, 110, 153, 0, 5, 4, 172, 132, 2, 1, 167, 255, 229, 3, 172, 42, 27, 7]
abbrev dktX4_isRight_1 : List UInt8 := dkwX4_isRight_1 ++ dktX4_isRight_2
def dkwX4_isRight_0 : List UInt8 := [42, 27, 4, 182, 1, 107, 154, 0, 37, 3, 61, 28, 42, 180, 0, 17, 17, 19, 18, 46, 162, 0, 21, 42]
abbrev dktX4_isRight_0 : List UInt8 := dkwX4_isRight_0 ++ dktX4_isRight_1
theorem dksX4_isRight_0 : cX4_isRight.data.toList.drop 0 = dktX4_isRight_0 := by decide +kernel
theorem dksX4_isRight_1 : cX4_isRight.data.toList.drop 24 = dktX4_isRight_1 := dk_seg dksX4_isRight_0 24 rfl rfl
theorem dksX4_isRight_2 : cX4_isRight.data.toList.drop 46 = dktX4_isRight_2 := dk_seg dksX4_isRight_1 22 rfl rfl
theorem dksX4_isRight_3 : cX4_isRight.data.toList.drop 70 = dktX4_isRight_3 := dk_seg dksX4_isRight_2 24 rfl rfl
theorem dX4_isRight_0 : decode cX4_isRight 0 = .ok (.aload_n 0, 1) := dk_42 (dk_at dksX4_isRight_0 0 rfl rfl)
theorem dX4_isRight_1 : decode cX4_isRight 1 = .ok (.iload_n 1, 1) := dk_27 (dk_at dksX4_isRight_0 1 rfl rfl)
theorem dX4_isRight_2 : decode cX4_isRight 2 = .ok (.iconst 1, 1) := dk_4 (dk_at dksX4_isRight_0 2 rfl rfl)
theorem dX4_isRight_3 : decode cX4_isRight 3 = .ok (.invokevirtual 363, 3) := dk_182 1 107 (dk_at dksX4_isRight_0 3 rfl rfl)
theorem dX4_isRight_6 : decode cX4_isRight 6 = .ok (.ifCond .ne 37, 3) := dk_154 0 37 (dk_at dksX4_isRight_0 6 rfl rfl)
theorem dX4_isRight_9 : decode cX4_isRight 9 = .ok (.iconst 0, 1) := dk_3 (dk_at dksX4_isRight_0 9 rfl rfl)
theorem dX4_isRight_10 : decode cX4_isRight 10 = .ok (.istore_n 2, 1) := dk_61 (dk_at dksX4_isRight_0 10 rfl rfl)
theorem dX4_isRight_11 : decode cX4_isRight 11 = .ok (.iload_n 2, 1) := dk_28 (dk_at dksX4_isRight_0 11 rfl rfl)
theorem dX4_isRight_12 : decode cX4_isRight 12 = .ok (.aload_n 0, 1) := dk_42 (dk_at dksX4_isRight_0 12 rfl rfl)
theorem dX4_isRight_13 : decode cX4_isRight 13 = .ok (.getfield 17, 3) := dk_180 0 17 (dk_at dksX4_isRight_0 13 rfl rfl)
theorem dX4_isRight_16 : decode cX4_isRight 16 = .ok (.sipush 4882, 3) := dk_17 19 18 (dk_at dksX4_isRight_0 16 rfl rfl)
theorem dX4_isRight_19 : decode cX4_isRight 19 = .ok (.iaload, 1) := dk_46 (dk_at dksX4_isRight_0 19 rfl rfl)
theorem dX4_isRight_20 : decode cX4_isRight 20 = .ok (.if_icmp .ge 21, 3) := dk_162 0 21 (dk_at dksX4_isRight_0 20 rfl rfl)
theorem dX4_isRight_23 : decode cX4_isRight 23 = .ok (.aload_n 0, 1) := dk_42 (dk_at dksX4_isRight_0 23 rfl rfl)
theorem dX4_isRight_24 : decode cX4_isRight 24 = .ok (.iload_n 2, 1) := dk_28 (dk_at dksX4_isRight_1 0 rfl rfl)
theorem dX4_isRight_25 : decode cX4_isRight 25 = .ok (.iload_n 1, 1) := dk_27 (dk_at dksX4_isRight_1 1 rfl rfl)
theorem dX4_isRight_26 : decode cX4_isRight 26 = .ok (.iconst 0, 1) := dk_3 (dk_at dksX4_isRight_1 2 rfl rfl)
theorem dX4_isRight_27 : decode cX4_isRight 27 = .ok (.invokevirtual 366, 3) := dk_182 1 110 (dk_at dksX4_isRight_1 3 rfl rfl)
theorem dX4_isRight_30 : decode cX4_isRight 30 = .ok (.ifCond .eq 5, 3) := dk_153 0 5 (dk_at dksX4_isRight_1 6 rfl rfl)
theorem dX4_isRight_33 : decode cX4_isRight 33 = .ok (.iconst 1, 1) := dk_4 (dk_at dksX4_isRight_1 9 rfl rfl)
theorem dX4_isRight_34 : decode cX4_isRight 34 = .ok (.ireturn, 1) := dk_172 (dk_at dksX4_isRight_1 10 rfl rfl)
theorem dX4_isRight_35 : decode cX4_isRight 35 = .ok (.iinc 2 1, 3) := dk_132 2 1 (dk_at dksX4_isRight_1 11 rfl rfl)
theorem dX4_isRight_38 : decode cX4_isRight 38 = .ok (.goto (-27), 3) := dk_167 255 229 (dk_at dksX4_isRight_1 14 rfl rfl)
theorem dX4_isRight_41 : decode cX4_isRight 41 = .ok (.iconst 0, 1) := dk_3 (dk_at dksX4_isRight_1 17 rfl rfl)
theorem dX4_isRight_42 : decode cX4_isRight 42 = .ok (.ireturn, 1) := dk_172 (dk_at dksX4_isRight_1 18 rfl rfl)
theorem dX4_isRight_43 : decode cX4_isRight 43 = .ok (.aload_n 0, 1) := dk_42 (dk_at dksX4_isRight_1 19 rfl rfl)
theorem dX4_isRight_44 : decode cX4_isRight 44 = .ok (.iload_n 1, 1) := dk_27 (dk_at dksX4_isRight_1 20 rfl rfl)
theorem dX4_isRight_45 : decode cX4_isRight 45 = .ok (.iconst 4, 1) := dk_7 (dk_at dksX4_isRight_1 21 rfl rfl)
theorem dX4_isRight_46 : decode cX4_isRight 46 = .ok (.invokevirtual 363, 3) := dk_182 1 107 (dk_at dksX4_isRight_2 0 rfl rfl)
theorem dX4_isRight_49 : decode cX4_isRight 49 = .ok (.istore_n 2, 1) := dk_61 (dk_at dksX4_isRight_2 3 rfl rfl)
theorem dX4_isRight_50 : decode cX4_isRight 50 = .ok (.iload_n 2, 1) := dk_28 (dk_at dksX4_isRight_2 4 rfl rfl)
theorem dX4_isRight_51 : decode cX4_isRight 51 = .ok (.aload_n 0, 1) := dk_42 (dk_at dksX4_isRight_2 5 rfl rfl)
theorem dX4_isRight_52 : decode cX4_isRight 52 = .ok (.iload_n 1, 1) := dk_27 (dk_at dksX4_isRight_2 6 rfl rfl)
theorem dX4_isRight_53 : decode cX4_isRight 53 = .ok (.iconst 5, 1) := dk_8 (dk_at dksX4_isRight_2 7 rfl rfl)
theorem dX4_isRight_54 : decode cX4_isRight 54 = .ok (.invokevirtual 363, 3) := dk_182 1 107 (dk_at dksX4_isRight_2 8 rfl rfl)
theorem dX4_isRight_57 : decode cX4_isRight 57 = .ok (.if_icmp .gt 34, 3) := dk_163 0 34 (dk_at dksX4_isRight_2 11 rfl rfl)
theorem dX4_isRight_60 : decode cX4_isRight 60 = .ok (.aload_n 0, 1) := dk_42 (dk_at dksX4_isRight_2 14 rfl rfl)
theorem dX4_isRight_61 : decode cX4_isRight 61 = .ok (.sipush 2870, 3) := dk_17 11 54 (dk_at dksX4_isRight_2 15 rfl rfl)
theorem dX4_isRight_64 : decode cX4_isRight 64 = .ok (.aload_n 0, 1) := dk_42 (dk_at dksX4_isRight_2 18 rfl rfl)
theorem dX4_isRight_65 : decode cX4_isRight 65 = .ok (.iload_n 1, 1) := dk_27 (dk_at dksX4_isRight_2 19 rfl rfl)
theorem dX4_isRight_66 : decode cX4_isRight 66 = .ok (.iconst 0, 1) := dk_3 (dk_at dksX4_isRight_2 20 rfl rfl)
theorem dX4_isRight_67 : decode cX4_isRight 67 = .ok (.invokevirtual 363, 3) := dk_182 1 107 (dk_at dksX4_isRight_2 21 rfl rfl)
theorem dX4_isRight_70 : decode cX4_isRight 70 = .ok (.aload_n 0, 1) := dk_42 (dk_at dksX4_isRight_3 0 rfl rfl)
theorem dX4_isRight_71 : decode cX4_isRight 71 = .ok (.iload_n 1, 1) := dk_27 (dk_at dksX4_isRight_3 1 rfl rfl)
theorem dX4_isRight_72 : decode cX4_isRight 72 = .ok (.iconst 2, 1) := dk_5 (dk_at dksX4_isRight_3 2 rfl rfl)
theorem dX4_isRight_73 : decode cX4_isRight 73 = .ok (.invokevirtual 363, 3) := dk_182 1 107 (dk_at dksX4_isRight_3 3 rfl rfl)
theorem dX4_isRight_76 : decode cX4_isRight 76 = .ok (.iload_n 2, 1) := dk_28 (dk_at dksX4_isRight_3 6 rfl rfl)
theorem dX4_isRight_77 : decode cX4_isRight 77 = .ok (.invokevirtual 369, 3) := dk_182 1 113 (dk_at dksX4_isRight_3 7 rfl rfl)
theorem dX4_isRight_80 : decode cX4_isRight 80 = .ok (.ifCond .ne 5, 3) := dk_154 0 5 (dk_at dksX4_isRight_3 10 rfl rfl)
theorem dX4_isRight_83 : decode cX4_isRight 83 = .ok (.iconst 0, 1) := dk_3 (dk_at dksX4_isRight_3 13 rfl rfl)
theorem dX4_isRight_84 : decode cX4_isRight 84 = .ok (.ireturn, 1) := dk_172 (dk_at dksX4_isRight_3 14 rfl rfl)
theorem dX4_isRight_85 : decode cX4_isRight 85 = .ok (.iinc 2 1, 3) := dk_132 2 1 (dk_at dksX4_isRight_3 15 rfl rfl)
theorem dX4_isRight_88 : decode cX4_isRight 88 = .ok (.goto (-38), 3) := dk_167 255 218 (dk_at dksX4_isRight_3 18 rfl rfl)
theorem dX4_isRight_91 : decode cX4_isRight 91 = .ok (.iconst 1, 1) := dk_4 (dk_at dksX4_isRight_3 21 rfl rfl)
theorem dX4_isRight_92 : decode cX4_isRight 92 = .ok (.ireturn, 1) := dk_172 (dk_at dksX4_isRight_3 22 rfl rfl)
abbrev cX4_tellsOf : ByteArray := prog_26_method_67_code
def yX4_tellsOf : MethodName := ⟨RX4, "tellsOf", "(II)I"⟩
def dkwX4_tellsOf_0 : List UInt8 := [42, 180, 0, 73, 16, 7, 27, 104, 28, 96, 46, 172]
abbrev dktX4_tellsOf_0 : List UInt8 := dkwX4_tellsOf_0 ++ []
theorem dksX4_tellsOf_0 : cX4_tellsOf.data.toList.drop 0 = dktX4_tellsOf_0 := by decide +kernel
theorem dX4_tellsOf_0 : decode cX4_tellsOf 0 = .ok (.aload_n 0, 1) := dk_42 (dk_at dksX4_tellsOf_0 0 rfl rfl)
theorem dX4_tellsOf_1 : decode cX4_tellsOf 1 = .ok (.getfield 73, 3) := dk_180 0 73 (dk_at dksX4_tellsOf_0 1 rfl rfl)
theorem dX4_tellsOf_4 : decode cX4_tellsOf 4 = .ok (.bipush 7, 2) := dk_16 7 (dk_at dksX4_tellsOf_0 4 rfl rfl)
theorem dX4_tellsOf_6 : decode cX4_tellsOf 6 = .ok (.iload_n 1, 1) := dk_27 (dk_at dksX4_tellsOf_0 6 rfl rfl)
theorem dX4_tellsOf_7 : decode cX4_tellsOf 7 = .ok (.imul, 1) := dk_104 (dk_at dksX4_tellsOf_0 7 rfl rfl)
theorem dX4_tellsOf_8 : decode cX4_tellsOf 8 = .ok (.iload_n 2, 1) := dk_28 (dk_at dksX4_tellsOf_0 8 rfl rfl)
theorem dX4_tellsOf_9 : decode cX4_tellsOf 9 = .ok (.iadd, 1) := dk_96 (dk_at dksX4_tellsOf_0 9 rfl rfl)
theorem dX4_tellsOf_10 : decode cX4_tellsOf 10 = .ok (.iaload, 1) := dk_46 (dk_at dksX4_tellsOf_0 10 rfl rfl)
theorem dX4_tellsOf_11 : decode cX4_tellsOf 11 = .ok (.ireturn, 1) := dk_172 (dk_at dksX4_tellsOf_0 11 rfl rfl)
abbrev cX4_isSuch : ByteArray := prog_26_method_72_code
def yX4_isSuch : MethodName := ⟨RX4, "isSuch", "(III)Z"⟩
def dkwX4_isSuch_2 : List UInt8 := [8, 182, 1, 107, 29, 96, 133, 184, 0, 140, 153, 0, 7, 4, 167, 0, 4, 3, 172]
abbrev dktX4_isSuch_2 : List UInt8 := dkwX4_isSuch_2 ++ []
def dkwX4_isSuch_1 : List UInt8 := [182, 1, 107, 160, 0, 38, 42, 27, 6, 182, 0, 163, 133, 42, 28, 7, 182, 1, 107, 29, 100, 133, 42, 28]
abbrev dktX4_isSuch_1 : List UInt8 := dkwX4_isSuch_1 ++ dktX4_isSuch_2
def dkwX4_isSuch_0 : List UInt8 := [42, 27, 4, 182, 0, 163, 42, 28, 5, 182, 1, 107, 160, 0, 53, 42, 27, 5, 182, 0, 163, 42, 28, 6]
abbrev dktX4_isSuch_0 : List UInt8 := dkwX4_isSuch_0 ++ dktX4_isSuch_1
theorem dksX4_isSuch_0 : cX4_isSuch.data.toList.drop 0 = dktX4_isSuch_0 := by decide +kernel
theorem dksX4_isSuch_1 : cX4_isSuch.data.toList.drop 24 = dktX4_isSuch_1 := dk_seg dksX4_isSuch_0 24 rfl rfl
theorem dksX4_isSuch_2 : cX4_isSuch.data.toList.drop 48 = dktX4_isSuch_2 := dk_seg dksX4_isSuch_1 24 rfl rfl
theorem dX4_isSuch_0 : decode cX4_isSuch 0 = .ok (.aload_n 0, 1) := dk_42 (dk_at dksX4_isSuch_0 0 rfl rfl)
theorem dX4_isSuch_1 : decode cX4_isSuch 1 = .ok (.iload_n 1, 1) := dk_27 (dk_at dksX4_isSuch_0 1 rfl rfl)
theorem dX4_isSuch_2 : decode cX4_isSuch 2 = .ok (.iconst 1, 1) := dk_4 (dk_at dksX4_isSuch_0 2 rfl rfl)
theorem dX4_isSuch_3 : decode cX4_isSuch 3 = .ok (.invokevirtual 163, 3) := dk_182 0 163 (dk_at dksX4_isSuch_0 3 rfl rfl)
theorem dX4_isSuch_6 : decode cX4_isSuch 6 = .ok (.aload_n 0, 1) := dk_42 (dk_at dksX4_isSuch_0 6 rfl rfl)
theorem dX4_isSuch_7 : decode cX4_isSuch 7 = .ok (.iload_n 2, 1) := dk_28 (dk_at dksX4_isSuch_0 7 rfl rfl)
theorem dX4_isSuch_8 : decode cX4_isSuch 8 = .ok (.iconst 2, 1) := dk_5 (dk_at dksX4_isSuch_0 8 rfl rfl)
theorem dX4_isSuch_9 : decode cX4_isSuch 9 = .ok (.invokevirtual 363, 3) := dk_182 1 107 (dk_at dksX4_isSuch_0 9 rfl rfl)
theorem dX4_isSuch_12 : decode cX4_isSuch 12 = .ok (.if_icmp .ne 53, 3) := dk_160 0 53 (dk_at dksX4_isSuch_0 12 rfl rfl)
theorem dX4_isSuch_15 : decode cX4_isSuch 15 = .ok (.aload_n 0, 1) := dk_42 (dk_at dksX4_isSuch_0 15 rfl rfl)
theorem dX4_isSuch_16 : decode cX4_isSuch 16 = .ok (.iload_n 1, 1) := dk_27 (dk_at dksX4_isSuch_0 16 rfl rfl)
theorem dX4_isSuch_17 : decode cX4_isSuch 17 = .ok (.iconst 2, 1) := dk_5 (dk_at dksX4_isSuch_0 17 rfl rfl)
theorem dX4_isSuch_18 : decode cX4_isSuch 18 = .ok (.invokevirtual 163, 3) := dk_182 0 163 (dk_at dksX4_isSuch_0 18 rfl rfl)
theorem dX4_isSuch_21 : decode cX4_isSuch 21 = .ok (.aload_n 0, 1) := dk_42 (dk_at dksX4_isSuch_0 21 rfl rfl)
theorem dX4_isSuch_22 : decode cX4_isSuch 22 = .ok (.iload_n 2, 1) := dk_28 (dk_at dksX4_isSuch_0 22 rfl rfl)
theorem dX4_isSuch_23 : decode cX4_isSuch 23 = .ok (.iconst 3, 1) := dk_6 (dk_at dksX4_isSuch_0 23 rfl rfl)
theorem dX4_isSuch_24 : decode cX4_isSuch 24 = .ok (.invokevirtual 363, 3) := dk_182 1 107 (dk_at dksX4_isSuch_1 0 rfl rfl)
theorem dX4_isSuch_27 : decode cX4_isSuch 27 = .ok (.if_icmp .ne 38, 3) := dk_160 0 38 (dk_at dksX4_isSuch_1 3 rfl rfl)
theorem dX4_isSuch_30 : decode cX4_isSuch 30 = .ok (.aload_n 0, 1) := dk_42 (dk_at dksX4_isSuch_1 6 rfl rfl)
theorem dX4_isSuch_31 : decode cX4_isSuch 31 = .ok (.iload_n 1, 1) := dk_27 (dk_at dksX4_isSuch_1 7 rfl rfl)
theorem dX4_isSuch_32 : decode cX4_isSuch 32 = .ok (.iconst 3, 1) := dk_6 (dk_at dksX4_isSuch_1 8 rfl rfl)
theorem dX4_isSuch_33 : decode cX4_isSuch 33 = .ok (.invokevirtual 163, 3) := dk_182 0 163 (dk_at dksX4_isSuch_1 9 rfl rfl)
theorem dX4_isSuch_36 : decode cX4_isSuch 36 = .ok (.i2l, 1) := dk_133 (dk_at dksX4_isSuch_1 12 rfl rfl)
theorem dX4_isSuch_37 : decode cX4_isSuch 37 = .ok (.aload_n 0, 1) := dk_42 (dk_at dksX4_isSuch_1 13 rfl rfl)
theorem dX4_isSuch_38 : decode cX4_isSuch 38 = .ok (.iload_n 2, 1) := dk_28 (dk_at dksX4_isSuch_1 14 rfl rfl)
theorem dX4_isSuch_39 : decode cX4_isSuch 39 = .ok (.iconst 4, 1) := dk_7 (dk_at dksX4_isSuch_1 15 rfl rfl)
theorem dX4_isSuch_40 : decode cX4_isSuch 40 = .ok (.invokevirtual 363, 3) := dk_182 1 107 (dk_at dksX4_isSuch_1 16 rfl rfl)
theorem dX4_isSuch_43 : decode cX4_isSuch 43 = .ok (.iload_n 3, 1) := dk_29 (dk_at dksX4_isSuch_1 19 rfl rfl)
theorem dX4_isSuch_44 : decode cX4_isSuch 44 = .ok (.isub, 1) := dk_100 (dk_at dksX4_isSuch_1 20 rfl rfl)
theorem dX4_isSuch_45 : decode cX4_isSuch 45 = .ok (.i2l, 1) := dk_133 (dk_at dksX4_isSuch_1 21 rfl rfl)
theorem dX4_isSuch_46 : decode cX4_isSuch 46 = .ok (.aload_n 0, 1) := dk_42 (dk_at dksX4_isSuch_1 22 rfl rfl)
theorem dX4_isSuch_47 : decode cX4_isSuch 47 = .ok (.iload_n 2, 1) := dk_28 (dk_at dksX4_isSuch_1 23 rfl rfl)
theorem dX4_isSuch_48 : decode cX4_isSuch 48 = .ok (.iconst 5, 1) := dk_8 (dk_at dksX4_isSuch_2 0 rfl rfl)
theorem dX4_isSuch_49 : decode cX4_isSuch 49 = .ok (.invokevirtual 363, 3) := dk_182 1 107 (dk_at dksX4_isSuch_2 1 rfl rfl)
theorem dX4_isSuch_52 : decode cX4_isSuch 52 = .ok (.iload_n 3, 1) := dk_29 (dk_at dksX4_isSuch_2 4 rfl rfl)
theorem dX4_isSuch_53 : decode cX4_isSuch 53 = .ok (.iadd, 1) := dk_96 (dk_at dksX4_isSuch_2 5 rfl rfl)
theorem dX4_isSuch_54 : decode cX4_isSuch 54 = .ok (.i2l, 1) := dk_133 (dk_at dksX4_isSuch_2 6 rfl rfl)
theorem dX4_isSuch_55 : decode cX4_isSuch 55 = .ok (.invokestatic 140, 3) := dk_184 0 140 (dk_at dksX4_isSuch_2 7 rfl rfl)
theorem dX4_isSuch_58 : decode cX4_isSuch 58 = .ok (.ifCond .eq 7, 3) := dk_153 0 7 (dk_at dksX4_isSuch_2 10 rfl rfl)
theorem dX4_isSuch_61 : decode cX4_isSuch 61 = .ok (.iconst 1, 1) := dk_4 (dk_at dksX4_isSuch_2 13 rfl rfl)
theorem dX4_isSuch_62 : decode cX4_isSuch 62 = .ok (.goto 4, 3) := dk_167 0 4 (dk_at dksX4_isSuch_2 14 rfl rfl)
theorem dX4_isSuch_65 : decode cX4_isSuch 65 = .ok (.iconst 0, 1) := dk_3 (dk_at dksX4_isSuch_2 17 rfl rfl)
theorem dX4_isSuch_66 : decode cX4_isSuch 66 = .ok (.ireturn, 1) := dk_172 (dk_at dksX4_isSuch_2 18 rfl rfl)
abbrev cX4_holdsAt : ByteArray := prog_26_method_71_code
def yX4_holdsAt : MethodName := ⟨RX4, "holdsAt", "(IIII)Z"⟩
def dkwX4_holdsAt_1 : List UInt8 := [16, 100, 5, 28, 104, 4, 96, 104, 96, 21, 4, 96, 46, 29, 160, 0, 7, 4, 167, 0, 4, 3, 172]
abbrev dktX4_holdsAt_1 : List UInt8 := dkwX4_holdsAt_1 ++ []
def dkwX4_holdsAt_0 : List UInt8 := [42, 180, 0, 17, 27, 17, 0, 200, 28, 104, 96, 21, 4, 96, 46, 29, 159, 0, 25, 42, 180, 0, 17, 27]
abbrev dktX4_holdsAt_0 : List UInt8 := dkwX4_holdsAt_0 ++ dktX4_holdsAt_1
theorem dksX4_holdsAt_0 : cX4_holdsAt.data.toList.drop 0 = dktX4_holdsAt_0 := by decide +kernel
theorem dksX4_holdsAt_1 : cX4_holdsAt.data.toList.drop 24 = dktX4_holdsAt_1 := dk_seg dksX4_holdsAt_0 24 rfl rfl
theorem dX4_holdsAt_0 : decode cX4_holdsAt 0 = .ok (.aload_n 0, 1) := dk_42 (dk_at dksX4_holdsAt_0 0 rfl rfl)
theorem dX4_holdsAt_1 : decode cX4_holdsAt 1 = .ok (.getfield 17, 3) := dk_180 0 17 (dk_at dksX4_holdsAt_0 1 rfl rfl)
theorem dX4_holdsAt_4 : decode cX4_holdsAt 4 = .ok (.iload_n 1, 1) := dk_27 (dk_at dksX4_holdsAt_0 4 rfl rfl)
theorem dX4_holdsAt_5 : decode cX4_holdsAt 5 = .ok (.sipush 200, 3) := dk_17 0 200 (dk_at dksX4_holdsAt_0 5 rfl rfl)
theorem dX4_holdsAt_8 : decode cX4_holdsAt 8 = .ok (.iload_n 2, 1) := dk_28 (dk_at dksX4_holdsAt_0 8 rfl rfl)
theorem dX4_holdsAt_9 : decode cX4_holdsAt 9 = .ok (.imul, 1) := dk_104 (dk_at dksX4_holdsAt_0 9 rfl rfl)
theorem dX4_holdsAt_10 : decode cX4_holdsAt 10 = .ok (.iadd, 1) := dk_96 (dk_at dksX4_holdsAt_0 10 rfl rfl)
theorem dX4_holdsAt_11 : decode cX4_holdsAt 11 = .ok (.iload 4, 2) := dk_21 4 (dk_at dksX4_holdsAt_0 11 rfl rfl)
theorem dX4_holdsAt_13 : decode cX4_holdsAt 13 = .ok (.iadd, 1) := dk_96 (dk_at dksX4_holdsAt_0 13 rfl rfl)
theorem dX4_holdsAt_14 : decode cX4_holdsAt 14 = .ok (.iaload, 1) := dk_46 (dk_at dksX4_holdsAt_0 14 rfl rfl)
theorem dX4_holdsAt_15 : decode cX4_holdsAt 15 = .ok (.iload_n 3, 1) := dk_29 (dk_at dksX4_holdsAt_0 15 rfl rfl)
theorem dX4_holdsAt_16 : decode cX4_holdsAt 16 = .ok (.if_icmp .eq 25, 3) := dk_159 0 25 (dk_at dksX4_holdsAt_0 16 rfl rfl)
theorem dX4_holdsAt_19 : decode cX4_holdsAt 19 = .ok (.aload_n 0, 1) := dk_42 (dk_at dksX4_holdsAt_0 19 rfl rfl)
theorem dX4_holdsAt_20 : decode cX4_holdsAt 20 = .ok (.getfield 17, 3) := dk_180 0 17 (dk_at dksX4_holdsAt_0 20 rfl rfl)
theorem dX4_holdsAt_23 : decode cX4_holdsAt 23 = .ok (.iload_n 1, 1) := dk_27 (dk_at dksX4_holdsAt_0 23 rfl rfl)
theorem dX4_holdsAt_24 : decode cX4_holdsAt 24 = .ok (.bipush 100, 2) := dk_16 100 (dk_at dksX4_holdsAt_1 0 rfl rfl)
theorem dX4_holdsAt_26 : decode cX4_holdsAt 26 = .ok (.iconst 2, 1) := dk_5 (dk_at dksX4_holdsAt_1 2 rfl rfl)
theorem dX4_holdsAt_27 : decode cX4_holdsAt 27 = .ok (.iload_n 2, 1) := dk_28 (dk_at dksX4_holdsAt_1 3 rfl rfl)
theorem dX4_holdsAt_28 : decode cX4_holdsAt 28 = .ok (.imul, 1) := dk_104 (dk_at dksX4_holdsAt_1 4 rfl rfl)
theorem dX4_holdsAt_29 : decode cX4_holdsAt 29 = .ok (.iconst 1, 1) := dk_4 (dk_at dksX4_holdsAt_1 5 rfl rfl)
theorem dX4_holdsAt_30 : decode cX4_holdsAt 30 = .ok (.iadd, 1) := dk_96 (dk_at dksX4_holdsAt_1 6 rfl rfl)
theorem dX4_holdsAt_31 : decode cX4_holdsAt 31 = .ok (.imul, 1) := dk_104 (dk_at dksX4_holdsAt_1 7 rfl rfl)
theorem dX4_holdsAt_32 : decode cX4_holdsAt 32 = .ok (.iadd, 1) := dk_96 (dk_at dksX4_holdsAt_1 8 rfl rfl)
theorem dX4_holdsAt_33 : decode cX4_holdsAt 33 = .ok (.iload 4, 2) := dk_21 4 (dk_at dksX4_holdsAt_1 9 rfl rfl)
theorem dX4_holdsAt_35 : decode cX4_holdsAt 35 = .ok (.iadd, 1) := dk_96 (dk_at dksX4_holdsAt_1 11 rfl rfl)
theorem dX4_holdsAt_36 : decode cX4_holdsAt 36 = .ok (.iaload, 1) := dk_46 (dk_at dksX4_holdsAt_1 12 rfl rfl)
theorem dX4_holdsAt_37 : decode cX4_holdsAt 37 = .ok (.iload_n 3, 1) := dk_29 (dk_at dksX4_holdsAt_1 13 rfl rfl)
theorem dX4_holdsAt_38 : decode cX4_holdsAt 38 = .ok (.if_icmp .ne 7, 3) := dk_160 0 7 (dk_at dksX4_holdsAt_1 14 rfl rfl)
theorem dX4_holdsAt_41 : decode cX4_holdsAt 41 = .ok (.iconst 1, 1) := dk_4 (dk_at dksX4_holdsAt_1 17 rfl rfl)
theorem dX4_holdsAt_42 : decode cX4_holdsAt 42 = .ok (.goto 4, 3) := dk_167 0 4 (dk_at dksX4_holdsAt_1 18 rfl rfl)
theorem dX4_holdsAt_45 : decode cX4_holdsAt 45 = .ok (.iconst 0, 1) := dk_3 (dk_at dksX4_holdsAt_1 21 rfl rfl)
theorem dX4_holdsAt_46 : decode cX4_holdsAt 46 = .ok (.ireturn, 1) := dk_172 (dk_at dksX4_holdsAt_1 22 rfl rfl)
abbrev cX4_honest : ByteArray := prog_26_method_75_code
def yX4_honest : MethodName := ⟨RX4, "honest", "(I)I"⟩
def dkwX4_honest_1 : List UInt8 := [153, 0, 7, 4, 167, 0, 4, 3, 172]
abbrev dktX4_honest_1 : List UInt8 := dkwX4_honest_1 ++ []
def dkwX4_honest_0 : List UInt8 := [42, 3, 181, 0, 1, 42, 27, 182, 1, 104, 154, 0, 7, 2, 167, 0, 16, 42, 27, 182, 1, 119]
abbrev dktX4_honest_0 : List UInt8 := dkwX4_honest_0 ++ dktX4_honest_1
theorem dksX4_honest_0 : cX4_honest.data.toList.drop 0 = dktX4_honest_0 := by decide +kernel
theorem dksX4_honest_1 : cX4_honest.data.toList.drop 22 = dktX4_honest_1 := dk_seg dksX4_honest_0 22 rfl rfl
theorem dX4_honest_0 : decode cX4_honest 0 = .ok (.aload_n 0, 1) := dk_42 (dk_at dksX4_honest_0 0 rfl rfl)
theorem dX4_honest_1 : decode cX4_honest 1 = .ok (.iconst 0, 1) := dk_3 (dk_at dksX4_honest_0 1 rfl rfl)
theorem dX4_honest_2 : decode cX4_honest 2 = .ok (.putfield 1, 3) := dk_181 0 1 (dk_at dksX4_honest_0 2 rfl rfl)
theorem dX4_honest_5 : decode cX4_honest 5 = .ok (.aload_n 0, 1) := dk_42 (dk_at dksX4_honest_0 5 rfl rfl)
theorem dX4_honest_6 : decode cX4_honest 6 = .ok (.iload_n 1, 1) := dk_27 (dk_at dksX4_honest_0 6 rfl rfl)
theorem dX4_honest_7 : decode cX4_honest 7 = .ok (.invokevirtual 360, 3) := dk_182 1 104 (dk_at dksX4_honest_0 7 rfl rfl)
theorem dX4_honest_10 : decode cX4_honest 10 = .ok (.ifCond .ne 7, 3) := dk_154 0 7 (dk_at dksX4_honest_0 10 rfl rfl)
theorem dX4_honest_13 : decode cX4_honest 13 = .ok (.iconst (-1), 1) := dk_2 (dk_at dksX4_honest_0 13 rfl rfl)
theorem dX4_honest_14 : decode cX4_honest 14 = .ok (.goto 16, 3) := dk_167 0 16 (dk_at dksX4_honest_0 14 rfl rfl)
theorem dX4_honest_17 : decode cX4_honest 17 = .ok (.aload_n 0, 1) := dk_42 (dk_at dksX4_honest_0 17 rfl rfl)
theorem dX4_honest_18 : decode cX4_honest 18 = .ok (.iload_n 1, 1) := dk_27 (dk_at dksX4_honest_0 18 rfl rfl)
theorem dX4_honest_19 : decode cX4_honest 19 = .ok (.invokevirtual 375, 3) := dk_182 1 119 (dk_at dksX4_honest_0 19 rfl rfl)
theorem dX4_honest_22 : decode cX4_honest 22 = .ok (.ifCond .eq 7, 3) := dk_153 0 7 (dk_at dksX4_honest_1 0 rfl rfl)
theorem dX4_honest_25 : decode cX4_honest 25 = .ok (.iconst 1, 1) := dk_4 (dk_at dksX4_honest_1 3 rfl rfl)
theorem dX4_honest_26 : decode cX4_honest 26 = .ok (.goto 4, 3) := dk_167 0 4 (dk_at dksX4_honest_1 4 rfl rfl)
theorem dX4_honest_29 : decode cX4_honest 29 = .ok (.iconst 0, 1) := dk_3 (dk_at dksX4_honest_1 7 rfl rfl)
theorem dX4_honest_30 : decode cX4_honest 30 = .ok (.ireturn, 1) := dk_172 (dk_at dksX4_honest_1 8 rfl rfl)
abbrev cX4_isHonest : ByteArray := prog_26_method_76_code
def yX4_isHonest : MethodName := ⟨RX4, "isHonest", "(I)Z"⟩
def dkwX4_isHonest_6 : List UInt8 := [132, 4, 1, 167, 255, 198, 4, 172]
abbrev dktX4_isHonest_6 : List UInt8 := dkwX4_isHonest_6 ++ []
def dkwX4_isHonest_5 : List UInt8 := [153, 0, 7, 3, 167, 0, 6, 29, 4, 96, 62, 29, 42, 180, 1, 47, 28, 104, 164, 0, 5, 3, 172]
abbrev dktX4_isHonest_5 : List UInt8 := dkwX4_isHonest_5 ++ dktX4_isHonest_6
def dkwX4_isHonest_4 : List UInt8 := [163, 0, 53, 42, 17, 4, 46, 42, 27, 3, 182, 1, 107, 42, 27, 5, 182, 1, 107, 21, 4, 182, 1, 113]
abbrev dktX4_isHonest_4 : List UInt8 := dkwX4_isHonest_4 ++ dktX4_isHonest_5
def dkwX4_isHonest_3 : List UInt8 := [167, 255, 210, 3, 172, 3, 62, 42, 27, 7, 182, 1, 107, 54, 4, 21, 4, 42, 27, 8, 182, 1, 107]
abbrev dktX4_isHonest_3 : List UInt8 := dkwX4_isHonest_3 ++ dktX4_isHonest_4
def dkwX4_isHonest_2 : List UInt8 := [153, 0, 19, 42, 29, 42, 27, 3, 182, 1, 107, 182, 0, 182, 153, 0, 5, 4, 172, 132, 3, 1]
abbrev dktX4_isHonest_2 : List UInt8 := dkwX4_isHonest_2 ++ dktX4_isHonest_3
def dkwX4_isHonest_1 : List UInt8 := [29, 42, 180, 0, 17, 17, 19, 18, 46, 162, 0, 40, 42, 29, 27, 42, 180, 1, 44, 28, 104, 182, 1, 110]
abbrev dktX4_isHonest_1 : List UInt8 := dkwX4_isHonest_1 ++ dktX4_isHonest_2
def dkwX4_isHonest_0 : List UInt8 := [42, 27, 16, 6, 182, 1, 107, 61, 42, 27, 4, 182, 1, 107, 154, 0, 61, 42, 3, 182, 0, 170, 3, 62]
abbrev dktX4_isHonest_0 : List UInt8 := dkwX4_isHonest_0 ++ dktX4_isHonest_1
theorem dksX4_isHonest_0 : cX4_isHonest.data.toList.drop 0 = dktX4_isHonest_0 := by decide +kernel
theorem dksX4_isHonest_1 : cX4_isHonest.data.toList.drop 24 = dktX4_isHonest_1 := dk_seg dksX4_isHonest_0 24 rfl rfl
theorem dksX4_isHonest_2 : cX4_isHonest.data.toList.drop 48 = dktX4_isHonest_2 := dk_seg dksX4_isHonest_1 24 rfl rfl
theorem dksX4_isHonest_3 : cX4_isHonest.data.toList.drop 70 = dktX4_isHonest_3 := dk_seg dksX4_isHonest_2 22 rfl rfl
theorem dksX4_isHonest_4 : cX4_isHonest.data.toList.drop 93 = dktX4_isHonest_4 := dk_seg dksX4_isHonest_3 23 rfl rfl
theorem dksX4_isHonest_5 : cX4_isHonest.data.toList.drop 117 = dktX4_isHonest_5 := dk_seg dksX4_isHonest_4 24 rfl rfl
theorem dksX4_isHonest_6 : cX4_isHonest.data.toList.drop 140 = dktX4_isHonest_6 := dk_seg dksX4_isHonest_5 23 rfl rfl
theorem dX4_isHonest_0 : decode cX4_isHonest 0 = .ok (.aload_n 0, 1) := dk_42 (dk_at dksX4_isHonest_0 0 rfl rfl)
theorem dX4_isHonest_1 : decode cX4_isHonest 1 = .ok (.iload_n 1, 1) := dk_27 (dk_at dksX4_isHonest_0 1 rfl rfl)
theorem dX4_isHonest_2 : decode cX4_isHonest 2 = .ok (.bipush 6, 2) := dk_16 6 (dk_at dksX4_isHonest_0 2 rfl rfl)
theorem dX4_isHonest_4 : decode cX4_isHonest 4 = .ok (.invokevirtual 363, 3) := dk_182 1 107 (dk_at dksX4_isHonest_0 4 rfl rfl)
theorem dX4_isHonest_7 : decode cX4_isHonest 7 = .ok (.istore_n 2, 1) := dk_61 (dk_at dksX4_isHonest_0 7 rfl rfl)
theorem dX4_isHonest_8 : decode cX4_isHonest 8 = .ok (.aload_n 0, 1) := dk_42 (dk_at dksX4_isHonest_0 8 rfl rfl)
theorem dX4_isHonest_9 : decode cX4_isHonest 9 = .ok (.iload_n 1, 1) := dk_27 (dk_at dksX4_isHonest_0 9 rfl rfl)
theorem dX4_isHonest_10 : decode cX4_isHonest 10 = .ok (.iconst 1, 1) := dk_4 (dk_at dksX4_isHonest_0 10 rfl rfl)
theorem dX4_isHonest_11 : decode cX4_isHonest 11 = .ok (.invokevirtual 363, 3) := dk_182 1 107 (dk_at dksX4_isHonest_0 11 rfl rfl)
theorem dX4_isHonest_14 : decode cX4_isHonest 14 = .ok (.ifCond .ne 61, 3) := dk_154 0 61 (dk_at dksX4_isHonest_0 14 rfl rfl)
theorem dX4_isHonest_17 : decode cX4_isHonest 17 = .ok (.aload_n 0, 1) := dk_42 (dk_at dksX4_isHonest_0 17 rfl rfl)
theorem dX4_isHonest_18 : decode cX4_isHonest 18 = .ok (.iconst 0, 1) := dk_3 (dk_at dksX4_isHonest_0 18 rfl rfl)
theorem dX4_isHonest_19 : decode cX4_isHonest 19 = .ok (.invokevirtual 170, 3) := dk_182 0 170 (dk_at dksX4_isHonest_0 19 rfl rfl)
theorem dX4_isHonest_22 : decode cX4_isHonest 22 = .ok (.iconst 0, 1) := dk_3 (dk_at dksX4_isHonest_0 22 rfl rfl)
theorem dX4_isHonest_23 : decode cX4_isHonest 23 = .ok (.istore_n 3, 1) := dk_62 (dk_at dksX4_isHonest_0 23 rfl rfl)
theorem dX4_isHonest_24 : decode cX4_isHonest 24 = .ok (.iload_n 3, 1) := dk_29 (dk_at dksX4_isHonest_1 0 rfl rfl)
theorem dX4_isHonest_25 : decode cX4_isHonest 25 = .ok (.aload_n 0, 1) := dk_42 (dk_at dksX4_isHonest_1 1 rfl rfl)
theorem dX4_isHonest_26 : decode cX4_isHonest 26 = .ok (.getfield 17, 3) := dk_180 0 17 (dk_at dksX4_isHonest_1 2 rfl rfl)
theorem dX4_isHonest_29 : decode cX4_isHonest 29 = .ok (.sipush 4882, 3) := dk_17 19 18 (dk_at dksX4_isHonest_1 5 rfl rfl)
theorem dX4_isHonest_32 : decode cX4_isHonest 32 = .ok (.iaload, 1) := dk_46 (dk_at dksX4_isHonest_1 8 rfl rfl)
theorem dX4_isHonest_33 : decode cX4_isHonest 33 = .ok (.if_icmp .ge 40, 3) := dk_162 0 40 (dk_at dksX4_isHonest_1 9 rfl rfl)
theorem dX4_isHonest_36 : decode cX4_isHonest 36 = .ok (.aload_n 0, 1) := dk_42 (dk_at dksX4_isHonest_1 12 rfl rfl)
theorem dX4_isHonest_37 : decode cX4_isHonest 37 = .ok (.iload_n 3, 1) := dk_29 (dk_at dksX4_isHonest_1 13 rfl rfl)
theorem dX4_isHonest_38 : decode cX4_isHonest 38 = .ok (.iload_n 1, 1) := dk_27 (dk_at dksX4_isHonest_1 14 rfl rfl)
theorem dX4_isHonest_39 : decode cX4_isHonest 39 = .ok (.aload_n 0, 1) := dk_42 (dk_at dksX4_isHonest_1 15 rfl rfl)
theorem dX4_isHonest_40 : decode cX4_isHonest 40 = .ok (.getfield 300, 3) := dk_180 1 44 (dk_at dksX4_isHonest_1 16 rfl rfl)
theorem dX4_isHonest_43 : decode cX4_isHonest 43 = .ok (.iload_n 2, 1) := dk_28 (dk_at dksX4_isHonest_1 19 rfl rfl)
theorem dX4_isHonest_44 : decode cX4_isHonest 44 = .ok (.imul, 1) := dk_104 (dk_at dksX4_isHonest_1 20 rfl rfl)
theorem dX4_isHonest_45 : decode cX4_isHonest 45 = .ok (.invokevirtual 366, 3) := dk_182 1 110 (dk_at dksX4_isHonest_1 21 rfl rfl)
theorem dX4_isHonest_48 : decode cX4_isHonest 48 = .ok (.ifCond .eq 19, 3) := dk_153 0 19 (dk_at dksX4_isHonest_2 0 rfl rfl)
theorem dX4_isHonest_51 : decode cX4_isHonest 51 = .ok (.aload_n 0, 1) := dk_42 (dk_at dksX4_isHonest_2 3 rfl rfl)
theorem dX4_isHonest_52 : decode cX4_isHonest 52 = .ok (.iload_n 3, 1) := dk_29 (dk_at dksX4_isHonest_2 4 rfl rfl)
theorem dX4_isHonest_53 : decode cX4_isHonest 53 = .ok (.aload_n 0, 1) := dk_42 (dk_at dksX4_isHonest_2 5 rfl rfl)
theorem dX4_isHonest_54 : decode cX4_isHonest 54 = .ok (.iload_n 1, 1) := dk_27 (dk_at dksX4_isHonest_2 6 rfl rfl)
theorem dX4_isHonest_55 : decode cX4_isHonest 55 = .ok (.iconst 0, 1) := dk_3 (dk_at dksX4_isHonest_2 7 rfl rfl)
theorem dX4_isHonest_56 : decode cX4_isHonest 56 = .ok (.invokevirtual 363, 3) := dk_182 1 107 (dk_at dksX4_isHonest_2 8 rfl rfl)
theorem dX4_isHonest_59 : decode cX4_isHonest 59 = .ok (.invokevirtual 182, 3) := dk_182 0 182 (dk_at dksX4_isHonest_2 11 rfl rfl)
theorem dX4_isHonest_62 : decode cX4_isHonest 62 = .ok (.ifCond .eq 5, 3) := dk_153 0 5 (dk_at dksX4_isHonest_2 14 rfl rfl)
theorem dX4_isHonest_65 : decode cX4_isHonest 65 = .ok (.iconst 1, 1) := dk_4 (dk_at dksX4_isHonest_2 17 rfl rfl)
theorem dX4_isHonest_66 : decode cX4_isHonest 66 = .ok (.ireturn, 1) := dk_172 (dk_at dksX4_isHonest_2 18 rfl rfl)
theorem dX4_isHonest_67 : decode cX4_isHonest 67 = .ok (.iinc 3 1, 3) := dk_132 3 1 (dk_at dksX4_isHonest_2 19 rfl rfl)
theorem dX4_isHonest_70 : decode cX4_isHonest 70 = .ok (.goto (-46), 3) := dk_167 255 210 (dk_at dksX4_isHonest_3 0 rfl rfl)
theorem dX4_isHonest_73 : decode cX4_isHonest 73 = .ok (.iconst 0, 1) := dk_3 (dk_at dksX4_isHonest_3 3 rfl rfl)
theorem dX4_isHonest_74 : decode cX4_isHonest 74 = .ok (.ireturn, 1) := dk_172 (dk_at dksX4_isHonest_3 4 rfl rfl)
theorem dX4_isHonest_75 : decode cX4_isHonest 75 = .ok (.iconst 0, 1) := dk_3 (dk_at dksX4_isHonest_3 5 rfl rfl)
theorem dX4_isHonest_76 : decode cX4_isHonest 76 = .ok (.istore_n 3, 1) := dk_62 (dk_at dksX4_isHonest_3 6 rfl rfl)
theorem dX4_isHonest_77 : decode cX4_isHonest 77 = .ok (.aload_n 0, 1) := dk_42 (dk_at dksX4_isHonest_3 7 rfl rfl)
theorem dX4_isHonest_78 : decode cX4_isHonest 78 = .ok (.iload_n 1, 1) := dk_27 (dk_at dksX4_isHonest_3 8 rfl rfl)
theorem dX4_isHonest_79 : decode cX4_isHonest 79 = .ok (.iconst 4, 1) := dk_7 (dk_at dksX4_isHonest_3 9 rfl rfl)
theorem dX4_isHonest_80 : decode cX4_isHonest 80 = .ok (.invokevirtual 363, 3) := dk_182 1 107 (dk_at dksX4_isHonest_3 10 rfl rfl)
theorem dX4_isHonest_83 : decode cX4_isHonest 83 = .ok (.istore 4, 2) := dk_54 4 (dk_at dksX4_isHonest_3 13 rfl rfl)
theorem dX4_isHonest_85 : decode cX4_isHonest 85 = .ok (.iload 4, 2) := dk_21 4 (dk_at dksX4_isHonest_3 15 rfl rfl)
theorem dX4_isHonest_87 : decode cX4_isHonest 87 = .ok (.aload_n 0, 1) := dk_42 (dk_at dksX4_isHonest_3 17 rfl rfl)
theorem dX4_isHonest_88 : decode cX4_isHonest 88 = .ok (.iload_n 1, 1) := dk_27 (dk_at dksX4_isHonest_3 18 rfl rfl)
theorem dX4_isHonest_89 : decode cX4_isHonest 89 = .ok (.iconst 5, 1) := dk_8 (dk_at dksX4_isHonest_3 19 rfl rfl)
theorem dX4_isHonest_90 : decode cX4_isHonest 90 = .ok (.invokevirtual 363, 3) := dk_182 1 107 (dk_at dksX4_isHonest_3 20 rfl rfl)
theorem dX4_isHonest_93 : decode cX4_isHonest 93 = .ok (.if_icmp .gt 53, 3) := dk_163 0 53 (dk_at dksX4_isHonest_4 0 rfl rfl)
theorem dX4_isHonest_96 : decode cX4_isHonest 96 = .ok (.aload_n 0, 1) := dk_42 (dk_at dksX4_isHonest_4 3 rfl rfl)
theorem dX4_isHonest_97 : decode cX4_isHonest 97 = .ok (.sipush 1070, 3) := dk_17 4 46 (dk_at dksX4_isHonest_4 4 rfl rfl)
theorem dX4_isHonest_100 : decode cX4_isHonest 100 = .ok (.aload_n 0, 1) := dk_42 (dk_at dksX4_isHonest_4 7 rfl rfl)
theorem dX4_isHonest_101 : decode cX4_isHonest 101 = .ok (.iload_n 1, 1) := dk_27 (dk_at dksX4_isHonest_4 8 rfl rfl)
theorem dX4_isHonest_102 : decode cX4_isHonest 102 = .ok (.iconst 0, 1) := dk_3 (dk_at dksX4_isHonest_4 9 rfl rfl)
theorem dX4_isHonest_103 : decode cX4_isHonest 103 = .ok (.invokevirtual 363, 3) := dk_182 1 107 (dk_at dksX4_isHonest_4 10 rfl rfl)
theorem dX4_isHonest_106 : decode cX4_isHonest 106 = .ok (.aload_n 0, 1) := dk_42 (dk_at dksX4_isHonest_4 13 rfl rfl)
theorem dX4_isHonest_107 : decode cX4_isHonest 107 = .ok (.iload_n 1, 1) := dk_27 (dk_at dksX4_isHonest_4 14 rfl rfl)
theorem dX4_isHonest_108 : decode cX4_isHonest 108 = .ok (.iconst 2, 1) := dk_5 (dk_at dksX4_isHonest_4 15 rfl rfl)
theorem dX4_isHonest_109 : decode cX4_isHonest 109 = .ok (.invokevirtual 363, 3) := dk_182 1 107 (dk_at dksX4_isHonest_4 16 rfl rfl)
theorem dX4_isHonest_112 : decode cX4_isHonest 112 = .ok (.iload 4, 2) := dk_21 4 (dk_at dksX4_isHonest_4 19 rfl rfl)
theorem dX4_isHonest_114 : decode cX4_isHonest 114 = .ok (.invokevirtual 369, 3) := dk_182 1 113 (dk_at dksX4_isHonest_4 21 rfl rfl)
theorem dX4_isHonest_117 : decode cX4_isHonest 117 = .ok (.ifCond .eq 7, 3) := dk_153 0 7 (dk_at dksX4_isHonest_5 0 rfl rfl)
theorem dX4_isHonest_120 : decode cX4_isHonest 120 = .ok (.iconst 0, 1) := dk_3 (dk_at dksX4_isHonest_5 3 rfl rfl)
theorem dX4_isHonest_121 : decode cX4_isHonest 121 = .ok (.goto 6, 3) := dk_167 0 6 (dk_at dksX4_isHonest_5 4 rfl rfl)
theorem dX4_isHonest_124 : decode cX4_isHonest 124 = .ok (.iload_n 3, 1) := dk_29 (dk_at dksX4_isHonest_5 7 rfl rfl)
theorem dX4_isHonest_125 : decode cX4_isHonest 125 = .ok (.iconst 1, 1) := dk_4 (dk_at dksX4_isHonest_5 8 rfl rfl)
theorem dX4_isHonest_126 : decode cX4_isHonest 126 = .ok (.iadd, 1) := dk_96 (dk_at dksX4_isHonest_5 9 rfl rfl)
theorem dX4_isHonest_127 : decode cX4_isHonest 127 = .ok (.istore_n 3, 1) := dk_62 (dk_at dksX4_isHonest_5 10 rfl rfl)
theorem dX4_isHonest_128 : decode cX4_isHonest 128 = .ok (.iload_n 3, 1) := dk_29 (dk_at dksX4_isHonest_5 11 rfl rfl)
theorem dX4_isHonest_129 : decode cX4_isHonest 129 = .ok (.aload_n 0, 1) := dk_42 (dk_at dksX4_isHonest_5 12 rfl rfl)
theorem dX4_isHonest_130 : decode cX4_isHonest 130 = .ok (.getfield 303, 3) := dk_180 1 47 (dk_at dksX4_isHonest_5 13 rfl rfl)
theorem dX4_isHonest_133 : decode cX4_isHonest 133 = .ok (.iload_n 2, 1) := dk_28 (dk_at dksX4_isHonest_5 16 rfl rfl)
theorem dX4_isHonest_134 : decode cX4_isHonest 134 = .ok (.imul, 1) := dk_104 (dk_at dksX4_isHonest_5 17 rfl rfl)
theorem dX4_isHonest_135 : decode cX4_isHonest 135 = .ok (.if_icmp .le 5, 3) := dk_164 0 5 (dk_at dksX4_isHonest_5 18 rfl rfl)
theorem dX4_isHonest_138 : decode cX4_isHonest 138 = .ok (.iconst 0, 1) := dk_3 (dk_at dksX4_isHonest_5 21 rfl rfl)
theorem dX4_isHonest_139 : decode cX4_isHonest 139 = .ok (.ireturn, 1) := dk_172 (dk_at dksX4_isHonest_5 22 rfl rfl)
theorem dX4_isHonest_140 : decode cX4_isHonest 140 = .ok (.iinc 4 1, 3) := dk_132 4 1 (dk_at dksX4_isHonest_6 0 rfl rfl)
theorem dX4_isHonest_143 : decode cX4_isHonest 143 = .ok (.goto (-58), 3) := dk_167 255 198 (dk_at dksX4_isHonest_6 3 rfl rfl)
theorem dX4_isHonest_146 : decode cX4_isHonest 146 = .ok (.iconst 1, 1) := dk_4 (dk_at dksX4_isHonest_6 6 rfl rfl)
theorem dX4_isHonest_147 : decode cX4_isHonest 147 = .ok (.ireturn, 1) := dk_172 (dk_at dksX4_isHonest_6 7 rfl rfl)
abbrev cX4_agree : ByteArray := prog_26_method_77_code
def yX4_agree : MethodName := ⟨RX4, "agree", "(II)I"⟩
def dkwX4_agree_5 : List UInt8 := [167, 0, 4, 3, 172]
abbrev dktX4_agree_5 : List UInt8 := dkwX4_agree_5 ++ []
def dkwX4_agree_4 : List UInt8 := [28, 8, 182, 1, 107, 163, 0, 22, 42, 28, 7, 182, 1, 107, 42, 27, 8, 182, 1, 107, 163, 0, 7, 4]
abbrev dktX4_agree_4 : List UInt8 := dkwX4_agree_4 ++ dktX4_agree_5
def dkwX4_agree_3 : List UInt8 := [4, 172, 42, 27, 6, 182, 1, 107, 42, 28, 6, 182, 1, 107, 160, 0, 37, 42, 27, 7, 182, 1, 107, 42]
abbrev dktX4_agree_3 : List UInt8 := dkwX4_agree_3 ++ dktX4_agree_4
def dkwX4_agree_2 : List UInt8 := [182, 1, 107, 42, 28, 5, 182, 1, 107, 159, 0, 5, 3, 172, 42, 27, 4, 182, 1, 107, 4, 160, 0, 5]
abbrev dktX4_agree_2 : List UInt8 := dkwX4_agree_2 ++ dktX4_agree_3
def dkwX4_agree_1 : List UInt8 := [160, 0, 5, 2, 172, 42, 27, 4, 182, 1, 107, 42, 28, 4, 182, 1, 107, 160, 0, 18, 42, 27, 5]
abbrev dktX4_agree_1 : List UInt8 := dkwX4_agree_1 ++ dktX4_agree_2
def dkwX4_agree_0 : List UInt8 := [42, 3, 181, 0, 1, 42, 27, 182, 1, 104, 153, 0, 16, 42, 28, 182, 1, 104, 153, 0, 8, 27, 28]
abbrev dktX4_agree_0 : List UInt8 := dkwX4_agree_0 ++ dktX4_agree_1
theorem dksX4_agree_0 : cX4_agree.data.toList.drop 0 = dktX4_agree_0 := by decide +kernel
theorem dksX4_agree_1 : cX4_agree.data.toList.drop 23 = dktX4_agree_1 := dk_seg dksX4_agree_0 23 rfl rfl
theorem dksX4_agree_2 : cX4_agree.data.toList.drop 46 = dktX4_agree_2 := dk_seg dksX4_agree_1 23 rfl rfl
theorem dksX4_agree_3 : cX4_agree.data.toList.drop 70 = dktX4_agree_3 := dk_seg dksX4_agree_2 24 rfl rfl
theorem dksX4_agree_4 : cX4_agree.data.toList.drop 94 = dktX4_agree_4 := dk_seg dksX4_agree_3 24 rfl rfl
theorem dksX4_agree_5 : cX4_agree.data.toList.drop 118 = dktX4_agree_5 := dk_seg dksX4_agree_4 24 rfl rfl
theorem dX4_agree_0 : decode cX4_agree 0 = .ok (.aload_n 0, 1) := dk_42 (dk_at dksX4_agree_0 0 rfl rfl)
theorem dX4_agree_1 : decode cX4_agree 1 = .ok (.iconst 0, 1) := dk_3 (dk_at dksX4_agree_0 1 rfl rfl)
theorem dX4_agree_2 : decode cX4_agree 2 = .ok (.putfield 1, 3) := dk_181 0 1 (dk_at dksX4_agree_0 2 rfl rfl)
theorem dX4_agree_5 : decode cX4_agree 5 = .ok (.aload_n 0, 1) := dk_42 (dk_at dksX4_agree_0 5 rfl rfl)
theorem dX4_agree_6 : decode cX4_agree 6 = .ok (.iload_n 1, 1) := dk_27 (dk_at dksX4_agree_0 6 rfl rfl)
theorem dX4_agree_7 : decode cX4_agree 7 = .ok (.invokevirtual 360, 3) := dk_182 1 104 (dk_at dksX4_agree_0 7 rfl rfl)
theorem dX4_agree_10 : decode cX4_agree 10 = .ok (.ifCond .eq 16, 3) := dk_153 0 16 (dk_at dksX4_agree_0 10 rfl rfl)
theorem dX4_agree_13 : decode cX4_agree 13 = .ok (.aload_n 0, 1) := dk_42 (dk_at dksX4_agree_0 13 rfl rfl)
theorem dX4_agree_14 : decode cX4_agree 14 = .ok (.iload_n 2, 1) := dk_28 (dk_at dksX4_agree_0 14 rfl rfl)
theorem dX4_agree_15 : decode cX4_agree 15 = .ok (.invokevirtual 360, 3) := dk_182 1 104 (dk_at dksX4_agree_0 15 rfl rfl)
theorem dX4_agree_18 : decode cX4_agree 18 = .ok (.ifCond .eq 8, 3) := dk_153 0 8 (dk_at dksX4_agree_0 18 rfl rfl)
theorem dX4_agree_21 : decode cX4_agree 21 = .ok (.iload_n 1, 1) := dk_27 (dk_at dksX4_agree_0 21 rfl rfl)
theorem dX4_agree_22 : decode cX4_agree 22 = .ok (.iload_n 2, 1) := dk_28 (dk_at dksX4_agree_0 22 rfl rfl)
theorem dX4_agree_23 : decode cX4_agree 23 = .ok (.if_icmp .ne 5, 3) := dk_160 0 5 (dk_at dksX4_agree_1 0 rfl rfl)
theorem dX4_agree_26 : decode cX4_agree 26 = .ok (.iconst (-1), 1) := dk_2 (dk_at dksX4_agree_1 3 rfl rfl)
theorem dX4_agree_27 : decode cX4_agree 27 = .ok (.ireturn, 1) := dk_172 (dk_at dksX4_agree_1 4 rfl rfl)
theorem dX4_agree_28 : decode cX4_agree 28 = .ok (.aload_n 0, 1) := dk_42 (dk_at dksX4_agree_1 5 rfl rfl)
theorem dX4_agree_29 : decode cX4_agree 29 = .ok (.iload_n 1, 1) := dk_27 (dk_at dksX4_agree_1 6 rfl rfl)
theorem dX4_agree_30 : decode cX4_agree 30 = .ok (.iconst 1, 1) := dk_4 (dk_at dksX4_agree_1 7 rfl rfl)
theorem dX4_agree_31 : decode cX4_agree 31 = .ok (.invokevirtual 363, 3) := dk_182 1 107 (dk_at dksX4_agree_1 8 rfl rfl)
theorem dX4_agree_34 : decode cX4_agree 34 = .ok (.aload_n 0, 1) := dk_42 (dk_at dksX4_agree_1 11 rfl rfl)
theorem dX4_agree_35 : decode cX4_agree 35 = .ok (.iload_n 2, 1) := dk_28 (dk_at dksX4_agree_1 12 rfl rfl)
theorem dX4_agree_36 : decode cX4_agree 36 = .ok (.iconst 1, 1) := dk_4 (dk_at dksX4_agree_1 13 rfl rfl)
theorem dX4_agree_37 : decode cX4_agree 37 = .ok (.invokevirtual 363, 3) := dk_182 1 107 (dk_at dksX4_agree_1 14 rfl rfl)
theorem dX4_agree_40 : decode cX4_agree 40 = .ok (.if_icmp .ne 18, 3) := dk_160 0 18 (dk_at dksX4_agree_1 17 rfl rfl)
theorem dX4_agree_43 : decode cX4_agree 43 = .ok (.aload_n 0, 1) := dk_42 (dk_at dksX4_agree_1 20 rfl rfl)
theorem dX4_agree_44 : decode cX4_agree 44 = .ok (.iload_n 1, 1) := dk_27 (dk_at dksX4_agree_1 21 rfl rfl)
theorem dX4_agree_45 : decode cX4_agree 45 = .ok (.iconst 2, 1) := dk_5 (dk_at dksX4_agree_1 22 rfl rfl)
theorem dX4_agree_46 : decode cX4_agree 46 = .ok (.invokevirtual 363, 3) := dk_182 1 107 (dk_at dksX4_agree_2 0 rfl rfl)
theorem dX4_agree_49 : decode cX4_agree 49 = .ok (.aload_n 0, 1) := dk_42 (dk_at dksX4_agree_2 3 rfl rfl)
theorem dX4_agree_50 : decode cX4_agree 50 = .ok (.iload_n 2, 1) := dk_28 (dk_at dksX4_agree_2 4 rfl rfl)
theorem dX4_agree_51 : decode cX4_agree 51 = .ok (.iconst 2, 1) := dk_5 (dk_at dksX4_agree_2 5 rfl rfl)
theorem dX4_agree_52 : decode cX4_agree 52 = .ok (.invokevirtual 363, 3) := dk_182 1 107 (dk_at dksX4_agree_2 6 rfl rfl)
theorem dX4_agree_55 : decode cX4_agree 55 = .ok (.if_icmp .eq 5, 3) := dk_159 0 5 (dk_at dksX4_agree_2 9 rfl rfl)
theorem dX4_agree_58 : decode cX4_agree 58 = .ok (.iconst 0, 1) := dk_3 (dk_at dksX4_agree_2 12 rfl rfl)
theorem dX4_agree_59 : decode cX4_agree 59 = .ok (.ireturn, 1) := dk_172 (dk_at dksX4_agree_2 13 rfl rfl)
theorem dX4_agree_60 : decode cX4_agree 60 = .ok (.aload_n 0, 1) := dk_42 (dk_at dksX4_agree_2 14 rfl rfl)
theorem dX4_agree_61 : decode cX4_agree 61 = .ok (.iload_n 1, 1) := dk_27 (dk_at dksX4_agree_2 15 rfl rfl)
theorem dX4_agree_62 : decode cX4_agree 62 = .ok (.iconst 1, 1) := dk_4 (dk_at dksX4_agree_2 16 rfl rfl)
theorem dX4_agree_63 : decode cX4_agree 63 = .ok (.invokevirtual 363, 3) := dk_182 1 107 (dk_at dksX4_agree_2 17 rfl rfl)
theorem dX4_agree_66 : decode cX4_agree 66 = .ok (.iconst 1, 1) := dk_4 (dk_at dksX4_agree_2 20 rfl rfl)
theorem dX4_agree_67 : decode cX4_agree 67 = .ok (.if_icmp .ne 5, 3) := dk_160 0 5 (dk_at dksX4_agree_2 21 rfl rfl)
theorem dX4_agree_70 : decode cX4_agree 70 = .ok (.iconst 1, 1) := dk_4 (dk_at dksX4_agree_3 0 rfl rfl)
theorem dX4_agree_71 : decode cX4_agree 71 = .ok (.ireturn, 1) := dk_172 (dk_at dksX4_agree_3 1 rfl rfl)
theorem dX4_agree_72 : decode cX4_agree 72 = .ok (.aload_n 0, 1) := dk_42 (dk_at dksX4_agree_3 2 rfl rfl)
theorem dX4_agree_73 : decode cX4_agree 73 = .ok (.iload_n 1, 1) := dk_27 (dk_at dksX4_agree_3 3 rfl rfl)
theorem dX4_agree_74 : decode cX4_agree 74 = .ok (.iconst 3, 1) := dk_6 (dk_at dksX4_agree_3 4 rfl rfl)
theorem dX4_agree_75 : decode cX4_agree 75 = .ok (.invokevirtual 363, 3) := dk_182 1 107 (dk_at dksX4_agree_3 5 rfl rfl)
theorem dX4_agree_78 : decode cX4_agree 78 = .ok (.aload_n 0, 1) := dk_42 (dk_at dksX4_agree_3 8 rfl rfl)
theorem dX4_agree_79 : decode cX4_agree 79 = .ok (.iload_n 2, 1) := dk_28 (dk_at dksX4_agree_3 9 rfl rfl)
theorem dX4_agree_80 : decode cX4_agree 80 = .ok (.iconst 3, 1) := dk_6 (dk_at dksX4_agree_3 10 rfl rfl)
theorem dX4_agree_81 : decode cX4_agree 81 = .ok (.invokevirtual 363, 3) := dk_182 1 107 (dk_at dksX4_agree_3 11 rfl rfl)
theorem dX4_agree_84 : decode cX4_agree 84 = .ok (.if_icmp .ne 37, 3) := dk_160 0 37 (dk_at dksX4_agree_3 14 rfl rfl)
theorem dX4_agree_87 : decode cX4_agree 87 = .ok (.aload_n 0, 1) := dk_42 (dk_at dksX4_agree_3 17 rfl rfl)
theorem dX4_agree_88 : decode cX4_agree 88 = .ok (.iload_n 1, 1) := dk_27 (dk_at dksX4_agree_3 18 rfl rfl)
theorem dX4_agree_89 : decode cX4_agree 89 = .ok (.iconst 4, 1) := dk_7 (dk_at dksX4_agree_3 19 rfl rfl)
theorem dX4_agree_90 : decode cX4_agree 90 = .ok (.invokevirtual 363, 3) := dk_182 1 107 (dk_at dksX4_agree_3 20 rfl rfl)
theorem dX4_agree_93 : decode cX4_agree 93 = .ok (.aload_n 0, 1) := dk_42 (dk_at dksX4_agree_3 23 rfl rfl)
theorem dX4_agree_94 : decode cX4_agree 94 = .ok (.iload_n 2, 1) := dk_28 (dk_at dksX4_agree_4 0 rfl rfl)
theorem dX4_agree_95 : decode cX4_agree 95 = .ok (.iconst 5, 1) := dk_8 (dk_at dksX4_agree_4 1 rfl rfl)
theorem dX4_agree_96 : decode cX4_agree 96 = .ok (.invokevirtual 363, 3) := dk_182 1 107 (dk_at dksX4_agree_4 2 rfl rfl)
theorem dX4_agree_99 : decode cX4_agree 99 = .ok (.if_icmp .gt 22, 3) := dk_163 0 22 (dk_at dksX4_agree_4 5 rfl rfl)
theorem dX4_agree_102 : decode cX4_agree 102 = .ok (.aload_n 0, 1) := dk_42 (dk_at dksX4_agree_4 8 rfl rfl)
theorem dX4_agree_103 : decode cX4_agree 103 = .ok (.iload_n 2, 1) := dk_28 (dk_at dksX4_agree_4 9 rfl rfl)
theorem dX4_agree_104 : decode cX4_agree 104 = .ok (.iconst 4, 1) := dk_7 (dk_at dksX4_agree_4 10 rfl rfl)
theorem dX4_agree_105 : decode cX4_agree 105 = .ok (.invokevirtual 363, 3) := dk_182 1 107 (dk_at dksX4_agree_4 11 rfl rfl)
theorem dX4_agree_108 : decode cX4_agree 108 = .ok (.aload_n 0, 1) := dk_42 (dk_at dksX4_agree_4 14 rfl rfl)
theorem dX4_agree_109 : decode cX4_agree 109 = .ok (.iload_n 1, 1) := dk_27 (dk_at dksX4_agree_4 15 rfl rfl)
theorem dX4_agree_110 : decode cX4_agree 110 = .ok (.iconst 5, 1) := dk_8 (dk_at dksX4_agree_4 16 rfl rfl)
theorem dX4_agree_111 : decode cX4_agree 111 = .ok (.invokevirtual 363, 3) := dk_182 1 107 (dk_at dksX4_agree_4 17 rfl rfl)
theorem dX4_agree_114 : decode cX4_agree 114 = .ok (.if_icmp .gt 7, 3) := dk_163 0 7 (dk_at dksX4_agree_4 20 rfl rfl)
theorem dX4_agree_117 : decode cX4_agree 117 = .ok (.iconst 1, 1) := dk_4 (dk_at dksX4_agree_4 23 rfl rfl)
theorem dX4_agree_118 : decode cX4_agree 118 = .ok (.goto 4, 3) := dk_167 0 4 (dk_at dksX4_agree_5 0 rfl rfl)
theorem dX4_agree_121 : decode cX4_agree 121 = .ok (.iconst 0, 1) := dk_3 (dk_at dksX4_agree_5 3 rfl rfl)
theorem dX4_agree_122 : decode cX4_agree 122 = .ok (.ireturn, 1) := dk_172 (dk_at dksX4_agree_5 4 rfl rfl)
abbrev cX4_stories : ByteArray := prog_26_method_80_code
def yX4_stories : MethodName := ⟨RX4, "stories", "(IZI)I"⟩
def dkwX4_stories_5 : List UInt8 := [154, 0, 8, 21, 4, 167, 0, 15, 29, 4, 160, 0, 8, 21, 5, 167, 0, 5, 21, 6, 172]
abbrev dktX4_stories_5 : List UInt8 := dkwX4_stories_5 ++ []
def dkwX4_stories_4 : List UInt8 := [21, 6, 4, 21, 7, 120, 128, 54, 6, 132, 8, 1, 167, 255, 207, 132, 7, 1, 167, 255, 189, 29]
abbrev dktX4_stories_4 : List UInt8 := dkwX4_stories_4 ++ dktX4_stories_5
def dkwX4_stories_3 : List UInt8 := [21, 8, 28, 182, 1, 128, 154, 0, 6, 167, 0, 24, 132, 4, 1, 21, 5, 4, 21, 8, 120, 128, 54, 5]
abbrev dktX4_stories_3 : List UInt8 := dkwX4_stories_3 ++ dktX4_stories_4
def dkwX4_stories_2 : List UInt8 := [42, 180, 1, 41, 162, 0, 64, 3, 54, 8, 21, 8, 42, 180, 0, 24, 162, 0, 46, 42, 27, 21, 7]
abbrev dktX4_stories_2 : List UInt8 := dkwX4_stories_2 ++ dktX4_stories_3
def dkwX4_stories_1 : List UInt8 := [154, 0, 5, 2, 172, 42, 3, 182, 0, 170, 3, 54, 4, 3, 54, 5, 3, 54, 6, 3, 54, 7, 21, 7]
abbrev dktX4_stories_1 : List UInt8 := dkwX4_stories_1 ++ dktX4_stories_2
def dkwX4_stories_0 : List UInt8 := [42, 3, 181, 0, 1, 42, 27, 182, 1, 125, 153, 0, 15, 29, 133, 9, 20, 0, 200, 184, 0, 140]
abbrev dktX4_stories_0 : List UInt8 := dkwX4_stories_0 ++ dktX4_stories_1
theorem dksX4_stories_0 : cX4_stories.data.toList.drop 0 = dktX4_stories_0 := by decide +kernel
theorem dksX4_stories_1 : cX4_stories.data.toList.drop 22 = dktX4_stories_1 := dk_seg dksX4_stories_0 22 rfl rfl
theorem dksX4_stories_2 : cX4_stories.data.toList.drop 46 = dktX4_stories_2 := dk_seg dksX4_stories_1 24 rfl rfl
theorem dksX4_stories_3 : cX4_stories.data.toList.drop 69 = dktX4_stories_3 := dk_seg dksX4_stories_2 23 rfl rfl
theorem dksX4_stories_4 : cX4_stories.data.toList.drop 93 = dktX4_stories_4 := dk_seg dksX4_stories_3 24 rfl rfl
theorem dksX4_stories_5 : cX4_stories.data.toList.drop 115 = dktX4_stories_5 := dk_seg dksX4_stories_4 22 rfl rfl
theorem dX4_stories_0 : decode cX4_stories 0 = .ok (.aload_n 0, 1) := dk_42 (dk_at dksX4_stories_0 0 rfl rfl)
theorem dX4_stories_1 : decode cX4_stories 1 = .ok (.iconst 0, 1) := dk_3 (dk_at dksX4_stories_0 1 rfl rfl)
theorem dX4_stories_2 : decode cX4_stories 2 = .ok (.putfield 1, 3) := dk_181 0 1 (dk_at dksX4_stories_0 2 rfl rfl)
theorem dX4_stories_5 : decode cX4_stories 5 = .ok (.aload_n 0, 1) := dk_42 (dk_at dksX4_stories_0 5 rfl rfl)
theorem dX4_stories_6 : decode cX4_stories 6 = .ok (.iload_n 1, 1) := dk_27 (dk_at dksX4_stories_0 6 rfl rfl)
theorem dX4_stories_7 : decode cX4_stories 7 = .ok (.invokevirtual 381, 3) := dk_182 1 125 (dk_at dksX4_stories_0 7 rfl rfl)
theorem dX4_stories_10 : decode cX4_stories 10 = .ok (.ifCond .eq 15, 3) := dk_153 0 15 (dk_at dksX4_stories_0 10 rfl rfl)
theorem dX4_stories_13 : decode cX4_stories 13 = .ok (.iload_n 3, 1) := dk_29 (dk_at dksX4_stories_0 13 rfl rfl)
theorem dX4_stories_14 : decode cX4_stories 14 = .ok (.i2l, 1) := dk_133 (dk_at dksX4_stories_0 14 rfl rfl)
theorem dX4_stories_15 : decode cX4_stories 15 = .ok (.lconst 0, 1) := dk_9 (dk_at dksX4_stories_0 15 rfl rfl)
theorem dX4_stories_16 : decode cX4_stories 16 = .ok (.ldc2_w 200, 3) := dk_20 0 200 (dk_at dksX4_stories_0 16 rfl rfl)
theorem dX4_stories_19 : decode cX4_stories 19 = .ok (.invokestatic 140, 3) := dk_184 0 140 (dk_at dksX4_stories_0 19 rfl rfl)
theorem dX4_stories_22 : decode cX4_stories 22 = .ok (.ifCond .ne 5, 3) := dk_154 0 5 (dk_at dksX4_stories_1 0 rfl rfl)
theorem dX4_stories_25 : decode cX4_stories 25 = .ok (.iconst (-1), 1) := dk_2 (dk_at dksX4_stories_1 3 rfl rfl)
theorem dX4_stories_26 : decode cX4_stories 26 = .ok (.ireturn, 1) := dk_172 (dk_at dksX4_stories_1 4 rfl rfl)
theorem dX4_stories_27 : decode cX4_stories 27 = .ok (.aload_n 0, 1) := dk_42 (dk_at dksX4_stories_1 5 rfl rfl)
theorem dX4_stories_28 : decode cX4_stories 28 = .ok (.iconst 0, 1) := dk_3 (dk_at dksX4_stories_1 6 rfl rfl)
theorem dX4_stories_29 : decode cX4_stories 29 = .ok (.invokevirtual 170, 3) := dk_182 0 170 (dk_at dksX4_stories_1 7 rfl rfl)
theorem dX4_stories_32 : decode cX4_stories 32 = .ok (.iconst 0, 1) := dk_3 (dk_at dksX4_stories_1 10 rfl rfl)
theorem dX4_stories_33 : decode cX4_stories 33 = .ok (.istore 4, 2) := dk_54 4 (dk_at dksX4_stories_1 11 rfl rfl)
theorem dX4_stories_35 : decode cX4_stories 35 = .ok (.iconst 0, 1) := dk_3 (dk_at dksX4_stories_1 13 rfl rfl)
theorem dX4_stories_36 : decode cX4_stories 36 = .ok (.istore 5, 2) := dk_54 5 (dk_at dksX4_stories_1 14 rfl rfl)
theorem dX4_stories_38 : decode cX4_stories 38 = .ok (.iconst 0, 1) := dk_3 (dk_at dksX4_stories_1 16 rfl rfl)
theorem dX4_stories_39 : decode cX4_stories 39 = .ok (.istore 6, 2) := dk_54 6 (dk_at dksX4_stories_1 17 rfl rfl)
theorem dX4_stories_41 : decode cX4_stories 41 = .ok (.iconst 0, 1) := dk_3 (dk_at dksX4_stories_1 19 rfl rfl)
theorem dX4_stories_42 : decode cX4_stories 42 = .ok (.istore 7, 2) := dk_54 7 (dk_at dksX4_stories_1 20 rfl rfl)
theorem dX4_stories_44 : decode cX4_stories 44 = .ok (.iload 7, 2) := dk_21 7 (dk_at dksX4_stories_1 22 rfl rfl)
theorem dX4_stories_46 : decode cX4_stories 46 = .ok (.aload_n 0, 1) := dk_42 (dk_at dksX4_stories_2 0 rfl rfl)
theorem dX4_stories_47 : decode cX4_stories 47 = .ok (.getfield 297, 3) := dk_180 1 41 (dk_at dksX4_stories_2 1 rfl rfl)
theorem dX4_stories_50 : decode cX4_stories 50 = .ok (.if_icmp .ge 64, 3) := dk_162 0 64 (dk_at dksX4_stories_2 4 rfl rfl)
theorem dX4_stories_53 : decode cX4_stories 53 = .ok (.iconst 0, 1) := dk_3 (dk_at dksX4_stories_2 7 rfl rfl)
theorem dX4_stories_54 : decode cX4_stories 54 = .ok (.istore 8, 2) := dk_54 8 (dk_at dksX4_stories_2 8 rfl rfl)
theorem dX4_stories_56 : decode cX4_stories 56 = .ok (.iload 8, 2) := dk_21 8 (dk_at dksX4_stories_2 10 rfl rfl)
theorem dX4_stories_58 : decode cX4_stories 58 = .ok (.aload_n 0, 1) := dk_42 (dk_at dksX4_stories_2 12 rfl rfl)
theorem dX4_stories_59 : decode cX4_stories 59 = .ok (.getfield 24, 3) := dk_180 0 24 (dk_at dksX4_stories_2 13 rfl rfl)
theorem dX4_stories_62 : decode cX4_stories 62 = .ok (.if_icmp .ge 46, 3) := dk_162 0 46 (dk_at dksX4_stories_2 16 rfl rfl)
theorem dX4_stories_65 : decode cX4_stories 65 = .ok (.aload_n 0, 1) := dk_42 (dk_at dksX4_stories_2 19 rfl rfl)
theorem dX4_stories_66 : decode cX4_stories 66 = .ok (.iload_n 1, 1) := dk_27 (dk_at dksX4_stories_2 20 rfl rfl)
theorem dX4_stories_67 : decode cX4_stories 67 = .ok (.iload 7, 2) := dk_21 7 (dk_at dksX4_stories_2 21 rfl rfl)
theorem dX4_stories_69 : decode cX4_stories 69 = .ok (.iload 8, 2) := dk_21 8 (dk_at dksX4_stories_3 0 rfl rfl)
theorem dX4_stories_71 : decode cX4_stories 71 = .ok (.iload_n 2, 1) := dk_28 (dk_at dksX4_stories_3 2 rfl rfl)
theorem dX4_stories_72 : decode cX4_stories 72 = .ok (.invokevirtual 384, 3) := dk_182 1 128 (dk_at dksX4_stories_3 3 rfl rfl)
theorem dX4_stories_75 : decode cX4_stories 75 = .ok (.ifCond .ne 6, 3) := dk_154 0 6 (dk_at dksX4_stories_3 6 rfl rfl)
theorem dX4_stories_78 : decode cX4_stories 78 = .ok (.goto 24, 3) := dk_167 0 24 (dk_at dksX4_stories_3 9 rfl rfl)
theorem dX4_stories_81 : decode cX4_stories 81 = .ok (.iinc 4 1, 3) := dk_132 4 1 (dk_at dksX4_stories_3 12 rfl rfl)
theorem dX4_stories_84 : decode cX4_stories 84 = .ok (.iload 5, 2) := dk_21 5 (dk_at dksX4_stories_3 15 rfl rfl)
theorem dX4_stories_86 : decode cX4_stories 86 = .ok (.iconst 1, 1) := dk_4 (dk_at dksX4_stories_3 17 rfl rfl)
theorem dX4_stories_87 : decode cX4_stories 87 = .ok (.iload 8, 2) := dk_21 8 (dk_at dksX4_stories_3 18 rfl rfl)
theorem dX4_stories_89 : decode cX4_stories 89 = .ok (.ishl, 1) := dk_120 (dk_at dksX4_stories_3 20 rfl rfl)
theorem dX4_stories_90 : decode cX4_stories 90 = .ok (.ior, 1) := dk_128 (dk_at dksX4_stories_3 21 rfl rfl)
theorem dX4_stories_91 : decode cX4_stories 91 = .ok (.istore 5, 2) := dk_54 5 (dk_at dksX4_stories_3 22 rfl rfl)
theorem dX4_stories_93 : decode cX4_stories 93 = .ok (.iload 6, 2) := dk_21 6 (dk_at dksX4_stories_4 0 rfl rfl)
theorem dX4_stories_95 : decode cX4_stories 95 = .ok (.iconst 1, 1) := dk_4 (dk_at dksX4_stories_4 2 rfl rfl)
theorem dX4_stories_96 : decode cX4_stories 96 = .ok (.iload 7, 2) := dk_21 7 (dk_at dksX4_stories_4 3 rfl rfl)
theorem dX4_stories_98 : decode cX4_stories 98 = .ok (.ishl, 1) := dk_120 (dk_at dksX4_stories_4 5 rfl rfl)
theorem dX4_stories_99 : decode cX4_stories 99 = .ok (.ior, 1) := dk_128 (dk_at dksX4_stories_4 6 rfl rfl)
theorem dX4_stories_100 : decode cX4_stories 100 = .ok (.istore 6, 2) := dk_54 6 (dk_at dksX4_stories_4 7 rfl rfl)
theorem dX4_stories_102 : decode cX4_stories 102 = .ok (.iinc 8 1, 3) := dk_132 8 1 (dk_at dksX4_stories_4 9 rfl rfl)
theorem dX4_stories_105 : decode cX4_stories 105 = .ok (.goto (-49), 3) := dk_167 255 207 (dk_at dksX4_stories_4 12 rfl rfl)
theorem dX4_stories_108 : decode cX4_stories 108 = .ok (.iinc 7 1, 3) := dk_132 7 1 (dk_at dksX4_stories_4 15 rfl rfl)
theorem dX4_stories_111 : decode cX4_stories 111 = .ok (.goto (-67), 3) := dk_167 255 189 (dk_at dksX4_stories_4 18 rfl rfl)
theorem dX4_stories_114 : decode cX4_stories 114 = .ok (.iload_n 3, 1) := dk_29 (dk_at dksX4_stories_4 21 rfl rfl)
theorem dX4_stories_115 : decode cX4_stories 115 = .ok (.ifCond .ne 8, 3) := dk_154 0 8 (dk_at dksX4_stories_5 0 rfl rfl)
theorem dX4_stories_118 : decode cX4_stories 118 = .ok (.iload 4, 2) := dk_21 4 (dk_at dksX4_stories_5 3 rfl rfl)
theorem dX4_stories_120 : decode cX4_stories 120 = .ok (.goto 15, 3) := dk_167 0 15 (dk_at dksX4_stories_5 5 rfl rfl)
theorem dX4_stories_123 : decode cX4_stories 123 = .ok (.iload_n 3, 1) := dk_29 (dk_at dksX4_stories_5 8 rfl rfl)
theorem dX4_stories_124 : decode cX4_stories 124 = .ok (.iconst 1, 1) := dk_4 (dk_at dksX4_stories_5 9 rfl rfl)
theorem dX4_stories_125 : decode cX4_stories 125 = .ok (.if_icmp .ne 8, 3) := dk_160 0 8 (dk_at dksX4_stories_5 10 rfl rfl)
theorem dX4_stories_128 : decode cX4_stories 128 = .ok (.iload 5, 2) := dk_21 5 (dk_at dksX4_stories_5 13 rfl rfl)
theorem dX4_stories_130 : decode cX4_stories 130 = .ok (.goto 5, 3) := dk_167 0 5 (dk_at dksX4_stories_5 15 rfl rfl)
theorem dX4_stories_133 : decode cX4_stories 133 = .ok (.iload 6, 2) := dk_21 6 (dk_at dksX4_stories_5 18 rfl rfl)
theorem dX4_stories_135 : decode cX4_stories 135 = .ok (.ireturn, 1) := dk_172 (dk_at dksX4_stories_5 20 rfl rfl)
abbrev cX4_isOfThing : ByteArray := prog_26_method_70_code
def yX4_isOfThing : MethodName := ⟨RX4, "isOfThing", "(I)Z"⟩
def dkwX4_isOfThing_0 : List UInt8 := [42, 27, 182, 1, 104, 153, 0, 16, 42, 27, 4, 182, 1, 107, 154, 0, 7, 4, 167, 0, 4, 3, 172]
abbrev dktX4_isOfThing_0 : List UInt8 := dkwX4_isOfThing_0 ++ []
theorem dksX4_isOfThing_0 : cX4_isOfThing.data.toList.drop 0 = dktX4_isOfThing_0 := by decide +kernel
theorem dX4_isOfThing_0 : decode cX4_isOfThing 0 = .ok (.aload_n 0, 1) := dk_42 (dk_at dksX4_isOfThing_0 0 rfl rfl)
theorem dX4_isOfThing_1 : decode cX4_isOfThing 1 = .ok (.iload_n 1, 1) := dk_27 (dk_at dksX4_isOfThing_0 1 rfl rfl)
theorem dX4_isOfThing_2 : decode cX4_isOfThing 2 = .ok (.invokevirtual 360, 3) := dk_182 1 104 (dk_at dksX4_isOfThing_0 2 rfl rfl)
theorem dX4_isOfThing_5 : decode cX4_isOfThing 5 = .ok (.ifCond .eq 16, 3) := dk_153 0 16 (dk_at dksX4_isOfThing_0 5 rfl rfl)
theorem dX4_isOfThing_8 : decode cX4_isOfThing 8 = .ok (.aload_n 0, 1) := dk_42 (dk_at dksX4_isOfThing_0 8 rfl rfl)
theorem dX4_isOfThing_9 : decode cX4_isOfThing 9 = .ok (.iload_n 1, 1) := dk_27 (dk_at dksX4_isOfThing_0 9 rfl rfl)
theorem dX4_isOfThing_10 : decode cX4_isOfThing 10 = .ok (.iconst 1, 1) := dk_4 (dk_at dksX4_isOfThing_0 10 rfl rfl)
theorem dX4_isOfThing_11 : decode cX4_isOfThing 11 = .ok (.invokevirtual 363, 3) := dk_182 1 107 (dk_at dksX4_isOfThing_0 11 rfl rfl)
theorem dX4_isOfThing_14 : decode cX4_isOfThing 14 = .ok (.ifCond .ne 7, 3) := dk_154 0 7 (dk_at dksX4_isOfThing_0 14 rfl rfl)
theorem dX4_isOfThing_17 : decode cX4_isOfThing 17 = .ok (.iconst 1, 1) := dk_4 (dk_at dksX4_isOfThing_0 17 rfl rfl)
theorem dX4_isOfThing_18 : decode cX4_isOfThing 18 = .ok (.goto 4, 3) := dk_167 0 4 (dk_at dksX4_isOfThing_0 18 rfl rfl)
theorem dX4_isOfThing_21 : decode cX4_isOfThing 21 = .ok (.iconst 0, 1) := dk_3 (dk_at dksX4_isOfThing_0 21 rfl rfl)
theorem dX4_isOfThing_22 : decode cX4_isOfThing 22 = .ok (.ireturn, 1) := dk_172 (dk_at dksX4_isOfThing_0 22 rfl rfl)
abbrev cX4_isStoryWith : ByteArray := prog_26_method_79_code
def yX4_isStoryWith : MethodName := ⟨RX4, "isStoryWith", "(IIIZ)Z"⟩
def dkwX4_isStoryWith_2 : List UInt8 := [182, 1, 122, 153, 0, 7, 4, 167, 0, 4, 3, 54, 5, 132, 6, 1, 167, 255, 207, 21, 5, 172]
abbrev dktX4_isStoryWith_2 : List UInt8 := dkwX4_isStoryWith_2 ++ []
def dkwX4_isStoryWith_1 : List UInt8 := [153, 0, 41, 21, 5, 154, 0, 36, 21, 6, 29, 159, 0, 21, 42, 27, 28, 29, 4, 21, 6, 120]
abbrev dktX4_isStoryWith_1 : List UInt8 := dkwX4_isStoryWith_1 ++ dktX4_isStoryWith_2
def dkwX4_isStoryWith_0 : List UInt8 := [42, 27, 28, 29, 3, 182, 1, 122, 54, 5, 3, 54, 6, 21, 6, 42, 180, 0, 24, 162, 0, 46, 21, 4]
abbrev dktX4_isStoryWith_0 : List UInt8 := dkwX4_isStoryWith_0 ++ dktX4_isStoryWith_1
theorem dksX4_isStoryWith_0 : cX4_isStoryWith.data.toList.drop 0 = dktX4_isStoryWith_0 := by decide +kernel
theorem dksX4_isStoryWith_1 : cX4_isStoryWith.data.toList.drop 24 = dktX4_isStoryWith_1 := dk_seg dksX4_isStoryWith_0 24 rfl rfl
theorem dksX4_isStoryWith_2 : cX4_isStoryWith.data.toList.drop 46 = dktX4_isStoryWith_2 := dk_seg dksX4_isStoryWith_1 22 rfl rfl
theorem dX4_isStoryWith_0 : decode cX4_isStoryWith 0 = .ok (.aload_n 0, 1) := dk_42 (dk_at dksX4_isStoryWith_0 0 rfl rfl)
theorem dX4_isStoryWith_1 : decode cX4_isStoryWith 1 = .ok (.iload_n 1, 1) := dk_27 (dk_at dksX4_isStoryWith_0 1 rfl rfl)
theorem dX4_isStoryWith_2 : decode cX4_isStoryWith 2 = .ok (.iload_n 2, 1) := dk_28 (dk_at dksX4_isStoryWith_0 2 rfl rfl)
theorem dX4_isStoryWith_3 : decode cX4_isStoryWith 3 = .ok (.iload_n 3, 1) := dk_29 (dk_at dksX4_isStoryWith_0 3 rfl rfl)
theorem dX4_isStoryWith_4 : decode cX4_isStoryWith 4 = .ok (.iconst 0, 1) := dk_3 (dk_at dksX4_isStoryWith_0 4 rfl rfl)
theorem dX4_isStoryWith_5 : decode cX4_isStoryWith 5 = .ok (.invokevirtual 378, 3) := dk_182 1 122 (dk_at dksX4_isStoryWith_0 5 rfl rfl)
theorem dX4_isStoryWith_8 : decode cX4_isStoryWith 8 = .ok (.istore 5, 2) := dk_54 5 (dk_at dksX4_isStoryWith_0 8 rfl rfl)
theorem dX4_isStoryWith_10 : decode cX4_isStoryWith 10 = .ok (.iconst 0, 1) := dk_3 (dk_at dksX4_isStoryWith_0 10 rfl rfl)
theorem dX4_isStoryWith_11 : decode cX4_isStoryWith 11 = .ok (.istore 6, 2) := dk_54 6 (dk_at dksX4_isStoryWith_0 11 rfl rfl)
theorem dX4_isStoryWith_13 : decode cX4_isStoryWith 13 = .ok (.iload 6, 2) := dk_21 6 (dk_at dksX4_isStoryWith_0 13 rfl rfl)
theorem dX4_isStoryWith_15 : decode cX4_isStoryWith 15 = .ok (.aload_n 0, 1) := dk_42 (dk_at dksX4_isStoryWith_0 15 rfl rfl)
theorem dX4_isStoryWith_16 : decode cX4_isStoryWith 16 = .ok (.getfield 24, 3) := dk_180 0 24 (dk_at dksX4_isStoryWith_0 16 rfl rfl)
theorem dX4_isStoryWith_19 : decode cX4_isStoryWith 19 = .ok (.if_icmp .ge 46, 3) := dk_162 0 46 (dk_at dksX4_isStoryWith_0 19 rfl rfl)
theorem dX4_isStoryWith_22 : decode cX4_isStoryWith 22 = .ok (.iload 4, 2) := dk_21 4 (dk_at dksX4_isStoryWith_0 22 rfl rfl)
theorem dX4_isStoryWith_24 : decode cX4_isStoryWith 24 = .ok (.ifCond .eq 41, 3) := dk_153 0 41 (dk_at dksX4_isStoryWith_1 0 rfl rfl)
theorem dX4_isStoryWith_27 : decode cX4_isStoryWith 27 = .ok (.iload 5, 2) := dk_21 5 (dk_at dksX4_isStoryWith_1 3 rfl rfl)
theorem dX4_isStoryWith_29 : decode cX4_isStoryWith 29 = .ok (.ifCond .ne 36, 3) := dk_154 0 36 (dk_at dksX4_isStoryWith_1 5 rfl rfl)
theorem dX4_isStoryWith_32 : decode cX4_isStoryWith 32 = .ok (.iload 6, 2) := dk_21 6 (dk_at dksX4_isStoryWith_1 8 rfl rfl)
theorem dX4_isStoryWith_34 : decode cX4_isStoryWith 34 = .ok (.iload_n 3, 1) := dk_29 (dk_at dksX4_isStoryWith_1 10 rfl rfl)
theorem dX4_isStoryWith_35 : decode cX4_isStoryWith 35 = .ok (.if_icmp .eq 21, 3) := dk_159 0 21 (dk_at dksX4_isStoryWith_1 11 rfl rfl)
theorem dX4_isStoryWith_38 : decode cX4_isStoryWith 38 = .ok (.aload_n 0, 1) := dk_42 (dk_at dksX4_isStoryWith_1 14 rfl rfl)
theorem dX4_isStoryWith_39 : decode cX4_isStoryWith 39 = .ok (.iload_n 1, 1) := dk_27 (dk_at dksX4_isStoryWith_1 15 rfl rfl)
theorem dX4_isStoryWith_40 : decode cX4_isStoryWith 40 = .ok (.iload_n 2, 1) := dk_28 (dk_at dksX4_isStoryWith_1 16 rfl rfl)
theorem dX4_isStoryWith_41 : decode cX4_isStoryWith 41 = .ok (.iload_n 3, 1) := dk_29 (dk_at dksX4_isStoryWith_1 17 rfl rfl)
theorem dX4_isStoryWith_42 : decode cX4_isStoryWith 42 = .ok (.iconst 1, 1) := dk_4 (dk_at dksX4_isStoryWith_1 18 rfl rfl)
theorem dX4_isStoryWith_43 : decode cX4_isStoryWith 43 = .ok (.iload 6, 2) := dk_21 6 (dk_at dksX4_isStoryWith_1 19 rfl rfl)
theorem dX4_isStoryWith_45 : decode cX4_isStoryWith 45 = .ok (.ishl, 1) := dk_120 (dk_at dksX4_isStoryWith_1 21 rfl rfl)
theorem dX4_isStoryWith_46 : decode cX4_isStoryWith 46 = .ok (.invokevirtual 378, 3) := dk_182 1 122 (dk_at dksX4_isStoryWith_2 0 rfl rfl)
theorem dX4_isStoryWith_49 : decode cX4_isStoryWith 49 = .ok (.ifCond .eq 7, 3) := dk_153 0 7 (dk_at dksX4_isStoryWith_2 3 rfl rfl)
theorem dX4_isStoryWith_52 : decode cX4_isStoryWith 52 = .ok (.iconst 1, 1) := dk_4 (dk_at dksX4_isStoryWith_2 6 rfl rfl)
theorem dX4_isStoryWith_53 : decode cX4_isStoryWith 53 = .ok (.goto 4, 3) := dk_167 0 4 (dk_at dksX4_isStoryWith_2 7 rfl rfl)
theorem dX4_isStoryWith_56 : decode cX4_isStoryWith 56 = .ok (.iconst 0, 1) := dk_3 (dk_at dksX4_isStoryWith_2 10 rfl rfl)
theorem dX4_isStoryWith_57 : decode cX4_isStoryWith 57 = .ok (.istore 5, 2) := dk_54 5 (dk_at dksX4_isStoryWith_2 11 rfl rfl)
theorem dX4_isStoryWith_59 : decode cX4_isStoryWith 59 = .ok (.iinc 6 1, 3) := dk_132 6 1 (dk_at dksX4_isStoryWith_2 13 rfl rfl)
theorem dX4_isStoryWith_62 : decode cX4_isStoryWith 62 = .ok (.goto (-49), 3) := dk_167 255 207 (dk_at dksX4_isStoryWith_2 16 rfl rfl)
theorem dX4_isStoryWith_65 : decode cX4_isStoryWith 65 = .ok (.iload 5, 2) := dk_21 5 (dk_at dksX4_isStoryWith_2 19 rfl rfl)
theorem dX4_isStoryWith_67 : decode cX4_isStoryWith 67 = .ok (.ireturn, 1) := dk_172 (dk_at dksX4_isStoryWith_2 21 rfl rfl)
abbrev cX4_isStory : ByteArray := prog_26_method_78_code
def yX4_isStory : MethodName := ⟨RX4, "isStory", "(IIII)Z"⟩
def dkwX4_isStory_2 : List UInt8 := [159, 0, 7, 4, 167, 0, 4, 3, 172]
abbrev dktX4_isStory_2 : List UInt8 := dkwX4_isStory_2 ++ []
def dkwX4_isStory_1 : List UInt8 := [42, 27, 6, 182, 1, 107, 42, 27, 7, 182, 1, 107, 42, 27, 8, 182, 1, 107, 182, 1, 98, 2]
abbrev dktX4_isStory_1 : List UInt8 := dkwX4_isStory_1 ++ dktX4_isStory_2
def dkwX4_isStory_0 : List UInt8 := [42, 42, 27, 5, 182, 1, 107, 182, 0, 167, 153, 0, 43, 42, 28, 29, 21, 4, 42, 27, 5, 182, 1, 107]
abbrev dktX4_isStory_0 : List UInt8 := dkwX4_isStory_0 ++ dktX4_isStory_1
theorem dksX4_isStory_0 : cX4_isStory.data.toList.drop 0 = dktX4_isStory_0 := by decide +kernel
theorem dksX4_isStory_1 : cX4_isStory.data.toList.drop 24 = dktX4_isStory_1 := dk_seg dksX4_isStory_0 24 rfl rfl
theorem dksX4_isStory_2 : cX4_isStory.data.toList.drop 46 = dktX4_isStory_2 := dk_seg dksX4_isStory_1 22 rfl rfl
theorem dX4_isStory_0 : decode cX4_isStory 0 = .ok (.aload_n 0, 1) := dk_42 (dk_at dksX4_isStory_0 0 rfl rfl)
theorem dX4_isStory_1 : decode cX4_isStory 1 = .ok (.aload_n 0, 1) := dk_42 (dk_at dksX4_isStory_0 1 rfl rfl)
theorem dX4_isStory_2 : decode cX4_isStory 2 = .ok (.iload_n 1, 1) := dk_27 (dk_at dksX4_isStory_0 2 rfl rfl)
theorem dX4_isStory_3 : decode cX4_isStory 3 = .ok (.iconst 2, 1) := dk_5 (dk_at dksX4_isStory_0 3 rfl rfl)
theorem dX4_isStory_4 : decode cX4_isStory 4 = .ok (.invokevirtual 363, 3) := dk_182 1 107 (dk_at dksX4_isStory_0 4 rfl rfl)
theorem dX4_isStory_7 : decode cX4_isStory 7 = .ok (.invokevirtual 167, 3) := dk_182 0 167 (dk_at dksX4_isStory_0 7 rfl rfl)
theorem dX4_isStory_10 : decode cX4_isStory 10 = .ok (.ifCond .eq 43, 3) := dk_153 0 43 (dk_at dksX4_isStory_0 10 rfl rfl)
theorem dX4_isStory_13 : decode cX4_isStory 13 = .ok (.aload_n 0, 1) := dk_42 (dk_at dksX4_isStory_0 13 rfl rfl)
theorem dX4_isStory_14 : decode cX4_isStory 14 = .ok (.iload_n 2, 1) := dk_28 (dk_at dksX4_isStory_0 14 rfl rfl)
theorem dX4_isStory_15 : decode cX4_isStory 15 = .ok (.iload_n 3, 1) := dk_29 (dk_at dksX4_isStory_0 15 rfl rfl)
theorem dX4_isStory_16 : decode cX4_isStory 16 = .ok (.iload 4, 2) := dk_21 4 (dk_at dksX4_isStory_0 16 rfl rfl)
theorem dX4_isStory_18 : decode cX4_isStory 18 = .ok (.aload_n 0, 1) := dk_42 (dk_at dksX4_isStory_0 18 rfl rfl)
theorem dX4_isStory_19 : decode cX4_isStory 19 = .ok (.iload_n 1, 1) := dk_27 (dk_at dksX4_isStory_0 19 rfl rfl)
theorem dX4_isStory_20 : decode cX4_isStory 20 = .ok (.iconst 2, 1) := dk_5 (dk_at dksX4_isStory_0 20 rfl rfl)
theorem dX4_isStory_21 : decode cX4_isStory 21 = .ok (.invokevirtual 363, 3) := dk_182 1 107 (dk_at dksX4_isStory_0 21 rfl rfl)
theorem dX4_isStory_24 : decode cX4_isStory 24 = .ok (.aload_n 0, 1) := dk_42 (dk_at dksX4_isStory_1 0 rfl rfl)
theorem dX4_isStory_25 : decode cX4_isStory 25 = .ok (.iload_n 1, 1) := dk_27 (dk_at dksX4_isStory_1 1 rfl rfl)
theorem dX4_isStory_26 : decode cX4_isStory 26 = .ok (.iconst 3, 1) := dk_6 (dk_at dksX4_isStory_1 2 rfl rfl)
theorem dX4_isStory_27 : decode cX4_isStory 27 = .ok (.invokevirtual 363, 3) := dk_182 1 107 (dk_at dksX4_isStory_1 3 rfl rfl)
theorem dX4_isStory_30 : decode cX4_isStory 30 = .ok (.aload_n 0, 1) := dk_42 (dk_at dksX4_isStory_1 6 rfl rfl)
theorem dX4_isStory_31 : decode cX4_isStory 31 = .ok (.iload_n 1, 1) := dk_27 (dk_at dksX4_isStory_1 7 rfl rfl)
theorem dX4_isStory_32 : decode cX4_isStory 32 = .ok (.iconst 4, 1) := dk_7 (dk_at dksX4_isStory_1 8 rfl rfl)
theorem dX4_isStory_33 : decode cX4_isStory 33 = .ok (.invokevirtual 363, 3) := dk_182 1 107 (dk_at dksX4_isStory_1 9 rfl rfl)
theorem dX4_isStory_36 : decode cX4_isStory 36 = .ok (.aload_n 0, 1) := dk_42 (dk_at dksX4_isStory_1 12 rfl rfl)
theorem dX4_isStory_37 : decode cX4_isStory 37 = .ok (.iload_n 1, 1) := dk_27 (dk_at dksX4_isStory_1 13 rfl rfl)
theorem dX4_isStory_38 : decode cX4_isStory 38 = .ok (.iconst 5, 1) := dk_8 (dk_at dksX4_isStory_1 14 rfl rfl)
theorem dX4_isStory_39 : decode cX4_isStory 39 = .ok (.invokevirtual 363, 3) := dk_182 1 107 (dk_at dksX4_isStory_1 15 rfl rfl)
theorem dX4_isStory_42 : decode cX4_isStory 42 = .ok (.invokevirtual 354, 3) := dk_182 1 98 (dk_at dksX4_isStory_1 18 rfl rfl)
theorem dX4_isStory_45 : decode cX4_isStory 45 = .ok (.iconst (-1), 1) := dk_2 (dk_at dksX4_isStory_1 21 rfl rfl)
theorem dX4_isStory_46 : decode cX4_isStory 46 = .ok (.if_icmp .eq 7, 3) := dk_159 0 7 (dk_at dksX4_isStory_2 0 rfl rfl)
theorem dX4_isStory_49 : decode cX4_isStory 49 = .ok (.iconst 1, 1) := dk_4 (dk_at dksX4_isStory_2 3 rfl rfl)
theorem dX4_isStory_50 : decode cX4_isStory 50 = .ok (.goto 4, 3) := dk_167 0 4 (dk_at dksX4_isStory_2 4 rfl rfl)
theorem dX4_isStory_53 : decode cX4_isStory 53 = .ok (.iconst 0, 1) := dk_3 (dk_at dksX4_isStory_2 7 rfl rfl)
theorem dX4_isStory_54 : decode cX4_isStory 54 = .ok (.ireturn, 1) := dk_172 (dk_at dksX4_isStory_2 8 rfl rfl)
abbrev cX4_least : ByteArray := prog_26_method_81_code
def yX4_least : MethodName := ⟨RX4, "least", "(II)I"⟩
def dkwX4_least_11 : List UInt8 := [167, 0, 5, 21, 6, 172]
abbrev dktX4_least_11 : List UInt8 := dkwX4_least_11 ++ []
def dkwX4_least_10 : List UInt8 := [160, 0, 7, 2, 167, 0, 24, 28, 154, 0, 8, 21, 4, 167, 0, 15, 28, 4, 160, 0, 8, 21, 5]
abbrev dktX4_least_10 : List UInt8 := dkwX4_least_10 ++ dktX4_least_11
def dkwX4_least_9 : List UInt8 := [21, 8, 54, 4, 21, 7, 54, 5, 132, 8, 1, 167, 255, 173, 132, 7, 1, 167, 255, 153, 21, 4, 2]
abbrev dktX4_least_9 : List UInt8 := dkwX4_least_9 ++ dktX4_least_10
def dkwX4_least_8 : List UInt8 := [42, 21, 8, 5, 108, 42, 27, 6, 182, 1, 107, 182, 0, 176, 154, 0, 6, 167, 0, 15, 21, 9, 54, 6]
abbrev dktX4_least_8 : List UInt8 := dkwX4_least_8 ++ dktX4_least_9
def dkwX4_least_7 : List UInt8 := [184, 1, 132, 54, 9, 21, 9, 21, 6, 162, 0, 47, 42, 21, 8, 5, 108, 29, 182, 0, 176, 153, 0, 35]
abbrev dktX4_least_7 : List UInt8 := dkwX4_least_7 ++ dktX4_least_8
def dkwX4_least_6 : List UInt8 := [21, 8, 5, 42, 180, 0, 24, 104, 162, 0, 78, 42, 180, 0, 36, 16, 100, 21, 8, 104, 21, 7, 96, 46]
abbrev dktX4_least_6 : List UInt8 := dkwX4_least_6 ++ dktX4_least_7
def dkwX4_least_5 : List UInt8 := [54, 6, 42, 27, 7, 182, 1, 107, 54, 7, 21, 7, 42, 27, 8, 182, 1, 107, 163, 0, 98, 3, 54, 8]
abbrev dktX4_least_5 : List UInt8 := dkwX4_least_5 ++ dktX4_least_6
def dkwX4_least_4 : List UInt8 := [42, 27, 5, 182, 1, 107, 42, 27, 7, 182, 1, 107, 182, 0, 173, 62, 2, 54, 4, 2, 54, 5, 16, 100]
abbrev dktX4_least_4 : List UInt8 := dkwX4_least_4 ++ dktX4_least_5
def dkwX4_least_3 : List UInt8 := [21, 4, 3, 182, 1, 122, 153, 0, 5, 2, 172, 132, 4, 1, 167, 255, 230, 132, 3, 1, 167, 255, 213, 42]
abbrev dktX4_least_3 : List UInt8 := dkwX4_least_3 ++ dktX4_least_4
def dkwX4_least_2 : List UInt8 := [62, 29, 42, 180, 1, 41, 162, 0, 41, 3, 54, 4, 21, 4, 42, 180, 0, 24, 162, 0, 23, 42, 27, 29]
abbrev dktX4_least_2 : List UInt8 := dkwX4_least_2 ++ dktX4_least_3
def dkwX4_least_1 : List UInt8 := [153, 0, 16, 42, 42, 27, 5, 182, 1, 107, 182, 0, 167, 154, 0, 5, 2, 172, 42, 3, 182, 0, 170, 3]
abbrev dktX4_least_1 : List UInt8 := dkwX4_least_1 ++ dktX4_least_2
def dkwX4_least_0 : List UInt8 := [42, 3, 181, 0, 1, 42, 27, 182, 1, 125, 153, 0, 28, 28, 133, 9, 20, 0, 200, 184, 0, 140]
abbrev dktX4_least_0 : List UInt8 := dkwX4_least_0 ++ dktX4_least_1
theorem dksX4_least_0 : cX4_least.data.toList.drop 0 = dktX4_least_0 := by decide +kernel
theorem dksX4_least_1 : cX4_least.data.toList.drop 22 = dktX4_least_1 := dk_seg dksX4_least_0 22 rfl rfl
theorem dksX4_least_2 : cX4_least.data.toList.drop 46 = dktX4_least_2 := dk_seg dksX4_least_1 24 rfl rfl
theorem dksX4_least_3 : cX4_least.data.toList.drop 70 = dktX4_least_3 := dk_seg dksX4_least_2 24 rfl rfl
theorem dksX4_least_4 : cX4_least.data.toList.drop 94 = dktX4_least_4 := dk_seg dksX4_least_3 24 rfl rfl
theorem dksX4_least_5 : cX4_least.data.toList.drop 118 = dktX4_least_5 := dk_seg dksX4_least_4 24 rfl rfl
theorem dksX4_least_6 : cX4_least.data.toList.drop 142 = dktX4_least_6 := dk_seg dksX4_least_5 24 rfl rfl
theorem dksX4_least_7 : cX4_least.data.toList.drop 166 = dktX4_least_7 := dk_seg dksX4_least_6 24 rfl rfl
theorem dksX4_least_8 : cX4_least.data.toList.drop 190 = dktX4_least_8 := dk_seg dksX4_least_7 24 rfl rfl
theorem dksX4_least_9 : cX4_least.data.toList.drop 214 = dktX4_least_9 := dk_seg dksX4_least_8 24 rfl rfl
theorem dksX4_least_10 : cX4_least.data.toList.drop 237 = dktX4_least_10 := dk_seg dksX4_least_9 23 rfl rfl
theorem dksX4_least_11 : cX4_least.data.toList.drop 260 = dktX4_least_11 := dk_seg dksX4_least_10 23 rfl rfl
theorem dX4_least_0 : decode cX4_least 0 = .ok (.aload_n 0, 1) := dk_42 (dk_at dksX4_least_0 0 rfl rfl)
theorem dX4_least_1 : decode cX4_least 1 = .ok (.iconst 0, 1) := dk_3 (dk_at dksX4_least_0 1 rfl rfl)
theorem dX4_least_2 : decode cX4_least 2 = .ok (.putfield 1, 3) := dk_181 0 1 (dk_at dksX4_least_0 2 rfl rfl)
theorem dX4_least_5 : decode cX4_least 5 = .ok (.aload_n 0, 1) := dk_42 (dk_at dksX4_least_0 5 rfl rfl)
theorem dX4_least_6 : decode cX4_least 6 = .ok (.iload_n 1, 1) := dk_27 (dk_at dksX4_least_0 6 rfl rfl)
theorem dX4_least_7 : decode cX4_least 7 = .ok (.invokevirtual 381, 3) := dk_182 1 125 (dk_at dksX4_least_0 7 rfl rfl)
theorem dX4_least_10 : decode cX4_least 10 = .ok (.ifCond .eq 28, 3) := dk_153 0 28 (dk_at dksX4_least_0 10 rfl rfl)
theorem dX4_least_13 : decode cX4_least 13 = .ok (.iload_n 2, 1) := dk_28 (dk_at dksX4_least_0 13 rfl rfl)
theorem dX4_least_14 : decode cX4_least 14 = .ok (.i2l, 1) := dk_133 (dk_at dksX4_least_0 14 rfl rfl)
theorem dX4_least_15 : decode cX4_least 15 = .ok (.lconst 0, 1) := dk_9 (dk_at dksX4_least_0 15 rfl rfl)
theorem dX4_least_16 : decode cX4_least 16 = .ok (.ldc2_w 200, 3) := dk_20 0 200 (dk_at dksX4_least_0 16 rfl rfl)
theorem dX4_least_19 : decode cX4_least 19 = .ok (.invokestatic 140, 3) := dk_184 0 140 (dk_at dksX4_least_0 19 rfl rfl)
theorem dX4_least_22 : decode cX4_least 22 = .ok (.ifCond .eq 16, 3) := dk_153 0 16 (dk_at dksX4_least_1 0 rfl rfl)
theorem dX4_least_25 : decode cX4_least 25 = .ok (.aload_n 0, 1) := dk_42 (dk_at dksX4_least_1 3 rfl rfl)
theorem dX4_least_26 : decode cX4_least 26 = .ok (.aload_n 0, 1) := dk_42 (dk_at dksX4_least_1 4 rfl rfl)
theorem dX4_least_27 : decode cX4_least 27 = .ok (.iload_n 1, 1) := dk_27 (dk_at dksX4_least_1 5 rfl rfl)
theorem dX4_least_28 : decode cX4_least 28 = .ok (.iconst 2, 1) := dk_5 (dk_at dksX4_least_1 6 rfl rfl)
theorem dX4_least_29 : decode cX4_least 29 = .ok (.invokevirtual 363, 3) := dk_182 1 107 (dk_at dksX4_least_1 7 rfl rfl)
theorem dX4_least_32 : decode cX4_least 32 = .ok (.invokevirtual 167, 3) := dk_182 0 167 (dk_at dksX4_least_1 10 rfl rfl)
theorem dX4_least_35 : decode cX4_least 35 = .ok (.ifCond .ne 5, 3) := dk_154 0 5 (dk_at dksX4_least_1 13 rfl rfl)
theorem dX4_least_38 : decode cX4_least 38 = .ok (.iconst (-1), 1) := dk_2 (dk_at dksX4_least_1 16 rfl rfl)
theorem dX4_least_39 : decode cX4_least 39 = .ok (.ireturn, 1) := dk_172 (dk_at dksX4_least_1 17 rfl rfl)
theorem dX4_least_40 : decode cX4_least 40 = .ok (.aload_n 0, 1) := dk_42 (dk_at dksX4_least_1 18 rfl rfl)
theorem dX4_least_41 : decode cX4_least 41 = .ok (.iconst 0, 1) := dk_3 (dk_at dksX4_least_1 19 rfl rfl)
theorem dX4_least_42 : decode cX4_least 42 = .ok (.invokevirtual 170, 3) := dk_182 0 170 (dk_at dksX4_least_1 20 rfl rfl)
theorem dX4_least_45 : decode cX4_least 45 = .ok (.iconst 0, 1) := dk_3 (dk_at dksX4_least_1 23 rfl rfl)
theorem dX4_least_46 : decode cX4_least 46 = .ok (.istore_n 3, 1) := dk_62 (dk_at dksX4_least_2 0 rfl rfl)
theorem dX4_least_47 : decode cX4_least 47 = .ok (.iload_n 3, 1) := dk_29 (dk_at dksX4_least_2 1 rfl rfl)
theorem dX4_least_48 : decode cX4_least 48 = .ok (.aload_n 0, 1) := dk_42 (dk_at dksX4_least_2 2 rfl rfl)
theorem dX4_least_49 : decode cX4_least 49 = .ok (.getfield 297, 3) := dk_180 1 41 (dk_at dksX4_least_2 3 rfl rfl)
theorem dX4_least_52 : decode cX4_least 52 = .ok (.if_icmp .ge 41, 3) := dk_162 0 41 (dk_at dksX4_least_2 6 rfl rfl)
theorem dX4_least_55 : decode cX4_least 55 = .ok (.iconst 0, 1) := dk_3 (dk_at dksX4_least_2 9 rfl rfl)
theorem dX4_least_56 : decode cX4_least 56 = .ok (.istore 4, 2) := dk_54 4 (dk_at dksX4_least_2 10 rfl rfl)
theorem dX4_least_58 : decode cX4_least 58 = .ok (.iload 4, 2) := dk_21 4 (dk_at dksX4_least_2 12 rfl rfl)
theorem dX4_least_60 : decode cX4_least 60 = .ok (.aload_n 0, 1) := dk_42 (dk_at dksX4_least_2 14 rfl rfl)
theorem dX4_least_61 : decode cX4_least 61 = .ok (.getfield 24, 3) := dk_180 0 24 (dk_at dksX4_least_2 15 rfl rfl)
theorem dX4_least_64 : decode cX4_least 64 = .ok (.if_icmp .ge 23, 3) := dk_162 0 23 (dk_at dksX4_least_2 18 rfl rfl)
theorem dX4_least_67 : decode cX4_least 67 = .ok (.aload_n 0, 1) := dk_42 (dk_at dksX4_least_2 21 rfl rfl)
theorem dX4_least_68 : decode cX4_least 68 = .ok (.iload_n 1, 1) := dk_27 (dk_at dksX4_least_2 22 rfl rfl)
theorem dX4_least_69 : decode cX4_least 69 = .ok (.iload_n 3, 1) := dk_29 (dk_at dksX4_least_2 23 rfl rfl)
theorem dX4_least_70 : decode cX4_least 70 = .ok (.iload 4, 2) := dk_21 4 (dk_at dksX4_least_3 0 rfl rfl)
theorem dX4_least_72 : decode cX4_least 72 = .ok (.iconst 0, 1) := dk_3 (dk_at dksX4_least_3 2 rfl rfl)
theorem dX4_least_73 : decode cX4_least 73 = .ok (.invokevirtual 378, 3) := dk_182 1 122 (dk_at dksX4_least_3 3 rfl rfl)
theorem dX4_least_76 : decode cX4_least 76 = .ok (.ifCond .eq 5, 3) := dk_153 0 5 (dk_at dksX4_least_3 6 rfl rfl)
theorem dX4_least_79 : decode cX4_least 79 = .ok (.iconst (-1), 1) := dk_2 (dk_at dksX4_least_3 9 rfl rfl)
theorem dX4_least_80 : decode cX4_least 80 = .ok (.ireturn, 1) := dk_172 (dk_at dksX4_least_3 10 rfl rfl)
theorem dX4_least_81 : decode cX4_least 81 = .ok (.iinc 4 1, 3) := dk_132 4 1 (dk_at dksX4_least_3 11 rfl rfl)
theorem dX4_least_84 : decode cX4_least 84 = .ok (.goto (-26), 3) := dk_167 255 230 (dk_at dksX4_least_3 14 rfl rfl)
theorem dX4_least_87 : decode cX4_least 87 = .ok (.iinc 3 1, 3) := dk_132 3 1 (dk_at dksX4_least_3 17 rfl rfl)
theorem dX4_least_90 : decode cX4_least 90 = .ok (.goto (-43), 3) := dk_167 255 213 (dk_at dksX4_least_3 20 rfl rfl)
theorem dX4_least_93 : decode cX4_least 93 = .ok (.aload_n 0, 1) := dk_42 (dk_at dksX4_least_3 23 rfl rfl)
theorem dX4_least_94 : decode cX4_least 94 = .ok (.aload_n 0, 1) := dk_42 (dk_at dksX4_least_4 0 rfl rfl)
theorem dX4_least_95 : decode cX4_least 95 = .ok (.iload_n 1, 1) := dk_27 (dk_at dksX4_least_4 1 rfl rfl)
theorem dX4_least_96 : decode cX4_least 96 = .ok (.iconst 2, 1) := dk_5 (dk_at dksX4_least_4 2 rfl rfl)
theorem dX4_least_97 : decode cX4_least 97 = .ok (.invokevirtual 363, 3) := dk_182 1 107 (dk_at dksX4_least_4 3 rfl rfl)
theorem dX4_least_100 : decode cX4_least 100 = .ok (.aload_n 0, 1) := dk_42 (dk_at dksX4_least_4 6 rfl rfl)
theorem dX4_least_101 : decode cX4_least 101 = .ok (.iload_n 1, 1) := dk_27 (dk_at dksX4_least_4 7 rfl rfl)
theorem dX4_least_102 : decode cX4_least 102 = .ok (.iconst 4, 1) := dk_7 (dk_at dksX4_least_4 8 rfl rfl)
theorem dX4_least_103 : decode cX4_least 103 = .ok (.invokevirtual 363, 3) := dk_182 1 107 (dk_at dksX4_least_4 9 rfl rfl)
theorem dX4_least_106 : decode cX4_least 106 = .ok (.invokevirtual 173, 3) := dk_182 0 173 (dk_at dksX4_least_4 12 rfl rfl)
theorem dX4_least_109 : decode cX4_least 109 = .ok (.istore_n 3, 1) := dk_62 (dk_at dksX4_least_4 15 rfl rfl)
theorem dX4_least_110 : decode cX4_least 110 = .ok (.iconst (-1), 1) := dk_2 (dk_at dksX4_least_4 16 rfl rfl)
theorem dX4_least_111 : decode cX4_least 111 = .ok (.istore 4, 2) := dk_54 4 (dk_at dksX4_least_4 17 rfl rfl)
theorem dX4_least_113 : decode cX4_least 113 = .ok (.iconst (-1), 1) := dk_2 (dk_at dksX4_least_4 19 rfl rfl)
theorem dX4_least_114 : decode cX4_least 114 = .ok (.istore 5, 2) := dk_54 5 (dk_at dksX4_least_4 20 rfl rfl)
theorem dX4_least_116 : decode cX4_least 116 = .ok (.bipush 100, 2) := dk_16 100 (dk_at dksX4_least_4 22 rfl rfl)
theorem dX4_least_118 : decode cX4_least 118 = .ok (.istore 6, 2) := dk_54 6 (dk_at dksX4_least_5 0 rfl rfl)
theorem dX4_least_120 : decode cX4_least 120 = .ok (.aload_n 0, 1) := dk_42 (dk_at dksX4_least_5 2 rfl rfl)
theorem dX4_least_121 : decode cX4_least 121 = .ok (.iload_n 1, 1) := dk_27 (dk_at dksX4_least_5 3 rfl rfl)
theorem dX4_least_122 : decode cX4_least 122 = .ok (.iconst 4, 1) := dk_7 (dk_at dksX4_least_5 4 rfl rfl)
theorem dX4_least_123 : decode cX4_least 123 = .ok (.invokevirtual 363, 3) := dk_182 1 107 (dk_at dksX4_least_5 5 rfl rfl)
theorem dX4_least_126 : decode cX4_least 126 = .ok (.istore 7, 2) := dk_54 7 (dk_at dksX4_least_5 8 rfl rfl)
theorem dX4_least_128 : decode cX4_least 128 = .ok (.iload 7, 2) := dk_21 7 (dk_at dksX4_least_5 10 rfl rfl)
theorem dX4_least_130 : decode cX4_least 130 = .ok (.aload_n 0, 1) := dk_42 (dk_at dksX4_least_5 12 rfl rfl)
theorem dX4_least_131 : decode cX4_least 131 = .ok (.iload_n 1, 1) := dk_27 (dk_at dksX4_least_5 13 rfl rfl)
theorem dX4_least_132 : decode cX4_least 132 = .ok (.iconst 5, 1) := dk_8 (dk_at dksX4_least_5 14 rfl rfl)
theorem dX4_least_133 : decode cX4_least 133 = .ok (.invokevirtual 363, 3) := dk_182 1 107 (dk_at dksX4_least_5 15 rfl rfl)
theorem dX4_least_136 : decode cX4_least 136 = .ok (.if_icmp .gt 98, 3) := dk_163 0 98 (dk_at dksX4_least_5 18 rfl rfl)
theorem dX4_least_139 : decode cX4_least 139 = .ok (.iconst 0, 1) := dk_3 (dk_at dksX4_least_5 21 rfl rfl)
theorem dX4_least_140 : decode cX4_least 140 = .ok (.istore 8, 2) := dk_54 8 (dk_at dksX4_least_5 22 rfl rfl)
theorem dX4_least_142 : decode cX4_least 142 = .ok (.iload 8, 2) := dk_21 8 (dk_at dksX4_least_6 0 rfl rfl)
theorem dX4_least_144 : decode cX4_least 144 = .ok (.iconst 2, 1) := dk_5 (dk_at dksX4_least_6 2 rfl rfl)
theorem dX4_least_145 : decode cX4_least 145 = .ok (.aload_n 0, 1) := dk_42 (dk_at dksX4_least_6 3 rfl rfl)
theorem dX4_least_146 : decode cX4_least 146 = .ok (.getfield 24, 3) := dk_180 0 24 (dk_at dksX4_least_6 4 rfl rfl)
theorem dX4_least_149 : decode cX4_least 149 = .ok (.imul, 1) := dk_104 (dk_at dksX4_least_6 7 rfl rfl)
theorem dX4_least_150 : decode cX4_least 150 = .ok (.if_icmp .ge 78, 3) := dk_162 0 78 (dk_at dksX4_least_6 8 rfl rfl)
theorem dX4_least_153 : decode cX4_least 153 = .ok (.aload_n 0, 1) := dk_42 (dk_at dksX4_least_6 11 rfl rfl)
theorem dX4_least_154 : decode cX4_least 154 = .ok (.getfield 36, 3) := dk_180 0 36 (dk_at dksX4_least_6 12 rfl rfl)
theorem dX4_least_157 : decode cX4_least 157 = .ok (.bipush 100, 2) := dk_16 100 (dk_at dksX4_least_6 15 rfl rfl)
theorem dX4_least_159 : decode cX4_least 159 = .ok (.iload 8, 2) := dk_21 8 (dk_at dksX4_least_6 17 rfl rfl)
theorem dX4_least_161 : decode cX4_least 161 = .ok (.imul, 1) := dk_104 (dk_at dksX4_least_6 19 rfl rfl)
theorem dX4_least_162 : decode cX4_least 162 = .ok (.iload 7, 2) := dk_21 7 (dk_at dksX4_least_6 20 rfl rfl)
theorem dX4_least_164 : decode cX4_least 164 = .ok (.iadd, 1) := dk_96 (dk_at dksX4_least_6 22 rfl rfl)
theorem dX4_least_165 : decode cX4_least 165 = .ok (.iaload, 1) := dk_46 (dk_at dksX4_least_6 23 rfl rfl)
theorem dX4_least_166 : decode cX4_least 166 = .ok (.invokestatic 388, 3) := dk_184 1 132 (dk_at dksX4_least_7 0 rfl rfl)
theorem dX4_least_169 : decode cX4_least 169 = .ok (.istore 9, 2) := dk_54 9 (dk_at dksX4_least_7 3 rfl rfl)
theorem dX4_least_171 : decode cX4_least 171 = .ok (.iload 9, 2) := dk_21 9 (dk_at dksX4_least_7 5 rfl rfl)
theorem dX4_least_173 : decode cX4_least 173 = .ok (.iload 6, 2) := dk_21 6 (dk_at dksX4_least_7 7 rfl rfl)
theorem dX4_least_175 : decode cX4_least 175 = .ok (.if_icmp .ge 47, 3) := dk_162 0 47 (dk_at dksX4_least_7 9 rfl rfl)
theorem dX4_least_178 : decode cX4_least 178 = .ok (.aload_n 0, 1) := dk_42 (dk_at dksX4_least_7 12 rfl rfl)
theorem dX4_least_179 : decode cX4_least 179 = .ok (.iload 8, 2) := dk_21 8 (dk_at dksX4_least_7 13 rfl rfl)
theorem dX4_least_181 : decode cX4_least 181 = .ok (.iconst 2, 1) := dk_5 (dk_at dksX4_least_7 15 rfl rfl)
theorem dX4_least_182 : decode cX4_least 182 = .ok (.idiv, 1) := dk_108 (dk_at dksX4_least_7 16 rfl rfl)
theorem dX4_least_183 : decode cX4_least 183 = .ok (.iload_n 3, 1) := dk_29 (dk_at dksX4_least_7 17 rfl rfl)
theorem dX4_least_184 : decode cX4_least 184 = .ok (.invokevirtual 176, 3) := dk_182 0 176 (dk_at dksX4_least_7 18 rfl rfl)
theorem dX4_least_187 : decode cX4_least 187 = .ok (.ifCond .eq 35, 3) := dk_153 0 35 (dk_at dksX4_least_7 21 rfl rfl)
theorem dX4_least_190 : decode cX4_least 190 = .ok (.aload_n 0, 1) := dk_42 (dk_at dksX4_least_8 0 rfl rfl)
theorem dX4_least_191 : decode cX4_least 191 = .ok (.iload 8, 2) := dk_21 8 (dk_at dksX4_least_8 1 rfl rfl)
theorem dX4_least_193 : decode cX4_least 193 = .ok (.iconst 2, 1) := dk_5 (dk_at dksX4_least_8 3 rfl rfl)
theorem dX4_least_194 : decode cX4_least 194 = .ok (.idiv, 1) := dk_108 (dk_at dksX4_least_8 4 rfl rfl)
theorem dX4_least_195 : decode cX4_least 195 = .ok (.aload_n 0, 1) := dk_42 (dk_at dksX4_least_8 5 rfl rfl)
theorem dX4_least_196 : decode cX4_least 196 = .ok (.iload_n 1, 1) := dk_27 (dk_at dksX4_least_8 6 rfl rfl)
theorem dX4_least_197 : decode cX4_least 197 = .ok (.iconst 3, 1) := dk_6 (dk_at dksX4_least_8 7 rfl rfl)
theorem dX4_least_198 : decode cX4_least 198 = .ok (.invokevirtual 363, 3) := dk_182 1 107 (dk_at dksX4_least_8 8 rfl rfl)
theorem dX4_least_201 : decode cX4_least 201 = .ok (.invokevirtual 176, 3) := dk_182 0 176 (dk_at dksX4_least_8 11 rfl rfl)
theorem dX4_least_204 : decode cX4_least 204 = .ok (.ifCond .ne 6, 3) := dk_154 0 6 (dk_at dksX4_least_8 14 rfl rfl)
theorem dX4_least_207 : decode cX4_least 207 = .ok (.goto 15, 3) := dk_167 0 15 (dk_at dksX4_least_8 17 rfl rfl)
theorem dX4_least_210 : decode cX4_least 210 = .ok (.iload 9, 2) := dk_21 9 (dk_at dksX4_least_8 20 rfl rfl)
theorem dX4_least_212 : decode cX4_least 212 = .ok (.istore 6, 2) := dk_54 6 (dk_at dksX4_least_8 22 rfl rfl)
theorem dX4_least_214 : decode cX4_least 214 = .ok (.iload 8, 2) := dk_21 8 (dk_at dksX4_least_9 0 rfl rfl)
theorem dX4_least_216 : decode cX4_least 216 = .ok (.istore 4, 2) := dk_54 4 (dk_at dksX4_least_9 2 rfl rfl)
theorem dX4_least_218 : decode cX4_least 218 = .ok (.iload 7, 2) := dk_21 7 (dk_at dksX4_least_9 4 rfl rfl)
theorem dX4_least_220 : decode cX4_least 220 = .ok (.istore 5, 2) := dk_54 5 (dk_at dksX4_least_9 6 rfl rfl)
theorem dX4_least_222 : decode cX4_least 222 = .ok (.iinc 8 1, 3) := dk_132 8 1 (dk_at dksX4_least_9 8 rfl rfl)
theorem dX4_least_225 : decode cX4_least 225 = .ok (.goto (-83), 3) := dk_167 255 173 (dk_at dksX4_least_9 11 rfl rfl)
theorem dX4_least_228 : decode cX4_least 228 = .ok (.iinc 7 1, 3) := dk_132 7 1 (dk_at dksX4_least_9 14 rfl rfl)
theorem dX4_least_231 : decode cX4_least 231 = .ok (.goto (-103), 3) := dk_167 255 153 (dk_at dksX4_least_9 17 rfl rfl)
theorem dX4_least_234 : decode cX4_least 234 = .ok (.iload 4, 2) := dk_21 4 (dk_at dksX4_least_9 20 rfl rfl)
theorem dX4_least_236 : decode cX4_least 236 = .ok (.iconst (-1), 1) := dk_2 (dk_at dksX4_least_9 22 rfl rfl)
theorem dX4_least_237 : decode cX4_least 237 = .ok (.if_icmp .ne 7, 3) := dk_160 0 7 (dk_at dksX4_least_10 0 rfl rfl)
theorem dX4_least_240 : decode cX4_least 240 = .ok (.iconst (-1), 1) := dk_2 (dk_at dksX4_least_10 3 rfl rfl)
theorem dX4_least_241 : decode cX4_least 241 = .ok (.goto 24, 3) := dk_167 0 24 (dk_at dksX4_least_10 4 rfl rfl)
theorem dX4_least_244 : decode cX4_least 244 = .ok (.iload_n 2, 1) := dk_28 (dk_at dksX4_least_10 7 rfl rfl)
theorem dX4_least_245 : decode cX4_least 245 = .ok (.ifCond .ne 8, 3) := dk_154 0 8 (dk_at dksX4_least_10 8 rfl rfl)
theorem dX4_least_248 : decode cX4_least 248 = .ok (.iload 4, 2) := dk_21 4 (dk_at dksX4_least_10 11 rfl rfl)
theorem dX4_least_250 : decode cX4_least 250 = .ok (.goto 15, 3) := dk_167 0 15 (dk_at dksX4_least_10 13 rfl rfl)
theorem dX4_least_253 : decode cX4_least 253 = .ok (.iload_n 2, 1) := dk_28 (dk_at dksX4_least_10 16 rfl rfl)
theorem dX4_least_254 : decode cX4_least 254 = .ok (.iconst 1, 1) := dk_4 (dk_at dksX4_least_10 17 rfl rfl)
theorem dX4_least_255 : decode cX4_least 255 = .ok (.if_icmp .ne 8, 3) := dk_160 0 8 (dk_at dksX4_least_10 18 rfl rfl)
theorem dX4_least_258 : decode cX4_least 258 = .ok (.iload 5, 2) := dk_21 5 (dk_at dksX4_least_10 21 rfl rfl)
theorem dX4_least_260 : decode cX4_least 260 = .ok (.goto 5, 3) := dk_167 0 5 (dk_at dksX4_least_11 0 rfl rfl)
theorem dX4_least_263 : decode cX4_least 263 = .ok (.iload 6, 2) := dk_21 6 (dk_at dksX4_least_11 3 rfl rfl)
theorem dX4_least_265 : decode cX4_least 265 = .ok (.ireturn, 1) := dk_172 (dk_at dksX4_least_11 5 rfl rfl)
abbrev cX4_ones : ByteArray := prog_26_method_4_code
def yX4_ones : MethodName := ⟨RX4, "ones", "(I)I"⟩
def dkwX4_ones_0 : List UInt8 := [3, 60, 26, 61, 28, 153, 0, 15, 132, 1, 1, 28, 28, 4, 100, 126, 61, 167, 255, 243, 27, 172]
abbrev dktX4_ones_0 : List UInt8 := dkwX4_ones_0 ++ []
theorem dksX4_ones_0 : cX4_ones.data.toList.drop 0 = dktX4_ones_0 := by decide +kernel
theorem dX4_ones_0 : decode cX4_ones 0 = .ok (.iconst 0, 1) := dk_3 (dk_at dksX4_ones_0 0 rfl rfl)
theorem dX4_ones_1 : decode cX4_ones 1 = .ok (.istore_n 1, 1) := dk_60 (dk_at dksX4_ones_0 1 rfl rfl)
theorem dX4_ones_2 : decode cX4_ones 2 = .ok (.iload_n 0, 1) := dk_26 (dk_at dksX4_ones_0 2 rfl rfl)
theorem dX4_ones_3 : decode cX4_ones 3 = .ok (.istore_n 2, 1) := dk_61 (dk_at dksX4_ones_0 3 rfl rfl)
theorem dX4_ones_4 : decode cX4_ones 4 = .ok (.iload_n 2, 1) := dk_28 (dk_at dksX4_ones_0 4 rfl rfl)
theorem dX4_ones_5 : decode cX4_ones 5 = .ok (.ifCond .eq 15, 3) := dk_153 0 15 (dk_at dksX4_ones_0 5 rfl rfl)
theorem dX4_ones_8 : decode cX4_ones 8 = .ok (.iinc 1 1, 3) := dk_132 1 1 (dk_at dksX4_ones_0 8 rfl rfl)
theorem dX4_ones_11 : decode cX4_ones 11 = .ok (.iload_n 2, 1) := dk_28 (dk_at dksX4_ones_0 11 rfl rfl)
theorem dX4_ones_12 : decode cX4_ones 12 = .ok (.iload_n 2, 1) := dk_28 (dk_at dksX4_ones_0 12 rfl rfl)
theorem dX4_ones_13 : decode cX4_ones 13 = .ok (.iconst 1, 1) := dk_4 (dk_at dksX4_ones_0 13 rfl rfl)
theorem dX4_ones_14 : decode cX4_ones 14 = .ok (.isub, 1) := dk_100 (dk_at dksX4_ones_0 14 rfl rfl)
theorem dX4_ones_15 : decode cX4_ones 15 = .ok (.iand, 1) := dk_126 (dk_at dksX4_ones_0 15 rfl rfl)
theorem dX4_ones_16 : decode cX4_ones 16 = .ok (.istore_n 2, 1) := dk_61 (dk_at dksX4_ones_0 16 rfl rfl)
theorem dX4_ones_17 : decode cX4_ones 17 = .ok (.goto (-13), 3) := dk_167 255 243 (dk_at dksX4_ones_0 17 rfl rfl)
theorem dX4_ones_20 : decode cX4_ones 20 = .ok (.iload_n 1, 1) := dk_27 (dk_at dksX4_ones_0 20 rfl rfl)
theorem dX4_ones_21 : decode cX4_ones 21 = .ok (.ireturn, 1) := dk_172 (dk_at dksX4_ones_0 21 rfl rfl)
abbrev cX4_pass : ByteArray := prog_26_method_91_code
def yX4_pass : MethodName := ⟨RX4, "pass", "(IIIIII)I"⟩
def dkwX4_pass_4 : List UInt8 := [180, 0, 82, 21, 6, 46, 167, 0, 4, 2, 172]
abbrev dktX4_pass_4 : List UInt8 := dkwX4_pass_4 ++ []
def dkwX4_pass_3 : List UInt8 := [160, 0, 10, 42, 180, 1, 145, 167, 0, 25, 21, 6, 6, 42, 180, 1, 145, 104, 162, 0, 13, 42]
abbrev dktX4_pass_3 : List UInt8 := dkwX4_pass_3 ++ dktX4_pass_4
def dkwX4_pass_2 : List UInt8 := [182, 0, 170, 42, 27, 28, 29, 21, 4, 21, 5, 182, 1, 163, 154, 0, 5, 2, 172, 21, 6, 2]
abbrev dktX4_pass_2 : List UInt8 := dkwX4_pass_2 ++ dktX4_pass_3
def dkwX4_pass_1 : List UInt8 := [180, 0, 24, 120, 4, 100, 133, 184, 0, 140, 153, 0, 9, 21, 6, 2, 162, 0, 5, 2, 172, 42, 3]
abbrev dktX4_pass_1 : List UInt8 := dkwX4_pass_1 ++ dktX4_pass_2
def dkwX4_pass_0 : List UInt8 := [42, 3, 181, 0, 1, 42, 27, 28, 21, 4, 21, 5, 182, 1, 95, 153, 0, 27, 29, 133, 9, 4, 42]
abbrev dktX4_pass_0 : List UInt8 := dkwX4_pass_0 ++ dktX4_pass_1
theorem dksX4_pass_0 : cX4_pass.data.toList.drop 0 = dktX4_pass_0 := by decide +kernel
theorem dksX4_pass_1 : cX4_pass.data.toList.drop 23 = dktX4_pass_1 := dk_seg dksX4_pass_0 23 rfl rfl
theorem dksX4_pass_2 : cX4_pass.data.toList.drop 46 = dktX4_pass_2 := dk_seg dksX4_pass_1 23 rfl rfl
theorem dksX4_pass_3 : cX4_pass.data.toList.drop 68 = dktX4_pass_3 := dk_seg dksX4_pass_2 22 rfl rfl
theorem dksX4_pass_4 : cX4_pass.data.toList.drop 90 = dktX4_pass_4 := dk_seg dksX4_pass_3 22 rfl rfl
theorem dX4_pass_0 : decode cX4_pass 0 = .ok (.aload_n 0, 1) := dk_42 (dk_at dksX4_pass_0 0 rfl rfl)
theorem dX4_pass_1 : decode cX4_pass 1 = .ok (.iconst 0, 1) := dk_3 (dk_at dksX4_pass_0 1 rfl rfl)
theorem dX4_pass_2 : decode cX4_pass 2 = .ok (.putfield 1, 3) := dk_181 0 1 (dk_at dksX4_pass_0 2 rfl rfl)
theorem dX4_pass_5 : decode cX4_pass 5 = .ok (.aload_n 0, 1) := dk_42 (dk_at dksX4_pass_0 5 rfl rfl)
theorem dX4_pass_6 : decode cX4_pass 6 = .ok (.iload_n 1, 1) := dk_27 (dk_at dksX4_pass_0 6 rfl rfl)
theorem dX4_pass_7 : decode cX4_pass 7 = .ok (.iload_n 2, 1) := dk_28 (dk_at dksX4_pass_0 7 rfl rfl)
theorem dX4_pass_8 : decode cX4_pass 8 = .ok (.iload 4, 2) := dk_21 4 (dk_at dksX4_pass_0 8 rfl rfl)
theorem dX4_pass_10 : decode cX4_pass 10 = .ok (.iload 5, 2) := dk_21 5 (dk_at dksX4_pass_0 10 rfl rfl)
theorem dX4_pass_12 : decode cX4_pass 12 = .ok (.invokevirtual 351, 3) := dk_182 1 95 (dk_at dksX4_pass_0 12 rfl rfl)
theorem dX4_pass_15 : decode cX4_pass 15 = .ok (.ifCond .eq 27, 3) := dk_153 0 27 (dk_at dksX4_pass_0 15 rfl rfl)
theorem dX4_pass_18 : decode cX4_pass 18 = .ok (.iload_n 3, 1) := dk_29 (dk_at dksX4_pass_0 18 rfl rfl)
theorem dX4_pass_19 : decode cX4_pass 19 = .ok (.i2l, 1) := dk_133 (dk_at dksX4_pass_0 19 rfl rfl)
theorem dX4_pass_20 : decode cX4_pass 20 = .ok (.lconst 0, 1) := dk_9 (dk_at dksX4_pass_0 20 rfl rfl)
theorem dX4_pass_21 : decode cX4_pass 21 = .ok (.iconst 1, 1) := dk_4 (dk_at dksX4_pass_0 21 rfl rfl)
theorem dX4_pass_22 : decode cX4_pass 22 = .ok (.aload_n 0, 1) := dk_42 (dk_at dksX4_pass_0 22 rfl rfl)
theorem dX4_pass_23 : decode cX4_pass 23 = .ok (.getfield 24, 3) := dk_180 0 24 (dk_at dksX4_pass_1 0 rfl rfl)
theorem dX4_pass_26 : decode cX4_pass 26 = .ok (.ishl, 1) := dk_120 (dk_at dksX4_pass_1 3 rfl rfl)
theorem dX4_pass_27 : decode cX4_pass 27 = .ok (.iconst 1, 1) := dk_4 (dk_at dksX4_pass_1 4 rfl rfl)
theorem dX4_pass_28 : decode cX4_pass 28 = .ok (.isub, 1) := dk_100 (dk_at dksX4_pass_1 5 rfl rfl)
theorem dX4_pass_29 : decode cX4_pass 29 = .ok (.i2l, 1) := dk_133 (dk_at dksX4_pass_1 6 rfl rfl)
theorem dX4_pass_30 : decode cX4_pass 30 = .ok (.invokestatic 140, 3) := dk_184 0 140 (dk_at dksX4_pass_1 7 rfl rfl)
theorem dX4_pass_33 : decode cX4_pass 33 = .ok (.ifCond .eq 9, 3) := dk_153 0 9 (dk_at dksX4_pass_1 10 rfl rfl)
theorem dX4_pass_36 : decode cX4_pass 36 = .ok (.iload 6, 2) := dk_21 6 (dk_at dksX4_pass_1 13 rfl rfl)
theorem dX4_pass_38 : decode cX4_pass 38 = .ok (.iconst (-1), 1) := dk_2 (dk_at dksX4_pass_1 15 rfl rfl)
theorem dX4_pass_39 : decode cX4_pass 39 = .ok (.if_icmp .ge 5, 3) := dk_162 0 5 (dk_at dksX4_pass_1 16 rfl rfl)
theorem dX4_pass_42 : decode cX4_pass 42 = .ok (.iconst (-1), 1) := dk_2 (dk_at dksX4_pass_1 19 rfl rfl)
theorem dX4_pass_43 : decode cX4_pass 43 = .ok (.ireturn, 1) := dk_172 (dk_at dksX4_pass_1 20 rfl rfl)
theorem dX4_pass_44 : decode cX4_pass 44 = .ok (.aload_n 0, 1) := dk_42 (dk_at dksX4_pass_1 21 rfl rfl)
theorem dX4_pass_45 : decode cX4_pass 45 = .ok (.iconst 0, 1) := dk_3 (dk_at dksX4_pass_1 22 rfl rfl)
theorem dX4_pass_46 : decode cX4_pass 46 = .ok (.invokevirtual 170, 3) := dk_182 0 170 (dk_at dksX4_pass_2 0 rfl rfl)
theorem dX4_pass_49 : decode cX4_pass 49 = .ok (.aload_n 0, 1) := dk_42 (dk_at dksX4_pass_2 3 rfl rfl)
theorem dX4_pass_50 : decode cX4_pass 50 = .ok (.iload_n 1, 1) := dk_27 (dk_at dksX4_pass_2 4 rfl rfl)
theorem dX4_pass_51 : decode cX4_pass 51 = .ok (.iload_n 2, 1) := dk_28 (dk_at dksX4_pass_2 5 rfl rfl)
theorem dX4_pass_52 : decode cX4_pass 52 = .ok (.iload_n 3, 1) := dk_29 (dk_at dksX4_pass_2 6 rfl rfl)
theorem dX4_pass_53 : decode cX4_pass 53 = .ok (.iload 4, 2) := dk_21 4 (dk_at dksX4_pass_2 7 rfl rfl)
theorem dX4_pass_55 : decode cX4_pass 55 = .ok (.iload 5, 2) := dk_21 5 (dk_at dksX4_pass_2 9 rfl rfl)
theorem dX4_pass_57 : decode cX4_pass 57 = .ok (.invokevirtual 419, 3) := dk_182 1 163 (dk_at dksX4_pass_2 11 rfl rfl)
theorem dX4_pass_60 : decode cX4_pass 60 = .ok (.ifCond .ne 5, 3) := dk_154 0 5 (dk_at dksX4_pass_2 14 rfl rfl)
theorem dX4_pass_63 : decode cX4_pass 63 = .ok (.iconst (-1), 1) := dk_2 (dk_at dksX4_pass_2 17 rfl rfl)
theorem dX4_pass_64 : decode cX4_pass 64 = .ok (.ireturn, 1) := dk_172 (dk_at dksX4_pass_2 18 rfl rfl)
theorem dX4_pass_65 : decode cX4_pass 65 = .ok (.iload 6, 2) := dk_21 6 (dk_at dksX4_pass_2 19 rfl rfl)
theorem dX4_pass_67 : decode cX4_pass 67 = .ok (.iconst (-1), 1) := dk_2 (dk_at dksX4_pass_2 21 rfl rfl)
theorem dX4_pass_68 : decode cX4_pass 68 = .ok (.if_icmp .ne 10, 3) := dk_160 0 10 (dk_at dksX4_pass_3 0 rfl rfl)
theorem dX4_pass_71 : decode cX4_pass 71 = .ok (.aload_n 0, 1) := dk_42 (dk_at dksX4_pass_3 3 rfl rfl)
theorem dX4_pass_72 : decode cX4_pass 72 = .ok (.getfield 401, 3) := dk_180 1 145 (dk_at dksX4_pass_3 4 rfl rfl)
theorem dX4_pass_75 : decode cX4_pass 75 = .ok (.goto 25, 3) := dk_167 0 25 (dk_at dksX4_pass_3 7 rfl rfl)
theorem dX4_pass_78 : decode cX4_pass 78 = .ok (.iload 6, 2) := dk_21 6 (dk_at dksX4_pass_3 10 rfl rfl)
theorem dX4_pass_80 : decode cX4_pass 80 = .ok (.iconst 3, 1) := dk_6 (dk_at dksX4_pass_3 12 rfl rfl)
theorem dX4_pass_81 : decode cX4_pass 81 = .ok (.aload_n 0, 1) := dk_42 (dk_at dksX4_pass_3 13 rfl rfl)
theorem dX4_pass_82 : decode cX4_pass 82 = .ok (.getfield 401, 3) := dk_180 1 145 (dk_at dksX4_pass_3 14 rfl rfl)
theorem dX4_pass_85 : decode cX4_pass 85 = .ok (.imul, 1) := dk_104 (dk_at dksX4_pass_3 17 rfl rfl)
theorem dX4_pass_86 : decode cX4_pass 86 = .ok (.if_icmp .ge 13, 3) := dk_162 0 13 (dk_at dksX4_pass_3 18 rfl rfl)
theorem dX4_pass_89 : decode cX4_pass 89 = .ok (.aload_n 0, 1) := dk_42 (dk_at dksX4_pass_3 21 rfl rfl)
theorem dX4_pass_90 : decode cX4_pass 90 = .ok (.getfield 82, 3) := dk_180 0 82 (dk_at dksX4_pass_4 0 rfl rfl)
theorem dX4_pass_93 : decode cX4_pass 93 = .ok (.iload 6, 2) := dk_21 6 (dk_at dksX4_pass_4 3 rfl rfl)
theorem dX4_pass_95 : decode cX4_pass 95 = .ok (.iaload, 1) := dk_46 (dk_at dksX4_pass_4 5 rfl rfl)
theorem dX4_pass_96 : decode cX4_pass 96 = .ok (.goto 4, 3) := dk_167 0 4 (dk_at dksX4_pass_4 6 rfl rfl)
theorem dX4_pass_99 : decode cX4_pass 99 = .ok (.iconst (-1), 1) := dk_2 (dk_at dksX4_pass_4 9 rfl rfl)
theorem dX4_pass_100 : decode cX4_pass 100 = .ok (.ireturn, 1) := dk_172 (dk_at dksX4_pass_4 10 rfl rfl)
abbrev cX4_findPass : ByteArray := prog_26_method_86_code
def yX4_findPass : MethodName := ⟨RX4, "findPass", "(IIIII)Z"⟩
def dkwX4_findPass_12 : List UInt8 := [132, 9, 1, 167, 255, 204, 4, 172]
abbrev dktX4_findPass_12 : List UInt8 := dkwX4_findPass_12 ++ []
def dkwX4_findPass_11 : List UInt8 := [6, 21, 9, 104, 46, 4, 96, 54, 8, 42, 180, 0, 82, 6, 21, 9, 104, 5, 96, 46, 54, 7]
abbrev dktX4_findPass_11 : List UInt8 := dkwX4_findPass_11 ++ dktX4_findPass_12
def dkwX4_findPass_10 : List UInt8 := [180, 1, 145, 162, 0, 49, 42, 29, 21, 9, 21, 7, 28, 21, 8, 21, 6, 182, 1, 156, 42, 180, 0, 82]
abbrev dktX4_findPass_10 : List UInt8 := dkwX4_findPass_10 ++ dktX4_findPass_11
def dkwX4_findPass_9 : List UInt8 := [167, 255, 199, 42, 27, 21, 4, 182, 0, 173, 54, 7, 21, 4, 54, 8, 3, 54, 9, 21, 9, 42]
abbrev dktX4_findPass_9 : List UInt8 := dkwX4_findPass_9 ++ dktX4_findPass_10
def dkwX4_findPass_8 : List UInt8 := [21, 7, 21, 8, 28, 21, 4, 21, 6, 182, 1, 152, 79, 132, 8, 1, 167, 255, 217, 132, 7, 1]
abbrev dktX4_findPass_8 : List UInt8 := dkwX4_findPass_8 ++ dktX4_findPass_9
def dkwX4_findPass_7 : List UInt8 := [21, 8, 42, 180, 0, 24, 163, 0, 36, 42, 180, 0, 79, 16, 10, 21, 7, 104, 21, 8, 96, 42, 29]
abbrev dktX4_findPass_7 : List UInt8 := dkwX4_findPass_7 ++ dktX4_findPass_8
def dkwX4_findPass_6 : List UInt8 := [180, 1, 145, 104, 28, 96, 46, 54, 6, 4, 54, 7, 21, 7, 42, 180, 1, 145, 162, 0, 54, 3, 54, 8]
abbrev dktX4_findPass_6 : List UInt8 := dkwX4_findPass_6 ++ dktX4_findPass_7
def dkwX4_findPass_5 : List UInt8 := [160, 0, 5, 3, 172, 42, 180, 1, 145, 154, 0, 7, 2, 167, 0, 17, 42, 180, 0, 76, 16, 10, 42]
abbrev dktX4_findPass_5 : List UInt8 := dkwX4_findPass_5 ++ dktX4_findPass_6
def dkwX4_findPass_4 : List UInt8 := [181, 1, 145, 167, 255, 207, 42, 180, 0, 76, 16, 10, 42, 180, 1, 145, 104, 28, 96, 46, 16, 100]
abbrev dktX4_findPass_4 : List UInt8 := dkwX4_findPass_4 ++ dktX4_findPass_5
def dkwX4_findPass_3 : List UInt8 := [16, 100, 160, 0, 27, 42, 29, 42, 180, 1, 145, 21, 5, 182, 1, 148, 42, 89, 180, 1, 145, 4, 96]
abbrev dktX4_findPass_3 : List UInt8 := dkwX4_findPass_3 ++ dktX4_findPass_4
def dkwX4_findPass_2 : List UInt8 := [42, 180, 1, 145, 16, 10, 162, 0, 46, 42, 180, 0, 76, 16, 10, 42, 180, 1, 145, 104, 28, 96, 46]
abbrev dktX4_findPass_2 : List UInt8 := dkwX4_findPass_2 ++ dktX4_findPass_3
def dkwX4_findPass_1 : List UInt8 := [167, 255, 237, 42, 180, 0, 76, 42, 27, 21, 4, 182, 0, 173, 21, 4, 4, 100, 79, 42, 3, 181, 1, 145]
abbrev dktX4_findPass_1 : List UInt8 := dkwX4_findPass_1 ++ dktX4_findPass_2
def dkwX4_findPass_0 : List UInt8 := [3, 54, 6, 21, 6, 16, 110, 162, 0, 18, 42, 180, 0, 76, 21, 6, 16, 100, 79, 132, 6, 1]
abbrev dktX4_findPass_0 : List UInt8 := dkwX4_findPass_0 ++ dktX4_findPass_1
theorem dksX4_findPass_0 : cX4_findPass.data.toList.drop 0 = dktX4_findPass_0 := by decide +kernel
theorem dksX4_findPass_1 : cX4_findPass.data.toList.drop 22 = dktX4_findPass_1 := dk_seg dksX4_findPass_0 22 rfl rfl
theorem dksX4_findPass_2 : cX4_findPass.data.toList.drop 46 = dktX4_findPass_2 := dk_seg dksX4_findPass_1 24 rfl rfl
theorem dksX4_findPass_3 : cX4_findPass.data.toList.drop 69 = dktX4_findPass_3 := dk_seg dksX4_findPass_2 23 rfl rfl
theorem dksX4_findPass_4 : cX4_findPass.data.toList.drop 92 = dktX4_findPass_4 := dk_seg dksX4_findPass_3 23 rfl rfl
theorem dksX4_findPass_5 : cX4_findPass.data.toList.drop 114 = dktX4_findPass_5 := dk_seg dksX4_findPass_4 22 rfl rfl
theorem dksX4_findPass_6 : cX4_findPass.data.toList.drop 137 = dktX4_findPass_6 := dk_seg dksX4_findPass_5 23 rfl rfl
theorem dksX4_findPass_7 : cX4_findPass.data.toList.drop 161 = dktX4_findPass_7 := dk_seg dksX4_findPass_6 24 rfl rfl
theorem dksX4_findPass_8 : cX4_findPass.data.toList.drop 184 = dktX4_findPass_8 := dk_seg dksX4_findPass_7 23 rfl rfl
theorem dksX4_findPass_9 : cX4_findPass.data.toList.drop 206 = dktX4_findPass_9 := dk_seg dksX4_findPass_8 22 rfl rfl
theorem dksX4_findPass_10 : cX4_findPass.data.toList.drop 228 = dktX4_findPass_10 := dk_seg dksX4_findPass_9 22 rfl rfl
theorem dksX4_findPass_11 : cX4_findPass.data.toList.drop 252 = dktX4_findPass_11 := dk_seg dksX4_findPass_10 24 rfl rfl
theorem dksX4_findPass_12 : cX4_findPass.data.toList.drop 274 = dktX4_findPass_12 := dk_seg dksX4_findPass_11 22 rfl rfl
theorem dX4_findPass_0 : decode cX4_findPass 0 = .ok (.iconst 0, 1) := dk_3 (dk_at dksX4_findPass_0 0 rfl rfl)
theorem dX4_findPass_1 : decode cX4_findPass 1 = .ok (.istore 6, 2) := dk_54 6 (dk_at dksX4_findPass_0 1 rfl rfl)
theorem dX4_findPass_3 : decode cX4_findPass 3 = .ok (.iload 6, 2) := dk_21 6 (dk_at dksX4_findPass_0 3 rfl rfl)
theorem dX4_findPass_5 : decode cX4_findPass 5 = .ok (.bipush 110, 2) := dk_16 110 (dk_at dksX4_findPass_0 5 rfl rfl)
theorem dX4_findPass_7 : decode cX4_findPass 7 = .ok (.if_icmp .ge 18, 3) := dk_162 0 18 (dk_at dksX4_findPass_0 7 rfl rfl)
theorem dX4_findPass_10 : decode cX4_findPass 10 = .ok (.aload_n 0, 1) := dk_42 (dk_at dksX4_findPass_0 10 rfl rfl)
theorem dX4_findPass_11 : decode cX4_findPass 11 = .ok (.getfield 76, 3) := dk_180 0 76 (dk_at dksX4_findPass_0 11 rfl rfl)
theorem dX4_findPass_14 : decode cX4_findPass 14 = .ok (.iload 6, 2) := dk_21 6 (dk_at dksX4_findPass_0 14 rfl rfl)
theorem dX4_findPass_16 : decode cX4_findPass 16 = .ok (.bipush 100, 2) := dk_16 100 (dk_at dksX4_findPass_0 16 rfl rfl)
theorem dX4_findPass_18 : decode cX4_findPass 18 = .ok (.iastore, 1) := dk_79 (dk_at dksX4_findPass_0 18 rfl rfl)
theorem dX4_findPass_19 : decode cX4_findPass 19 = .ok (.iinc 6 1, 3) := dk_132 6 1 (dk_at dksX4_findPass_0 19 rfl rfl)
theorem dX4_findPass_22 : decode cX4_findPass 22 = .ok (.goto (-19), 3) := dk_167 255 237 (dk_at dksX4_findPass_1 0 rfl rfl)
theorem dX4_findPass_25 : decode cX4_findPass 25 = .ok (.aload_n 0, 1) := dk_42 (dk_at dksX4_findPass_1 3 rfl rfl)
theorem dX4_findPass_26 : decode cX4_findPass 26 = .ok (.getfield 76, 3) := dk_180 0 76 (dk_at dksX4_findPass_1 4 rfl rfl)
theorem dX4_findPass_29 : decode cX4_findPass 29 = .ok (.aload_n 0, 1) := dk_42 (dk_at dksX4_findPass_1 7 rfl rfl)
theorem dX4_findPass_30 : decode cX4_findPass 30 = .ok (.iload_n 1, 1) := dk_27 (dk_at dksX4_findPass_1 8 rfl rfl)
theorem dX4_findPass_31 : decode cX4_findPass 31 = .ok (.iload 4, 2) := dk_21 4 (dk_at dksX4_findPass_1 9 rfl rfl)
theorem dX4_findPass_33 : decode cX4_findPass 33 = .ok (.invokevirtual 173, 3) := dk_182 0 173 (dk_at dksX4_findPass_1 11 rfl rfl)
theorem dX4_findPass_36 : decode cX4_findPass 36 = .ok (.iload 4, 2) := dk_21 4 (dk_at dksX4_findPass_1 14 rfl rfl)
theorem dX4_findPass_38 : decode cX4_findPass 38 = .ok (.iconst 1, 1) := dk_4 (dk_at dksX4_findPass_1 16 rfl rfl)
theorem dX4_findPass_39 : decode cX4_findPass 39 = .ok (.isub, 1) := dk_100 (dk_at dksX4_findPass_1 17 rfl rfl)
theorem dX4_findPass_40 : decode cX4_findPass 40 = .ok (.iastore, 1) := dk_79 (dk_at dksX4_findPass_1 18 rfl rfl)
theorem dX4_findPass_41 : decode cX4_findPass 41 = .ok (.aload_n 0, 1) := dk_42 (dk_at dksX4_findPass_1 19 rfl rfl)
theorem dX4_findPass_42 : decode cX4_findPass 42 = .ok (.iconst 0, 1) := dk_3 (dk_at dksX4_findPass_1 20 rfl rfl)
theorem dX4_findPass_43 : decode cX4_findPass 43 = .ok (.putfield 401, 3) := dk_181 1 145 (dk_at dksX4_findPass_1 21 rfl rfl)
theorem dX4_findPass_46 : decode cX4_findPass 46 = .ok (.aload_n 0, 1) := dk_42 (dk_at dksX4_findPass_2 0 rfl rfl)
theorem dX4_findPass_47 : decode cX4_findPass 47 = .ok (.getfield 401, 3) := dk_180 1 145 (dk_at dksX4_findPass_2 1 rfl rfl)
theorem dX4_findPass_50 : decode cX4_findPass 50 = .ok (.bipush 10, 2) := dk_16 10 (dk_at dksX4_findPass_2 4 rfl rfl)
theorem dX4_findPass_52 : decode cX4_findPass 52 = .ok (.if_icmp .ge 46, 3) := dk_162 0 46 (dk_at dksX4_findPass_2 6 rfl rfl)
theorem dX4_findPass_55 : decode cX4_findPass 55 = .ok (.aload_n 0, 1) := dk_42 (dk_at dksX4_findPass_2 9 rfl rfl)
theorem dX4_findPass_56 : decode cX4_findPass 56 = .ok (.getfield 76, 3) := dk_180 0 76 (dk_at dksX4_findPass_2 10 rfl rfl)
theorem dX4_findPass_59 : decode cX4_findPass 59 = .ok (.bipush 10, 2) := dk_16 10 (dk_at dksX4_findPass_2 13 rfl rfl)
theorem dX4_findPass_61 : decode cX4_findPass 61 = .ok (.aload_n 0, 1) := dk_42 (dk_at dksX4_findPass_2 15 rfl rfl)
theorem dX4_findPass_62 : decode cX4_findPass 62 = .ok (.getfield 401, 3) := dk_180 1 145 (dk_at dksX4_findPass_2 16 rfl rfl)
theorem dX4_findPass_65 : decode cX4_findPass 65 = .ok (.imul, 1) := dk_104 (dk_at dksX4_findPass_2 19 rfl rfl)
theorem dX4_findPass_66 : decode cX4_findPass 66 = .ok (.iload_n 2, 1) := dk_28 (dk_at dksX4_findPass_2 20 rfl rfl)
theorem dX4_findPass_67 : decode cX4_findPass 67 = .ok (.iadd, 1) := dk_96 (dk_at dksX4_findPass_2 21 rfl rfl)
theorem dX4_findPass_68 : decode cX4_findPass 68 = .ok (.iaload, 1) := dk_46 (dk_at dksX4_findPass_2 22 rfl rfl)
theorem dX4_findPass_69 : decode cX4_findPass 69 = .ok (.bipush 100, 2) := dk_16 100 (dk_at dksX4_findPass_3 0 rfl rfl)
theorem dX4_findPass_71 : decode cX4_findPass 71 = .ok (.if_icmp .ne 27, 3) := dk_160 0 27 (dk_at dksX4_findPass_3 2 rfl rfl)
theorem dX4_findPass_74 : decode cX4_findPass 74 = .ok (.aload_n 0, 1) := dk_42 (dk_at dksX4_findPass_3 5 rfl rfl)
theorem dX4_findPass_75 : decode cX4_findPass 75 = .ok (.iload_n 3, 1) := dk_29 (dk_at dksX4_findPass_3 6 rfl rfl)
theorem dX4_findPass_76 : decode cX4_findPass 76 = .ok (.aload_n 0, 1) := dk_42 (dk_at dksX4_findPass_3 7 rfl rfl)
theorem dX4_findPass_77 : decode cX4_findPass 77 = .ok (.getfield 401, 3) := dk_180 1 145 (dk_at dksX4_findPass_3 8 rfl rfl)
theorem dX4_findPass_80 : decode cX4_findPass 80 = .ok (.iload 5, 2) := dk_21 5 (dk_at dksX4_findPass_3 11 rfl rfl)
theorem dX4_findPass_82 : decode cX4_findPass 82 = .ok (.invokevirtual 404, 3) := dk_182 1 148 (dk_at dksX4_findPass_3 13 rfl rfl)
theorem dX4_findPass_85 : decode cX4_findPass 85 = .ok (.aload_n 0, 1) := dk_42 (dk_at dksX4_findPass_3 16 rfl rfl)
theorem dX4_findPass_86 : decode cX4_findPass 86 = .ok (.dup, 1) := dk_89 (dk_at dksX4_findPass_3 17 rfl rfl)
theorem dX4_findPass_87 : decode cX4_findPass 87 = .ok (.getfield 401, 3) := dk_180 1 145 (dk_at dksX4_findPass_3 18 rfl rfl)
theorem dX4_findPass_90 : decode cX4_findPass 90 = .ok (.iconst 1, 1) := dk_4 (dk_at dksX4_findPass_3 21 rfl rfl)
theorem dX4_findPass_91 : decode cX4_findPass 91 = .ok (.iadd, 1) := dk_96 (dk_at dksX4_findPass_3 22 rfl rfl)
theorem dX4_findPass_92 : decode cX4_findPass 92 = .ok (.putfield 401, 3) := dk_181 1 145 (dk_at dksX4_findPass_4 0 rfl rfl)
theorem dX4_findPass_95 : decode cX4_findPass 95 = .ok (.goto (-49), 3) := dk_167 255 207 (dk_at dksX4_findPass_4 3 rfl rfl)
theorem dX4_findPass_98 : decode cX4_findPass 98 = .ok (.aload_n 0, 1) := dk_42 (dk_at dksX4_findPass_4 6 rfl rfl)
theorem dX4_findPass_99 : decode cX4_findPass 99 = .ok (.getfield 76, 3) := dk_180 0 76 (dk_at dksX4_findPass_4 7 rfl rfl)
theorem dX4_findPass_102 : decode cX4_findPass 102 = .ok (.bipush 10, 2) := dk_16 10 (dk_at dksX4_findPass_4 10 rfl rfl)
theorem dX4_findPass_104 : decode cX4_findPass 104 = .ok (.aload_n 0, 1) := dk_42 (dk_at dksX4_findPass_4 12 rfl rfl)
theorem dX4_findPass_105 : decode cX4_findPass 105 = .ok (.getfield 401, 3) := dk_180 1 145 (dk_at dksX4_findPass_4 13 rfl rfl)
theorem dX4_findPass_108 : decode cX4_findPass 108 = .ok (.imul, 1) := dk_104 (dk_at dksX4_findPass_4 16 rfl rfl)
theorem dX4_findPass_109 : decode cX4_findPass 109 = .ok (.iload_n 2, 1) := dk_28 (dk_at dksX4_findPass_4 17 rfl rfl)
theorem dX4_findPass_110 : decode cX4_findPass 110 = .ok (.iadd, 1) := dk_96 (dk_at dksX4_findPass_4 18 rfl rfl)
theorem dX4_findPass_111 : decode cX4_findPass 111 = .ok (.iaload, 1) := dk_46 (dk_at dksX4_findPass_4 19 rfl rfl)
theorem dX4_findPass_112 : decode cX4_findPass 112 = .ok (.bipush 100, 2) := dk_16 100 (dk_at dksX4_findPass_4 20 rfl rfl)
theorem dX4_findPass_114 : decode cX4_findPass 114 = .ok (.if_icmp .ne 5, 3) := dk_160 0 5 (dk_at dksX4_findPass_5 0 rfl rfl)
theorem dX4_findPass_117 : decode cX4_findPass 117 = .ok (.iconst 0, 1) := dk_3 (dk_at dksX4_findPass_5 3 rfl rfl)
theorem dX4_findPass_118 : decode cX4_findPass 118 = .ok (.ireturn, 1) := dk_172 (dk_at dksX4_findPass_5 4 rfl rfl)
theorem dX4_findPass_119 : decode cX4_findPass 119 = .ok (.aload_n 0, 1) := dk_42 (dk_at dksX4_findPass_5 5 rfl rfl)
theorem dX4_findPass_120 : decode cX4_findPass 120 = .ok (.getfield 401, 3) := dk_180 1 145 (dk_at dksX4_findPass_5 6 rfl rfl)
theorem dX4_findPass_123 : decode cX4_findPass 123 = .ok (.ifCond .ne 7, 3) := dk_154 0 7 (dk_at dksX4_findPass_5 9 rfl rfl)
theorem dX4_findPass_126 : decode cX4_findPass 126 = .ok (.iconst (-1), 1) := dk_2 (dk_at dksX4_findPass_5 12 rfl rfl)
theorem dX4_findPass_127 : decode cX4_findPass 127 = .ok (.goto 17, 3) := dk_167 0 17 (dk_at dksX4_findPass_5 13 rfl rfl)
theorem dX4_findPass_130 : decode cX4_findPass 130 = .ok (.aload_n 0, 1) := dk_42 (dk_at dksX4_findPass_5 16 rfl rfl)
theorem dX4_findPass_131 : decode cX4_findPass 131 = .ok (.getfield 76, 3) := dk_180 0 76 (dk_at dksX4_findPass_5 17 rfl rfl)
theorem dX4_findPass_134 : decode cX4_findPass 134 = .ok (.bipush 10, 2) := dk_16 10 (dk_at dksX4_findPass_5 20 rfl rfl)
theorem dX4_findPass_136 : decode cX4_findPass 136 = .ok (.aload_n 0, 1) := dk_42 (dk_at dksX4_findPass_5 22 rfl rfl)
theorem dX4_findPass_137 : decode cX4_findPass 137 = .ok (.getfield 401, 3) := dk_180 1 145 (dk_at dksX4_findPass_6 0 rfl rfl)
theorem dX4_findPass_140 : decode cX4_findPass 140 = .ok (.imul, 1) := dk_104 (dk_at dksX4_findPass_6 3 rfl rfl)
theorem dX4_findPass_141 : decode cX4_findPass 141 = .ok (.iload_n 2, 1) := dk_28 (dk_at dksX4_findPass_6 4 rfl rfl)
theorem dX4_findPass_142 : decode cX4_findPass 142 = .ok (.iadd, 1) := dk_96 (dk_at dksX4_findPass_6 5 rfl rfl)
theorem dX4_findPass_143 : decode cX4_findPass 143 = .ok (.iaload, 1) := dk_46 (dk_at dksX4_findPass_6 6 rfl rfl)
theorem dX4_findPass_144 : decode cX4_findPass 144 = .ok (.istore 6, 2) := dk_54 6 (dk_at dksX4_findPass_6 7 rfl rfl)
theorem dX4_findPass_146 : decode cX4_findPass 146 = .ok (.iconst 1, 1) := dk_4 (dk_at dksX4_findPass_6 9 rfl rfl)
theorem dX4_findPass_147 : decode cX4_findPass 147 = .ok (.istore 7, 2) := dk_54 7 (dk_at dksX4_findPass_6 10 rfl rfl)
theorem dX4_findPass_149 : decode cX4_findPass 149 = .ok (.iload 7, 2) := dk_21 7 (dk_at dksX4_findPass_6 12 rfl rfl)
theorem dX4_findPass_151 : decode cX4_findPass 151 = .ok (.aload_n 0, 1) := dk_42 (dk_at dksX4_findPass_6 14 rfl rfl)
theorem dX4_findPass_152 : decode cX4_findPass 152 = .ok (.getfield 401, 3) := dk_180 1 145 (dk_at dksX4_findPass_6 15 rfl rfl)
theorem dX4_findPass_155 : decode cX4_findPass 155 = .ok (.if_icmp .ge 54, 3) := dk_162 0 54 (dk_at dksX4_findPass_6 18 rfl rfl)
theorem dX4_findPass_158 : decode cX4_findPass 158 = .ok (.iconst 0, 1) := dk_3 (dk_at dksX4_findPass_6 21 rfl rfl)
theorem dX4_findPass_159 : decode cX4_findPass 159 = .ok (.istore 8, 2) := dk_54 8 (dk_at dksX4_findPass_6 22 rfl rfl)
theorem dX4_findPass_161 : decode cX4_findPass 161 = .ok (.iload 8, 2) := dk_21 8 (dk_at dksX4_findPass_7 0 rfl rfl)
theorem dX4_findPass_163 : decode cX4_findPass 163 = .ok (.aload_n 0, 1) := dk_42 (dk_at dksX4_findPass_7 2 rfl rfl)
theorem dX4_findPass_164 : decode cX4_findPass 164 = .ok (.getfield 24, 3) := dk_180 0 24 (dk_at dksX4_findPass_7 3 rfl rfl)
theorem dX4_findPass_167 : decode cX4_findPass 167 = .ok (.if_icmp .gt 36, 3) := dk_163 0 36 (dk_at dksX4_findPass_7 6 rfl rfl)
theorem dX4_findPass_170 : decode cX4_findPass 170 = .ok (.aload_n 0, 1) := dk_42 (dk_at dksX4_findPass_7 9 rfl rfl)
theorem dX4_findPass_171 : decode cX4_findPass 171 = .ok (.getfield 79, 3) := dk_180 0 79 (dk_at dksX4_findPass_7 10 rfl rfl)
theorem dX4_findPass_174 : decode cX4_findPass 174 = .ok (.bipush 10, 2) := dk_16 10 (dk_at dksX4_findPass_7 13 rfl rfl)
theorem dX4_findPass_176 : decode cX4_findPass 176 = .ok (.iload 7, 2) := dk_21 7 (dk_at dksX4_findPass_7 15 rfl rfl)
theorem dX4_findPass_178 : decode cX4_findPass 178 = .ok (.imul, 1) := dk_104 (dk_at dksX4_findPass_7 17 rfl rfl)
theorem dX4_findPass_179 : decode cX4_findPass 179 = .ok (.iload 8, 2) := dk_21 8 (dk_at dksX4_findPass_7 18 rfl rfl)
theorem dX4_findPass_181 : decode cX4_findPass 181 = .ok (.iadd, 1) := dk_96 (dk_at dksX4_findPass_7 20 rfl rfl)
theorem dX4_findPass_182 : decode cX4_findPass 182 = .ok (.aload_n 0, 1) := dk_42 (dk_at dksX4_findPass_7 21 rfl rfl)
theorem dX4_findPass_183 : decode cX4_findPass 183 = .ok (.iload_n 3, 1) := dk_29 (dk_at dksX4_findPass_7 22 rfl rfl)
theorem dX4_findPass_184 : decode cX4_findPass 184 = .ok (.iload 7, 2) := dk_21 7 (dk_at dksX4_findPass_8 0 rfl rfl)
theorem dX4_findPass_186 : decode cX4_findPass 186 = .ok (.iload 8, 2) := dk_21 8 (dk_at dksX4_findPass_8 2 rfl rfl)
theorem dX4_findPass_188 : decode cX4_findPass 188 = .ok (.iload_n 2, 1) := dk_28 (dk_at dksX4_findPass_8 4 rfl rfl)
theorem dX4_findPass_189 : decode cX4_findPass 189 = .ok (.iload 4, 2) := dk_21 4 (dk_at dksX4_findPass_8 5 rfl rfl)
theorem dX4_findPass_191 : decode cX4_findPass 191 = .ok (.iload 6, 2) := dk_21 6 (dk_at dksX4_findPass_8 7 rfl rfl)
theorem dX4_findPass_193 : decode cX4_findPass 193 = .ok (.invokevirtual 408, 3) := dk_182 1 152 (dk_at dksX4_findPass_8 9 rfl rfl)
theorem dX4_findPass_196 : decode cX4_findPass 196 = .ok (.iastore, 1) := dk_79 (dk_at dksX4_findPass_8 12 rfl rfl)
theorem dX4_findPass_197 : decode cX4_findPass 197 = .ok (.iinc 8 1, 3) := dk_132 8 1 (dk_at dksX4_findPass_8 13 rfl rfl)
theorem dX4_findPass_200 : decode cX4_findPass 200 = .ok (.goto (-39), 3) := dk_167 255 217 (dk_at dksX4_findPass_8 16 rfl rfl)
theorem dX4_findPass_203 : decode cX4_findPass 203 = .ok (.iinc 7 1, 3) := dk_132 7 1 (dk_at dksX4_findPass_8 19 rfl rfl)
theorem dX4_findPass_206 : decode cX4_findPass 206 = .ok (.goto (-57), 3) := dk_167 255 199 (dk_at dksX4_findPass_9 0 rfl rfl)
theorem dX4_findPass_209 : decode cX4_findPass 209 = .ok (.aload_n 0, 1) := dk_42 (dk_at dksX4_findPass_9 3 rfl rfl)
theorem dX4_findPass_210 : decode cX4_findPass 210 = .ok (.iload_n 1, 1) := dk_27 (dk_at dksX4_findPass_9 4 rfl rfl)
theorem dX4_findPass_211 : decode cX4_findPass 211 = .ok (.iload 4, 2) := dk_21 4 (dk_at dksX4_findPass_9 5 rfl rfl)
theorem dX4_findPass_213 : decode cX4_findPass 213 = .ok (.invokevirtual 173, 3) := dk_182 0 173 (dk_at dksX4_findPass_9 7 rfl rfl)
theorem dX4_findPass_216 : decode cX4_findPass 216 = .ok (.istore 7, 2) := dk_54 7 (dk_at dksX4_findPass_9 10 rfl rfl)
theorem dX4_findPass_218 : decode cX4_findPass 218 = .ok (.iload 4, 2) := dk_21 4 (dk_at dksX4_findPass_9 12 rfl rfl)
theorem dX4_findPass_220 : decode cX4_findPass 220 = .ok (.istore 8, 2) := dk_54 8 (dk_at dksX4_findPass_9 14 rfl rfl)
theorem dX4_findPass_222 : decode cX4_findPass 222 = .ok (.iconst 0, 1) := dk_3 (dk_at dksX4_findPass_9 16 rfl rfl)
theorem dX4_findPass_223 : decode cX4_findPass 223 = .ok (.istore 9, 2) := dk_54 9 (dk_at dksX4_findPass_9 17 rfl rfl)
theorem dX4_findPass_225 : decode cX4_findPass 225 = .ok (.iload 9, 2) := dk_21 9 (dk_at dksX4_findPass_9 19 rfl rfl)
theorem dX4_findPass_227 : decode cX4_findPass 227 = .ok (.aload_n 0, 1) := dk_42 (dk_at dksX4_findPass_9 21 rfl rfl)
theorem dX4_findPass_228 : decode cX4_findPass 228 = .ok (.getfield 401, 3) := dk_180 1 145 (dk_at dksX4_findPass_10 0 rfl rfl)
theorem dX4_findPass_231 : decode cX4_findPass 231 = .ok (.if_icmp .ge 49, 3) := dk_162 0 49 (dk_at dksX4_findPass_10 3 rfl rfl)
theorem dX4_findPass_234 : decode cX4_findPass 234 = .ok (.aload_n 0, 1) := dk_42 (dk_at dksX4_findPass_10 6 rfl rfl)
theorem dX4_findPass_235 : decode cX4_findPass 235 = .ok (.iload_n 3, 1) := dk_29 (dk_at dksX4_findPass_10 7 rfl rfl)
theorem dX4_findPass_236 : decode cX4_findPass 236 = .ok (.iload 9, 2) := dk_21 9 (dk_at dksX4_findPass_10 8 rfl rfl)
theorem dX4_findPass_238 : decode cX4_findPass 238 = .ok (.iload 7, 2) := dk_21 7 (dk_at dksX4_findPass_10 10 rfl rfl)
theorem dX4_findPass_240 : decode cX4_findPass 240 = .ok (.iload_n 2, 1) := dk_28 (dk_at dksX4_findPass_10 12 rfl rfl)
theorem dX4_findPass_241 : decode cX4_findPass 241 = .ok (.iload 8, 2) := dk_21 8 (dk_at dksX4_findPass_10 13 rfl rfl)
theorem dX4_findPass_243 : decode cX4_findPass 243 = .ok (.iload 6, 2) := dk_21 6 (dk_at dksX4_findPass_10 15 rfl rfl)
theorem dX4_findPass_245 : decode cX4_findPass 245 = .ok (.invokevirtual 412, 3) := dk_182 1 156 (dk_at dksX4_findPass_10 17 rfl rfl)
theorem dX4_findPass_248 : decode cX4_findPass 248 = .ok (.aload_n 0, 1) := dk_42 (dk_at dksX4_findPass_10 20 rfl rfl)
theorem dX4_findPass_249 : decode cX4_findPass 249 = .ok (.getfield 82, 3) := dk_180 0 82 (dk_at dksX4_findPass_10 21 rfl rfl)
theorem dX4_findPass_252 : decode cX4_findPass 252 = .ok (.iconst 3, 1) := dk_6 (dk_at dksX4_findPass_11 0 rfl rfl)
theorem dX4_findPass_253 : decode cX4_findPass 253 = .ok (.iload 9, 2) := dk_21 9 (dk_at dksX4_findPass_11 1 rfl rfl)
theorem dX4_findPass_255 : decode cX4_findPass 255 = .ok (.imul, 1) := dk_104 (dk_at dksX4_findPass_11 3 rfl rfl)
theorem dX4_findPass_256 : decode cX4_findPass 256 = .ok (.iaload, 1) := dk_46 (dk_at dksX4_findPass_11 4 rfl rfl)
theorem dX4_findPass_257 : decode cX4_findPass 257 = .ok (.iconst 1, 1) := dk_4 (dk_at dksX4_findPass_11 5 rfl rfl)
theorem dX4_findPass_258 : decode cX4_findPass 258 = .ok (.iadd, 1) := dk_96 (dk_at dksX4_findPass_11 6 rfl rfl)
theorem dX4_findPass_259 : decode cX4_findPass 259 = .ok (.istore 8, 2) := dk_54 8 (dk_at dksX4_findPass_11 7 rfl rfl)
theorem dX4_findPass_261 : decode cX4_findPass 261 = .ok (.aload_n 0, 1) := dk_42 (dk_at dksX4_findPass_11 9 rfl rfl)
theorem dX4_findPass_262 : decode cX4_findPass 262 = .ok (.getfield 82, 3) := dk_180 0 82 (dk_at dksX4_findPass_11 10 rfl rfl)
theorem dX4_findPass_265 : decode cX4_findPass 265 = .ok (.iconst 3, 1) := dk_6 (dk_at dksX4_findPass_11 13 rfl rfl)
theorem dX4_findPass_266 : decode cX4_findPass 266 = .ok (.iload 9, 2) := dk_21 9 (dk_at dksX4_findPass_11 14 rfl rfl)
theorem dX4_findPass_268 : decode cX4_findPass 268 = .ok (.imul, 1) := dk_104 (dk_at dksX4_findPass_11 16 rfl rfl)
theorem dX4_findPass_269 : decode cX4_findPass 269 = .ok (.iconst 2, 1) := dk_5 (dk_at dksX4_findPass_11 17 rfl rfl)
theorem dX4_findPass_270 : decode cX4_findPass 270 = .ok (.iadd, 1) := dk_96 (dk_at dksX4_findPass_11 18 rfl rfl)
theorem dX4_findPass_271 : decode cX4_findPass 271 = .ok (.iaload, 1) := dk_46 (dk_at dksX4_findPass_11 19 rfl rfl)
theorem dX4_findPass_272 : decode cX4_findPass 272 = .ok (.istore 7, 2) := dk_54 7 (dk_at dksX4_findPass_11 20 rfl rfl)
theorem dX4_findPass_274 : decode cX4_findPass 274 = .ok (.iinc 9 1, 3) := dk_132 9 1 (dk_at dksX4_findPass_12 0 rfl rfl)
theorem dX4_findPass_277 : decode cX4_findPass 277 = .ok (.goto (-52), 3) := dk_167 255 204 (dk_at dksX4_findPass_12 3 rfl rfl)
theorem dX4_findPass_280 : decode cX4_findPass 280 = .ok (.iconst 1, 1) := dk_4 (dk_at dksX4_findPass_12 6 rfl rfl)
theorem dX4_findPass_281 : decode cX4_findPass 281 = .ok (.ireturn, 1) := dk_172 (dk_at dksX4_findPass_12 7 rfl rfl)
abbrev cX4_hopsOn : ByteArray := prog_26_method_87_code
def yX4_hopsOn : MethodName := ⟨RX4, "hopsOn", "(III)V"⟩
def dkwX4_hopsOn_7 : List UInt8 := [167, 255, 94, 177]
abbrev dktX4_hopsOn_7 : List UInt8 := dkwX4_hopsOn_7 ++ []
def dkwX4_hopsOn_6 : List UInt8 := [21, 5, 79, 132, 9, 1, 167, 255, 182, 132, 7, 1, 167, 255, 149, 132, 5, 1, 167, 255, 125, 132, 4, 1]
abbrev dktX4_hopsOn_6 : List UInt8 := dkwX4_hopsOn_6 ++ dktX4_hopsOn_7
def dkwX4_hopsOn_5 : List UInt8 := [4, 96, 104, 21, 9, 96, 46, 162, 0, 19, 42, 180, 0, 76, 16, 10, 28, 4, 96, 104, 21, 9, 96]
abbrev dktX4_hopsOn_5 : List UInt8 := dkwX4_hopsOn_5 ++ dktX4_hopsOn_6
def dkwX4_hopsOn_4 : List UInt8 := [21, 4, 159, 0, 48, 21, 8, 21, 9, 184, 0, 179, 153, 0, 38, 21, 5, 42, 180, 0, 76, 16, 10, 28]
abbrev dktX4_hopsOn_4 : List UInt8 := dkwX4_hopsOn_4 ++ dktX4_hopsOn_5
def dkwX4_hopsOn_3 : List UInt8 := [54, 9, 21, 9, 42, 180, 0, 24, 163, 0, 71, 21, 8, 21, 4, 184, 0, 179, 153, 0, 61, 21, 9]
abbrev dktX4_hopsOn_3 : List UInt8 := dkwX4_hopsOn_3 ++ dktX4_hopsOn_4
def dkwX4_hopsOn_2 : List UInt8 := [5, 42, 180, 0, 24, 104, 162, 0, 102, 42, 27, 21, 7, 21, 5, 21, 6, 182, 1, 141, 54, 8, 3]
abbrev dktX4_hopsOn_2 : List UInt8 := dkwX4_hopsOn_2 ++ dktX4_hopsOn_3
def dkwX4_hopsOn_1 : List UInt8 := [4, 96, 54, 5, 21, 5, 29, 163, 0, 131, 42, 27, 21, 5, 182, 1, 138, 54, 6, 3, 54, 7, 21, 7]
abbrev dktX4_hopsOn_1 : List UInt8 := dkwX4_hopsOn_1 ++ dktX4_hopsOn_2
def dkwX4_hopsOn_0 : List UInt8 := [3, 54, 4, 21, 4, 42, 180, 0, 24, 163, 0, 159, 42, 180, 0, 76, 16, 10, 28, 104, 21, 4, 96, 46]
abbrev dktX4_hopsOn_0 : List UInt8 := dkwX4_hopsOn_0 ++ dktX4_hopsOn_1
theorem dksX4_hopsOn_0 : cX4_hopsOn.data.toList.drop 0 = dktX4_hopsOn_0 := by decide +kernel
theorem dksX4_hopsOn_1 : cX4_hopsOn.data.toList.drop 24 = dktX4_hopsOn_1 := dk_seg dksX4_hopsOn_0 24 rfl rfl
theorem dksX4_hopsOn_2 : cX4_hopsOn.data.toList.drop 48 = dktX4_hopsOn_2 := dk_seg dksX4_hopsOn_1 24 rfl rfl
theorem dksX4_hopsOn_3 : cX4_hopsOn.data.toList.drop 71 = dktX4_hopsOn_3 := dk_seg dksX4_hopsOn_2 23 rfl rfl
theorem dksX4_hopsOn_4 : cX4_hopsOn.data.toList.drop 94 = dktX4_hopsOn_4 := dk_seg dksX4_hopsOn_3 23 rfl rfl
theorem dksX4_hopsOn_5 : cX4_hopsOn.data.toList.drop 118 = dktX4_hopsOn_5 := dk_seg dksX4_hopsOn_4 24 rfl rfl
theorem dksX4_hopsOn_6 : cX4_hopsOn.data.toList.drop 141 = dktX4_hopsOn_6 := dk_seg dksX4_hopsOn_5 23 rfl rfl
theorem dksX4_hopsOn_7 : cX4_hopsOn.data.toList.drop 165 = dktX4_hopsOn_7 := dk_seg dksX4_hopsOn_6 24 rfl rfl
theorem dX4_hopsOn_0 : decode cX4_hopsOn 0 = .ok (.iconst 0, 1) := dk_3 (dk_at dksX4_hopsOn_0 0 rfl rfl)
theorem dX4_hopsOn_1 : decode cX4_hopsOn 1 = .ok (.istore 4, 2) := dk_54 4 (dk_at dksX4_hopsOn_0 1 rfl rfl)
theorem dX4_hopsOn_3 : decode cX4_hopsOn 3 = .ok (.iload 4, 2) := dk_21 4 (dk_at dksX4_hopsOn_0 3 rfl rfl)
theorem dX4_hopsOn_5 : decode cX4_hopsOn 5 = .ok (.aload_n 0, 1) := dk_42 (dk_at dksX4_hopsOn_0 5 rfl rfl)
theorem dX4_hopsOn_6 : decode cX4_hopsOn 6 = .ok (.getfield 24, 3) := dk_180 0 24 (dk_at dksX4_hopsOn_0 6 rfl rfl)
theorem dX4_hopsOn_9 : decode cX4_hopsOn 9 = .ok (.if_icmp .gt 159, 3) := dk_163 0 159 (dk_at dksX4_hopsOn_0 9 rfl rfl)
theorem dX4_hopsOn_12 : decode cX4_hopsOn 12 = .ok (.aload_n 0, 1) := dk_42 (dk_at dksX4_hopsOn_0 12 rfl rfl)
theorem dX4_hopsOn_13 : decode cX4_hopsOn 13 = .ok (.getfield 76, 3) := dk_180 0 76 (dk_at dksX4_hopsOn_0 13 rfl rfl)
theorem dX4_hopsOn_16 : decode cX4_hopsOn 16 = .ok (.bipush 10, 2) := dk_16 10 (dk_at dksX4_hopsOn_0 16 rfl rfl)
theorem dX4_hopsOn_18 : decode cX4_hopsOn 18 = .ok (.iload_n 2, 1) := dk_28 (dk_at dksX4_hopsOn_0 18 rfl rfl)
theorem dX4_hopsOn_19 : decode cX4_hopsOn 19 = .ok (.imul, 1) := dk_104 (dk_at dksX4_hopsOn_0 19 rfl rfl)
theorem dX4_hopsOn_20 : decode cX4_hopsOn 20 = .ok (.iload 4, 2) := dk_21 4 (dk_at dksX4_hopsOn_0 20 rfl rfl)
theorem dX4_hopsOn_22 : decode cX4_hopsOn 22 = .ok (.iadd, 1) := dk_96 (dk_at dksX4_hopsOn_0 22 rfl rfl)
theorem dX4_hopsOn_23 : decode cX4_hopsOn 23 = .ok (.iaload, 1) := dk_46 (dk_at dksX4_hopsOn_0 23 rfl rfl)
theorem dX4_hopsOn_24 : decode cX4_hopsOn 24 = .ok (.iconst 1, 1) := dk_4 (dk_at dksX4_hopsOn_1 0 rfl rfl)
theorem dX4_hopsOn_25 : decode cX4_hopsOn 25 = .ok (.iadd, 1) := dk_96 (dk_at dksX4_hopsOn_1 1 rfl rfl)
theorem dX4_hopsOn_26 : decode cX4_hopsOn 26 = .ok (.istore 5, 2) := dk_54 5 (dk_at dksX4_hopsOn_1 2 rfl rfl)
theorem dX4_hopsOn_28 : decode cX4_hopsOn 28 = .ok (.iload 5, 2) := dk_21 5 (dk_at dksX4_hopsOn_1 4 rfl rfl)
theorem dX4_hopsOn_30 : decode cX4_hopsOn 30 = .ok (.iload_n 3, 1) := dk_29 (dk_at dksX4_hopsOn_1 6 rfl rfl)
theorem dX4_hopsOn_31 : decode cX4_hopsOn 31 = .ok (.if_icmp .gt 131, 3) := dk_163 0 131 (dk_at dksX4_hopsOn_1 7 rfl rfl)
theorem dX4_hopsOn_34 : decode cX4_hopsOn 34 = .ok (.aload_n 0, 1) := dk_42 (dk_at dksX4_hopsOn_1 10 rfl rfl)
theorem dX4_hopsOn_35 : decode cX4_hopsOn 35 = .ok (.iload_n 1, 1) := dk_27 (dk_at dksX4_hopsOn_1 11 rfl rfl)
theorem dX4_hopsOn_36 : decode cX4_hopsOn 36 = .ok (.iload 5, 2) := dk_21 5 (dk_at dksX4_hopsOn_1 12 rfl rfl)
theorem dX4_hopsOn_38 : decode cX4_hopsOn 38 = .ok (.invokevirtual 394, 3) := dk_182 1 138 (dk_at dksX4_hopsOn_1 14 rfl rfl)
theorem dX4_hopsOn_41 : decode cX4_hopsOn 41 = .ok (.istore 6, 2) := dk_54 6 (dk_at dksX4_hopsOn_1 17 rfl rfl)
theorem dX4_hopsOn_43 : decode cX4_hopsOn 43 = .ok (.iconst 0, 1) := dk_3 (dk_at dksX4_hopsOn_1 19 rfl rfl)
theorem dX4_hopsOn_44 : decode cX4_hopsOn 44 = .ok (.istore 7, 2) := dk_54 7 (dk_at dksX4_hopsOn_1 20 rfl rfl)
theorem dX4_hopsOn_46 : decode cX4_hopsOn 46 = .ok (.iload 7, 2) := dk_21 7 (dk_at dksX4_hopsOn_1 22 rfl rfl)
theorem dX4_hopsOn_48 : decode cX4_hopsOn 48 = .ok (.iconst 2, 1) := dk_5 (dk_at dksX4_hopsOn_2 0 rfl rfl)
theorem dX4_hopsOn_49 : decode cX4_hopsOn 49 = .ok (.aload_n 0, 1) := dk_42 (dk_at dksX4_hopsOn_2 1 rfl rfl)
theorem dX4_hopsOn_50 : decode cX4_hopsOn 50 = .ok (.getfield 24, 3) := dk_180 0 24 (dk_at dksX4_hopsOn_2 2 rfl rfl)
theorem dX4_hopsOn_53 : decode cX4_hopsOn 53 = .ok (.imul, 1) := dk_104 (dk_at dksX4_hopsOn_2 5 rfl rfl)
theorem dX4_hopsOn_54 : decode cX4_hopsOn 54 = .ok (.if_icmp .ge 102, 3) := dk_162 0 102 (dk_at dksX4_hopsOn_2 6 rfl rfl)
theorem dX4_hopsOn_57 : decode cX4_hopsOn 57 = .ok (.aload_n 0, 1) := dk_42 (dk_at dksX4_hopsOn_2 9 rfl rfl)
theorem dX4_hopsOn_58 : decode cX4_hopsOn 58 = .ok (.iload_n 1, 1) := dk_27 (dk_at dksX4_hopsOn_2 10 rfl rfl)
theorem dX4_hopsOn_59 : decode cX4_hopsOn 59 = .ok (.iload 7, 2) := dk_21 7 (dk_at dksX4_hopsOn_2 11 rfl rfl)
theorem dX4_hopsOn_61 : decode cX4_hopsOn 61 = .ok (.iload 5, 2) := dk_21 5 (dk_at dksX4_hopsOn_2 13 rfl rfl)
theorem dX4_hopsOn_63 : decode cX4_hopsOn 63 = .ok (.iload 6, 2) := dk_21 6 (dk_at dksX4_hopsOn_2 15 rfl rfl)
theorem dX4_hopsOn_65 : decode cX4_hopsOn 65 = .ok (.invokevirtual 397, 3) := dk_182 1 141 (dk_at dksX4_hopsOn_2 17 rfl rfl)
theorem dX4_hopsOn_68 : decode cX4_hopsOn 68 = .ok (.istore 8, 2) := dk_54 8 (dk_at dksX4_hopsOn_2 20 rfl rfl)
theorem dX4_hopsOn_70 : decode cX4_hopsOn 70 = .ok (.iconst 0, 1) := dk_3 (dk_at dksX4_hopsOn_2 22 rfl rfl)
theorem dX4_hopsOn_71 : decode cX4_hopsOn 71 = .ok (.istore 9, 2) := dk_54 9 (dk_at dksX4_hopsOn_3 0 rfl rfl)
theorem dX4_hopsOn_73 : decode cX4_hopsOn 73 = .ok (.iload 9, 2) := dk_21 9 (dk_at dksX4_hopsOn_3 2 rfl rfl)
theorem dX4_hopsOn_75 : decode cX4_hopsOn 75 = .ok (.aload_n 0, 1) := dk_42 (dk_at dksX4_hopsOn_3 4 rfl rfl)
theorem dX4_hopsOn_76 : decode cX4_hopsOn 76 = .ok (.getfield 24, 3) := dk_180 0 24 (dk_at dksX4_hopsOn_3 5 rfl rfl)
theorem dX4_hopsOn_79 : decode cX4_hopsOn 79 = .ok (.if_icmp .gt 71, 3) := dk_163 0 71 (dk_at dksX4_hopsOn_3 8 rfl rfl)
theorem dX4_hopsOn_82 : decode cX4_hopsOn 82 = .ok (.iload 8, 2) := dk_21 8 (dk_at dksX4_hopsOn_3 11 rfl rfl)
theorem dX4_hopsOn_84 : decode cX4_hopsOn 84 = .ok (.iload 4, 2) := dk_21 4 (dk_at dksX4_hopsOn_3 13 rfl rfl)
theorem dX4_hopsOn_86 : decode cX4_hopsOn 86 = .ok (.invokestatic 179, 3) := dk_184 0 179 (dk_at dksX4_hopsOn_3 15 rfl rfl)
theorem dX4_hopsOn_89 : decode cX4_hopsOn 89 = .ok (.ifCond .eq 61, 3) := dk_153 0 61 (dk_at dksX4_hopsOn_3 18 rfl rfl)
theorem dX4_hopsOn_92 : decode cX4_hopsOn 92 = .ok (.iload 9, 2) := dk_21 9 (dk_at dksX4_hopsOn_3 21 rfl rfl)
theorem dX4_hopsOn_94 : decode cX4_hopsOn 94 = .ok (.iload 4, 2) := dk_21 4 (dk_at dksX4_hopsOn_4 0 rfl rfl)
theorem dX4_hopsOn_96 : decode cX4_hopsOn 96 = .ok (.if_icmp .eq 48, 3) := dk_159 0 48 (dk_at dksX4_hopsOn_4 2 rfl rfl)
theorem dX4_hopsOn_99 : decode cX4_hopsOn 99 = .ok (.iload 8, 2) := dk_21 8 (dk_at dksX4_hopsOn_4 5 rfl rfl)
theorem dX4_hopsOn_101 : decode cX4_hopsOn 101 = .ok (.iload 9, 2) := dk_21 9 (dk_at dksX4_hopsOn_4 7 rfl rfl)
theorem dX4_hopsOn_103 : decode cX4_hopsOn 103 = .ok (.invokestatic 179, 3) := dk_184 0 179 (dk_at dksX4_hopsOn_4 9 rfl rfl)
theorem dX4_hopsOn_106 : decode cX4_hopsOn 106 = .ok (.ifCond .eq 38, 3) := dk_153 0 38 (dk_at dksX4_hopsOn_4 12 rfl rfl)
theorem dX4_hopsOn_109 : decode cX4_hopsOn 109 = .ok (.iload 5, 2) := dk_21 5 (dk_at dksX4_hopsOn_4 15 rfl rfl)
theorem dX4_hopsOn_111 : decode cX4_hopsOn 111 = .ok (.aload_n 0, 1) := dk_42 (dk_at dksX4_hopsOn_4 17 rfl rfl)
theorem dX4_hopsOn_112 : decode cX4_hopsOn 112 = .ok (.getfield 76, 3) := dk_180 0 76 (dk_at dksX4_hopsOn_4 18 rfl rfl)
theorem dX4_hopsOn_115 : decode cX4_hopsOn 115 = .ok (.bipush 10, 2) := dk_16 10 (dk_at dksX4_hopsOn_4 21 rfl rfl)
theorem dX4_hopsOn_117 : decode cX4_hopsOn 117 = .ok (.iload_n 2, 1) := dk_28 (dk_at dksX4_hopsOn_4 23 rfl rfl)
theorem dX4_hopsOn_118 : decode cX4_hopsOn 118 = .ok (.iconst 1, 1) := dk_4 (dk_at dksX4_hopsOn_5 0 rfl rfl)
theorem dX4_hopsOn_119 : decode cX4_hopsOn 119 = .ok (.iadd, 1) := dk_96 (dk_at dksX4_hopsOn_5 1 rfl rfl)
theorem dX4_hopsOn_120 : decode cX4_hopsOn 120 = .ok (.imul, 1) := dk_104 (dk_at dksX4_hopsOn_5 2 rfl rfl)
theorem dX4_hopsOn_121 : decode cX4_hopsOn 121 = .ok (.iload 9, 2) := dk_21 9 (dk_at dksX4_hopsOn_5 3 rfl rfl)
theorem dX4_hopsOn_123 : decode cX4_hopsOn 123 = .ok (.iadd, 1) := dk_96 (dk_at dksX4_hopsOn_5 5 rfl rfl)
theorem dX4_hopsOn_124 : decode cX4_hopsOn 124 = .ok (.iaload, 1) := dk_46 (dk_at dksX4_hopsOn_5 6 rfl rfl)
theorem dX4_hopsOn_125 : decode cX4_hopsOn 125 = .ok (.if_icmp .ge 19, 3) := dk_162 0 19 (dk_at dksX4_hopsOn_5 7 rfl rfl)
theorem dX4_hopsOn_128 : decode cX4_hopsOn 128 = .ok (.aload_n 0, 1) := dk_42 (dk_at dksX4_hopsOn_5 10 rfl rfl)
theorem dX4_hopsOn_129 : decode cX4_hopsOn 129 = .ok (.getfield 76, 3) := dk_180 0 76 (dk_at dksX4_hopsOn_5 11 rfl rfl)
theorem dX4_hopsOn_132 : decode cX4_hopsOn 132 = .ok (.bipush 10, 2) := dk_16 10 (dk_at dksX4_hopsOn_5 14 rfl rfl)
theorem dX4_hopsOn_134 : decode cX4_hopsOn 134 = .ok (.iload_n 2, 1) := dk_28 (dk_at dksX4_hopsOn_5 16 rfl rfl)
theorem dX4_hopsOn_135 : decode cX4_hopsOn 135 = .ok (.iconst 1, 1) := dk_4 (dk_at dksX4_hopsOn_5 17 rfl rfl)
theorem dX4_hopsOn_136 : decode cX4_hopsOn 136 = .ok (.iadd, 1) := dk_96 (dk_at dksX4_hopsOn_5 18 rfl rfl)
theorem dX4_hopsOn_137 : decode cX4_hopsOn 137 = .ok (.imul, 1) := dk_104 (dk_at dksX4_hopsOn_5 19 rfl rfl)
theorem dX4_hopsOn_138 : decode cX4_hopsOn 138 = .ok (.iload 9, 2) := dk_21 9 (dk_at dksX4_hopsOn_5 20 rfl rfl)
theorem dX4_hopsOn_140 : decode cX4_hopsOn 140 = .ok (.iadd, 1) := dk_96 (dk_at dksX4_hopsOn_5 22 rfl rfl)
theorem dX4_hopsOn_141 : decode cX4_hopsOn 141 = .ok (.iload 5, 2) := dk_21 5 (dk_at dksX4_hopsOn_6 0 rfl rfl)
theorem dX4_hopsOn_143 : decode cX4_hopsOn 143 = .ok (.iastore, 1) := dk_79 (dk_at dksX4_hopsOn_6 2 rfl rfl)
theorem dX4_hopsOn_144 : decode cX4_hopsOn 144 = .ok (.iinc 9 1, 3) := dk_132 9 1 (dk_at dksX4_hopsOn_6 3 rfl rfl)
theorem dX4_hopsOn_147 : decode cX4_hopsOn 147 = .ok (.goto (-74), 3) := dk_167 255 182 (dk_at dksX4_hopsOn_6 6 rfl rfl)
theorem dX4_hopsOn_150 : decode cX4_hopsOn 150 = .ok (.iinc 7 1, 3) := dk_132 7 1 (dk_at dksX4_hopsOn_6 9 rfl rfl)
theorem dX4_hopsOn_153 : decode cX4_hopsOn 153 = .ok (.goto (-107), 3) := dk_167 255 149 (dk_at dksX4_hopsOn_6 12 rfl rfl)
theorem dX4_hopsOn_156 : decode cX4_hopsOn 156 = .ok (.iinc 5 1, 3) := dk_132 5 1 (dk_at dksX4_hopsOn_6 15 rfl rfl)
theorem dX4_hopsOn_159 : decode cX4_hopsOn 159 = .ok (.goto (-131), 3) := dk_167 255 125 (dk_at dksX4_hopsOn_6 18 rfl rfl)
theorem dX4_hopsOn_162 : decode cX4_hopsOn 162 = .ok (.iinc 4 1, 3) := dk_132 4 1 (dk_at dksX4_hopsOn_6 21 rfl rfl)
theorem dX4_hopsOn_165 : decode cX4_hopsOn 165 = .ok (.goto (-162), 3) := dk_167 255 94 (dk_at dksX4_hopsOn_7 0 rfl rfl)
theorem dX4_hopsOn_168 : decode cX4_hopsOn 168 = .ok (.return_, 1) := dk_177 (dk_at dksX4_hopsOn_7 3 rfl rfl)
abbrev cX4_unseen : ByteArray := prog_26_method_82_code
def yX4_unseen : MethodName := ⟨RX4, "unseen", "(II)I"⟩
def dkwX4_unseen_1 : List UInt8 := [96, 46, 27, 2, 130, 126, 154, 0, 10, 29, 4, 21, 4, 120, 128, 62, 132, 4, 1, 167, 255, 218, 29, 172]
abbrev dktX4_unseen_1 : List UInt8 := dkwX4_unseen_1 ++ []
def dkwX4_unseen_0 : List UInt8 := [3, 62, 3, 54, 4, 21, 4, 42, 180, 0, 24, 163, 0, 35, 42, 180, 0, 33, 16, 100, 21, 4, 104, 28]
abbrev dktX4_unseen_0 : List UInt8 := dkwX4_unseen_0 ++ dktX4_unseen_1
theorem dksX4_unseen_0 : cX4_unseen.data.toList.drop 0 = dktX4_unseen_0 := by decide +kernel
theorem dksX4_unseen_1 : cX4_unseen.data.toList.drop 24 = dktX4_unseen_1 := dk_seg dksX4_unseen_0 24 rfl rfl
theorem dX4_unseen_0 : decode cX4_unseen 0 = .ok (.iconst 0, 1) := dk_3 (dk_at dksX4_unseen_0 0 rfl rfl)
theorem dX4_unseen_1 : decode cX4_unseen 1 = .ok (.istore_n 3, 1) := dk_62 (dk_at dksX4_unseen_0 1 rfl rfl)
theorem dX4_unseen_2 : decode cX4_unseen 2 = .ok (.iconst 0, 1) := dk_3 (dk_at dksX4_unseen_0 2 rfl rfl)
theorem dX4_unseen_3 : decode cX4_unseen 3 = .ok (.istore 4, 2) := dk_54 4 (dk_at dksX4_unseen_0 3 rfl rfl)
theorem dX4_unseen_5 : decode cX4_unseen 5 = .ok (.iload 4, 2) := dk_21 4 (dk_at dksX4_unseen_0 5 rfl rfl)
theorem dX4_unseen_7 : decode cX4_unseen 7 = .ok (.aload_n 0, 1) := dk_42 (dk_at dksX4_unseen_0 7 rfl rfl)
theorem dX4_unseen_8 : decode cX4_unseen 8 = .ok (.getfield 24, 3) := dk_180 0 24 (dk_at dksX4_unseen_0 8 rfl rfl)
theorem dX4_unseen_11 : decode cX4_unseen 11 = .ok (.if_icmp .gt 35, 3) := dk_163 0 35 (dk_at dksX4_unseen_0 11 rfl rfl)
theorem dX4_unseen_14 : decode cX4_unseen 14 = .ok (.aload_n 0, 1) := dk_42 (dk_at dksX4_unseen_0 14 rfl rfl)
theorem dX4_unseen_15 : decode cX4_unseen 15 = .ok (.getfield 33, 3) := dk_180 0 33 (dk_at dksX4_unseen_0 15 rfl rfl)
theorem dX4_unseen_18 : decode cX4_unseen 18 = .ok (.bipush 100, 2) := dk_16 100 (dk_at dksX4_unseen_0 18 rfl rfl)
theorem dX4_unseen_20 : decode cX4_unseen 20 = .ok (.iload 4, 2) := dk_21 4 (dk_at dksX4_unseen_0 20 rfl rfl)
theorem dX4_unseen_22 : decode cX4_unseen 22 = .ok (.imul, 1) := dk_104 (dk_at dksX4_unseen_0 22 rfl rfl)
theorem dX4_unseen_23 : decode cX4_unseen 23 = .ok (.iload_n 2, 1) := dk_28 (dk_at dksX4_unseen_0 23 rfl rfl)
theorem dX4_unseen_24 : decode cX4_unseen 24 = .ok (.iadd, 1) := dk_96 (dk_at dksX4_unseen_1 0 rfl rfl)
theorem dX4_unseen_25 : decode cX4_unseen 25 = .ok (.iaload, 1) := dk_46 (dk_at dksX4_unseen_1 1 rfl rfl)
theorem dX4_unseen_26 : decode cX4_unseen 26 = .ok (.iload_n 1, 1) := dk_27 (dk_at dksX4_unseen_1 2 rfl rfl)
theorem dX4_unseen_27 : decode cX4_unseen 27 = .ok (.iconst (-1), 1) := dk_2 (dk_at dksX4_unseen_1 3 rfl rfl)
theorem dX4_unseen_28 : decode cX4_unseen 28 = .ok (.ixor, 1) := dk_130 (dk_at dksX4_unseen_1 4 rfl rfl)
theorem dX4_unseen_29 : decode cX4_unseen 29 = .ok (.iand, 1) := dk_126 (dk_at dksX4_unseen_1 5 rfl rfl)
theorem dX4_unseen_30 : decode cX4_unseen 30 = .ok (.ifCond .ne 10, 3) := dk_154 0 10 (dk_at dksX4_unseen_1 6 rfl rfl)
theorem dX4_unseen_33 : decode cX4_unseen 33 = .ok (.iload_n 3, 1) := dk_29 (dk_at dksX4_unseen_1 9 rfl rfl)
theorem dX4_unseen_34 : decode cX4_unseen 34 = .ok (.iconst 1, 1) := dk_4 (dk_at dksX4_unseen_1 10 rfl rfl)
theorem dX4_unseen_35 : decode cX4_unseen 35 = .ok (.iload 4, 2) := dk_21 4 (dk_at dksX4_unseen_1 11 rfl rfl)
theorem dX4_unseen_37 : decode cX4_unseen 37 = .ok (.ishl, 1) := dk_120 (dk_at dksX4_unseen_1 13 rfl rfl)
theorem dX4_unseen_38 : decode cX4_unseen 38 = .ok (.ior, 1) := dk_128 (dk_at dksX4_unseen_1 14 rfl rfl)
theorem dX4_unseen_39 : decode cX4_unseen 39 = .ok (.istore_n 3, 1) := dk_62 (dk_at dksX4_unseen_1 15 rfl rfl)
theorem dX4_unseen_40 : decode cX4_unseen 40 = .ok (.iinc 4 1, 3) := dk_132 4 1 (dk_at dksX4_unseen_1 16 rfl rfl)
theorem dX4_unseen_43 : decode cX4_unseen 43 = .ok (.goto (-38), 3) := dk_167 255 218 (dk_at dksX4_unseen_1 19 rfl rfl)
theorem dX4_unseen_46 : decode cX4_unseen 46 = .ok (.iload_n 3, 1) := dk_29 (dk_at dksX4_unseen_1 22 rfl rfl)
theorem dX4_unseen_47 : decode cX4_unseen 47 = .ok (.ireturn, 1) := dk_172 (dk_at dksX4_unseen_1 23 rfl rfl)
abbrev cX4_bridge : ByteArray := prog_26_method_84_code
def yX4_bridge : MethodName := ⟨RX4, "bridge", "(IIII)I"⟩
def dkwX4_bridge_2 : List UInt8 := [5, 108, 182, 1, 135, 126, 172]
abbrev dktX4_bridge_2 : List UInt8 := dkwX4_bridge_2 ++ []
def dkwX4_bridge_1 : List UInt8 := [42, 180, 0, 36, 16, 100, 28, 104, 29, 96, 46, 27, 2, 130, 126, 153, 0, 5, 3, 172, 21, 4, 42, 28]
abbrev dktX4_bridge_1 : List UInt8 := dkwX4_bridge_1 ++ dktX4_bridge_2
def dkwX4_bridge_0 : List UInt8 := [27, 28, 5, 108, 184, 0, 179, 153, 0, 35, 42, 180, 0, 45, 16, 100, 28, 104, 29, 96, 51, 153, 0, 21]
abbrev dktX4_bridge_0 : List UInt8 := dkwX4_bridge_0 ++ dktX4_bridge_1
theorem dksX4_bridge_0 : cX4_bridge.data.toList.drop 0 = dktX4_bridge_0 := by decide +kernel
theorem dksX4_bridge_1 : cX4_bridge.data.toList.drop 24 = dktX4_bridge_1 := dk_seg dksX4_bridge_0 24 rfl rfl
theorem dksX4_bridge_2 : cX4_bridge.data.toList.drop 48 = dktX4_bridge_2 := dk_seg dksX4_bridge_1 24 rfl rfl
theorem dX4_bridge_0 : decode cX4_bridge 0 = .ok (.iload_n 1, 1) := dk_27 (dk_at dksX4_bridge_0 0 rfl rfl)
theorem dX4_bridge_1 : decode cX4_bridge 1 = .ok (.iload_n 2, 1) := dk_28 (dk_at dksX4_bridge_0 1 rfl rfl)
theorem dX4_bridge_2 : decode cX4_bridge 2 = .ok (.iconst 2, 1) := dk_5 (dk_at dksX4_bridge_0 2 rfl rfl)
theorem dX4_bridge_3 : decode cX4_bridge 3 = .ok (.idiv, 1) := dk_108 (dk_at dksX4_bridge_0 3 rfl rfl)
theorem dX4_bridge_4 : decode cX4_bridge 4 = .ok (.invokestatic 179, 3) := dk_184 0 179 (dk_at dksX4_bridge_0 4 rfl rfl)
theorem dX4_bridge_7 : decode cX4_bridge 7 = .ok (.ifCond .eq 35, 3) := dk_153 0 35 (dk_at dksX4_bridge_0 7 rfl rfl)
theorem dX4_bridge_10 : decode cX4_bridge 10 = .ok (.aload_n 0, 1) := dk_42 (dk_at dksX4_bridge_0 10 rfl rfl)
theorem dX4_bridge_11 : decode cX4_bridge 11 = .ok (.getfield 45, 3) := dk_180 0 45 (dk_at dksX4_bridge_0 11 rfl rfl)
theorem dX4_bridge_14 : decode cX4_bridge 14 = .ok (.bipush 100, 2) := dk_16 100 (dk_at dksX4_bridge_0 14 rfl rfl)
theorem dX4_bridge_16 : decode cX4_bridge 16 = .ok (.iload_n 2, 1) := dk_28 (dk_at dksX4_bridge_0 16 rfl rfl)
theorem dX4_bridge_17 : decode cX4_bridge 17 = .ok (.imul, 1) := dk_104 (dk_at dksX4_bridge_0 17 rfl rfl)
theorem dX4_bridge_18 : decode cX4_bridge 18 = .ok (.iload_n 3, 1) := dk_29 (dk_at dksX4_bridge_0 18 rfl rfl)
theorem dX4_bridge_19 : decode cX4_bridge 19 = .ok (.iadd, 1) := dk_96 (dk_at dksX4_bridge_0 19 rfl rfl)
theorem dX4_bridge_20 : decode cX4_bridge 20 = .ok (.baload, 1) := dk_51 (dk_at dksX4_bridge_0 20 rfl rfl)
theorem dX4_bridge_21 : decode cX4_bridge 21 = .ok (.ifCond .eq 21, 3) := dk_153 0 21 (dk_at dksX4_bridge_0 21 rfl rfl)
theorem dX4_bridge_24 : decode cX4_bridge 24 = .ok (.aload_n 0, 1) := dk_42 (dk_at dksX4_bridge_1 0 rfl rfl)
theorem dX4_bridge_25 : decode cX4_bridge 25 = .ok (.getfield 36, 3) := dk_180 0 36 (dk_at dksX4_bridge_1 1 rfl rfl)
theorem dX4_bridge_28 : decode cX4_bridge 28 = .ok (.bipush 100, 2) := dk_16 100 (dk_at dksX4_bridge_1 4 rfl rfl)
theorem dX4_bridge_30 : decode cX4_bridge 30 = .ok (.iload_n 2, 1) := dk_28 (dk_at dksX4_bridge_1 6 rfl rfl)
theorem dX4_bridge_31 : decode cX4_bridge 31 = .ok (.imul, 1) := dk_104 (dk_at dksX4_bridge_1 7 rfl rfl)
theorem dX4_bridge_32 : decode cX4_bridge 32 = .ok (.iload_n 3, 1) := dk_29 (dk_at dksX4_bridge_1 8 rfl rfl)
theorem dX4_bridge_33 : decode cX4_bridge 33 = .ok (.iadd, 1) := dk_96 (dk_at dksX4_bridge_1 9 rfl rfl)
theorem dX4_bridge_34 : decode cX4_bridge 34 = .ok (.iaload, 1) := dk_46 (dk_at dksX4_bridge_1 10 rfl rfl)
theorem dX4_bridge_35 : decode cX4_bridge 35 = .ok (.iload_n 1, 1) := dk_27 (dk_at dksX4_bridge_1 11 rfl rfl)
theorem dX4_bridge_36 : decode cX4_bridge 36 = .ok (.iconst (-1), 1) := dk_2 (dk_at dksX4_bridge_1 12 rfl rfl)
theorem dX4_bridge_37 : decode cX4_bridge 37 = .ok (.ixor, 1) := dk_130 (dk_at dksX4_bridge_1 13 rfl rfl)
theorem dX4_bridge_38 : decode cX4_bridge 38 = .ok (.iand, 1) := dk_126 (dk_at dksX4_bridge_1 14 rfl rfl)
theorem dX4_bridge_39 : decode cX4_bridge 39 = .ok (.ifCond .eq 5, 3) := dk_153 0 5 (dk_at dksX4_bridge_1 15 rfl rfl)
theorem dX4_bridge_42 : decode cX4_bridge 42 = .ok (.iconst 0, 1) := dk_3 (dk_at dksX4_bridge_1 18 rfl rfl)
theorem dX4_bridge_43 : decode cX4_bridge 43 = .ok (.ireturn, 1) := dk_172 (dk_at dksX4_bridge_1 19 rfl rfl)
theorem dX4_bridge_44 : decode cX4_bridge 44 = .ok (.iload 4, 2) := dk_21 4 (dk_at dksX4_bridge_1 20 rfl rfl)
theorem dX4_bridge_46 : decode cX4_bridge 46 = .ok (.aload_n 0, 1) := dk_42 (dk_at dksX4_bridge_1 22 rfl rfl)
theorem dX4_bridge_47 : decode cX4_bridge 47 = .ok (.iload_n 2, 1) := dk_28 (dk_at dksX4_bridge_1 23 rfl rfl)
theorem dX4_bridge_48 : decode cX4_bridge 48 = .ok (.iconst 2, 1) := dk_5 (dk_at dksX4_bridge_2 0 rfl rfl)
theorem dX4_bridge_49 : decode cX4_bridge 49 = .ok (.idiv, 1) := dk_108 (dk_at dksX4_bridge_2 1 rfl rfl)
theorem dX4_bridge_50 : decode cX4_bridge 50 = .ok (.invokevirtual 391, 3) := dk_182 1 135 (dk_at dksX4_bridge_2 2 rfl rfl)
theorem dX4_bridge_53 : decode cX4_bridge 53 = .ok (.iand, 1) := dk_126 (dk_at dksX4_bridge_2 5 rfl rfl)
theorem dX4_bridge_54 : decode cX4_bridge 54 = .ok (.ireturn, 1) := dk_172 (dk_at dksX4_bridge_2 6 rfl rfl)
abbrev cX4_reached : ByteArray := prog_26_method_83_code
def yX4_reached : MethodName := ⟨RX4, "reached", "(I)I"⟩
def dkwX4_reached_1 : List UInt8 := [120, 128, 61, 132, 3, 1, 167, 255, 230, 28, 172]
abbrev dktX4_reached_1 : List UInt8 := dkwX4_reached_1 ++ []
def dkwX4_reached_0 : List UInt8 := [3, 61, 3, 62, 29, 42, 180, 0, 24, 163, 0, 24, 42, 27, 29, 182, 0, 176, 153, 0, 9, 28, 4, 29]
abbrev dktX4_reached_0 : List UInt8 := dkwX4_reached_0 ++ dktX4_reached_1
theorem dksX4_reached_0 : cX4_reached.data.toList.drop 0 = dktX4_reached_0 := by decide +kernel
theorem dksX4_reached_1 : cX4_reached.data.toList.drop 24 = dktX4_reached_1 := dk_seg dksX4_reached_0 24 rfl rfl
theorem dX4_reached_0 : decode cX4_reached 0 = .ok (.iconst 0, 1) := dk_3 (dk_at dksX4_reached_0 0 rfl rfl)
theorem dX4_reached_1 : decode cX4_reached 1 = .ok (.istore_n 2, 1) := dk_61 (dk_at dksX4_reached_0 1 rfl rfl)
theorem dX4_reached_2 : decode cX4_reached 2 = .ok (.iconst 0, 1) := dk_3 (dk_at dksX4_reached_0 2 rfl rfl)
theorem dX4_reached_3 : decode cX4_reached 3 = .ok (.istore_n 3, 1) := dk_62 (dk_at dksX4_reached_0 3 rfl rfl)
theorem dX4_reached_4 : decode cX4_reached 4 = .ok (.iload_n 3, 1) := dk_29 (dk_at dksX4_reached_0 4 rfl rfl)
theorem dX4_reached_5 : decode cX4_reached 5 = .ok (.aload_n 0, 1) := dk_42 (dk_at dksX4_reached_0 5 rfl rfl)
theorem dX4_reached_6 : decode cX4_reached 6 = .ok (.getfield 24, 3) := dk_180 0 24 (dk_at dksX4_reached_0 6 rfl rfl)
theorem dX4_reached_9 : decode cX4_reached 9 = .ok (.if_icmp .gt 24, 3) := dk_163 0 24 (dk_at dksX4_reached_0 9 rfl rfl)
theorem dX4_reached_12 : decode cX4_reached 12 = .ok (.aload_n 0, 1) := dk_42 (dk_at dksX4_reached_0 12 rfl rfl)
theorem dX4_reached_13 : decode cX4_reached 13 = .ok (.iload_n 1, 1) := dk_27 (dk_at dksX4_reached_0 13 rfl rfl)
theorem dX4_reached_14 : decode cX4_reached 14 = .ok (.iload_n 3, 1) := dk_29 (dk_at dksX4_reached_0 14 rfl rfl)
theorem dX4_reached_15 : decode cX4_reached 15 = .ok (.invokevirtual 176, 3) := dk_182 0 176 (dk_at dksX4_reached_0 15 rfl rfl)
theorem dX4_reached_18 : decode cX4_reached 18 = .ok (.ifCond .eq 9, 3) := dk_153 0 9 (dk_at dksX4_reached_0 18 rfl rfl)
theorem dX4_reached_21 : decode cX4_reached 21 = .ok (.iload_n 2, 1) := dk_28 (dk_at dksX4_reached_0 21 rfl rfl)
theorem dX4_reached_22 : decode cX4_reached 22 = .ok (.iconst 1, 1) := dk_4 (dk_at dksX4_reached_0 22 rfl rfl)
theorem dX4_reached_23 : decode cX4_reached 23 = .ok (.iload_n 3, 1) := dk_29 (dk_at dksX4_reached_0 23 rfl rfl)
theorem dX4_reached_24 : decode cX4_reached 24 = .ok (.ishl, 1) := dk_120 (dk_at dksX4_reached_1 0 rfl rfl)
theorem dX4_reached_25 : decode cX4_reached 25 = .ok (.ior, 1) := dk_128 (dk_at dksX4_reached_1 1 rfl rfl)
theorem dX4_reached_26 : decode cX4_reached 26 = .ok (.istore_n 2, 1) := dk_61 (dk_at dksX4_reached_1 2 rfl rfl)
theorem dX4_reached_27 : decode cX4_reached 27 = .ok (.iinc 3 1, 3) := dk_132 3 1 (dk_at dksX4_reached_1 3 rfl rfl)
theorem dX4_reached_30 : decode cX4_reached 30 = .ok (.goto (-26), 3) := dk_167 255 230 (dk_at dksX4_reached_1 6 rfl rfl)
theorem dX4_reached_33 : decode cX4_reached 33 = .ok (.iload_n 2, 1) := dk_28 (dk_at dksX4_reached_1 9 rfl rfl)
theorem dX4_reached_34 : decode cX4_reached 34 = .ok (.ireturn, 1) := dk_172 (dk_at dksX4_reached_1 10 rfl rfl)
abbrev cX4_latestFrom : ByteArray := prog_26_method_89_code
def yX4_latestFrom : MethodName := ⟨RX4, "latestFrom", "(IIIIII)I"⟩
def dkwX4_latestFrom_5 : List UInt8 := [167, 255, 142, 2, 172]
abbrev dktX4_latestFrom_5 : List UInt8 := dkwX4_latestFrom_5 ++ []
def dkwX4_latestFrom_4 : List UInt8 := [182, 1, 160, 153, 0, 6, 21, 7, 172, 132, 11, 1, 167, 255, 200, 132, 9, 1, 167, 255, 167, 132, 7, 255]
abbrev dktX4_latestFrom_4 : List UInt8 := dkwX4_latestFrom_4 ++ dktX4_latestFrom_5
def dkwX4_latestFrom_3 : List UInt8 := [159, 0, 32, 21, 10, 21, 11, 184, 0, 179, 153, 0, 22, 42, 21, 11, 28, 4, 100, 21, 4, 21, 7]
abbrev dktX4_latestFrom_3 : List UInt8 := dkwX4_latestFrom_3 ++ dktX4_latestFrom_4
def dkwX4_latestFrom_2 : List UInt8 := [3, 54, 11, 21, 11, 42, 180, 0, 24, 163, 0, 53, 21, 10, 29, 184, 0, 179, 153, 0, 44, 21, 11, 29]
abbrev dktX4_latestFrom_2 : List UInt8 := dkwX4_latestFrom_2 ++ dktX4_latestFrom_3
def dkwX4_latestFrom_1 : List UInt8 := [21, 9, 5, 42, 180, 0, 24, 104, 162, 0, 84, 42, 27, 21, 9, 21, 7, 21, 8, 182, 1, 141, 54, 10]
abbrev dktX4_latestFrom_1 : List UInt8 := dkwX4_latestFrom_1 ++ dktX4_latestFrom_2
def dkwX4_latestFrom_0 : List UInt8 := [21, 6, 54, 7, 21, 7, 21, 5, 161, 0, 113, 42, 27, 21, 7, 182, 1, 138, 54, 8, 3, 54, 9]
abbrev dktX4_latestFrom_0 : List UInt8 := dkwX4_latestFrom_0 ++ dktX4_latestFrom_1
theorem dksX4_latestFrom_0 : cX4_latestFrom.data.toList.drop 0 = dktX4_latestFrom_0 := by decide +kernel
theorem dksX4_latestFrom_1 : cX4_latestFrom.data.toList.drop 23 = dktX4_latestFrom_1 := dk_seg dksX4_latestFrom_0 23 rfl rfl
theorem dksX4_latestFrom_2 : cX4_latestFrom.data.toList.drop 47 = dktX4_latestFrom_2 := dk_seg dksX4_latestFrom_1 24 rfl rfl
theorem dksX4_latestFrom_3 : cX4_latestFrom.data.toList.drop 71 = dktX4_latestFrom_3 := dk_seg dksX4_latestFrom_2 24 rfl rfl
theorem dksX4_latestFrom_4 : cX4_latestFrom.data.toList.drop 94 = dktX4_latestFrom_4 := dk_seg dksX4_latestFrom_3 23 rfl rfl
theorem dksX4_latestFrom_5 : cX4_latestFrom.data.toList.drop 118 = dktX4_latestFrom_5 := dk_seg dksX4_latestFrom_4 24 rfl rfl
theorem dX4_latestFrom_0 : decode cX4_latestFrom 0 = .ok (.iload 6, 2) := dk_21 6 (dk_at dksX4_latestFrom_0 0 rfl rfl)
theorem dX4_latestFrom_2 : decode cX4_latestFrom 2 = .ok (.istore 7, 2) := dk_54 7 (dk_at dksX4_latestFrom_0 2 rfl rfl)
theorem dX4_latestFrom_4 : decode cX4_latestFrom 4 = .ok (.iload 7, 2) := dk_21 7 (dk_at dksX4_latestFrom_0 4 rfl rfl)
theorem dX4_latestFrom_6 : decode cX4_latestFrom 6 = .ok (.iload 5, 2) := dk_21 5 (dk_at dksX4_latestFrom_0 6 rfl rfl)
theorem dX4_latestFrom_8 : decode cX4_latestFrom 8 = .ok (.if_icmp .lt 113, 3) := dk_161 0 113 (dk_at dksX4_latestFrom_0 8 rfl rfl)
theorem dX4_latestFrom_11 : decode cX4_latestFrom 11 = .ok (.aload_n 0, 1) := dk_42 (dk_at dksX4_latestFrom_0 11 rfl rfl)
theorem dX4_latestFrom_12 : decode cX4_latestFrom 12 = .ok (.iload_n 1, 1) := dk_27 (dk_at dksX4_latestFrom_0 12 rfl rfl)
theorem dX4_latestFrom_13 : decode cX4_latestFrom 13 = .ok (.iload 7, 2) := dk_21 7 (dk_at dksX4_latestFrom_0 13 rfl rfl)
theorem dX4_latestFrom_15 : decode cX4_latestFrom 15 = .ok (.invokevirtual 394, 3) := dk_182 1 138 (dk_at dksX4_latestFrom_0 15 rfl rfl)
theorem dX4_latestFrom_18 : decode cX4_latestFrom 18 = .ok (.istore 8, 2) := dk_54 8 (dk_at dksX4_latestFrom_0 18 rfl rfl)
theorem dX4_latestFrom_20 : decode cX4_latestFrom 20 = .ok (.iconst 0, 1) := dk_3 (dk_at dksX4_latestFrom_0 20 rfl rfl)
theorem dX4_latestFrom_21 : decode cX4_latestFrom 21 = .ok (.istore 9, 2) := dk_54 9 (dk_at dksX4_latestFrom_0 21 rfl rfl)
theorem dX4_latestFrom_23 : decode cX4_latestFrom 23 = .ok (.iload 9, 2) := dk_21 9 (dk_at dksX4_latestFrom_1 0 rfl rfl)
theorem dX4_latestFrom_25 : decode cX4_latestFrom 25 = .ok (.iconst 2, 1) := dk_5 (dk_at dksX4_latestFrom_1 2 rfl rfl)
theorem dX4_latestFrom_26 : decode cX4_latestFrom 26 = .ok (.aload_n 0, 1) := dk_42 (dk_at dksX4_latestFrom_1 3 rfl rfl)
theorem dX4_latestFrom_27 : decode cX4_latestFrom 27 = .ok (.getfield 24, 3) := dk_180 0 24 (dk_at dksX4_latestFrom_1 4 rfl rfl)
theorem dX4_latestFrom_30 : decode cX4_latestFrom 30 = .ok (.imul, 1) := dk_104 (dk_at dksX4_latestFrom_1 7 rfl rfl)
theorem dX4_latestFrom_31 : decode cX4_latestFrom 31 = .ok (.if_icmp .ge 84, 3) := dk_162 0 84 (dk_at dksX4_latestFrom_1 8 rfl rfl)
theorem dX4_latestFrom_34 : decode cX4_latestFrom 34 = .ok (.aload_n 0, 1) := dk_42 (dk_at dksX4_latestFrom_1 11 rfl rfl)
theorem dX4_latestFrom_35 : decode cX4_latestFrom 35 = .ok (.iload_n 1, 1) := dk_27 (dk_at dksX4_latestFrom_1 12 rfl rfl)
theorem dX4_latestFrom_36 : decode cX4_latestFrom 36 = .ok (.iload 9, 2) := dk_21 9 (dk_at dksX4_latestFrom_1 13 rfl rfl)
theorem dX4_latestFrom_38 : decode cX4_latestFrom 38 = .ok (.iload 7, 2) := dk_21 7 (dk_at dksX4_latestFrom_1 15 rfl rfl)
theorem dX4_latestFrom_40 : decode cX4_latestFrom 40 = .ok (.iload 8, 2) := dk_21 8 (dk_at dksX4_latestFrom_1 17 rfl rfl)
theorem dX4_latestFrom_42 : decode cX4_latestFrom 42 = .ok (.invokevirtual 397, 3) := dk_182 1 141 (dk_at dksX4_latestFrom_1 19 rfl rfl)
theorem dX4_latestFrom_45 : decode cX4_latestFrom 45 = .ok (.istore 10, 2) := dk_54 10 (dk_at dksX4_latestFrom_1 22 rfl rfl)
theorem dX4_latestFrom_47 : decode cX4_latestFrom 47 = .ok (.iconst 0, 1) := dk_3 (dk_at dksX4_latestFrom_2 0 rfl rfl)
theorem dX4_latestFrom_48 : decode cX4_latestFrom 48 = .ok (.istore 11, 2) := dk_54 11 (dk_at dksX4_latestFrom_2 1 rfl rfl)
theorem dX4_latestFrom_50 : decode cX4_latestFrom 50 = .ok (.iload 11, 2) := dk_21 11 (dk_at dksX4_latestFrom_2 3 rfl rfl)
theorem dX4_latestFrom_52 : decode cX4_latestFrom 52 = .ok (.aload_n 0, 1) := dk_42 (dk_at dksX4_latestFrom_2 5 rfl rfl)
theorem dX4_latestFrom_53 : decode cX4_latestFrom 53 = .ok (.getfield 24, 3) := dk_180 0 24 (dk_at dksX4_latestFrom_2 6 rfl rfl)
theorem dX4_latestFrom_56 : decode cX4_latestFrom 56 = .ok (.if_icmp .gt 53, 3) := dk_163 0 53 (dk_at dksX4_latestFrom_2 9 rfl rfl)
theorem dX4_latestFrom_59 : decode cX4_latestFrom 59 = .ok (.iload 10, 2) := dk_21 10 (dk_at dksX4_latestFrom_2 12 rfl rfl)
theorem dX4_latestFrom_61 : decode cX4_latestFrom 61 = .ok (.iload_n 3, 1) := dk_29 (dk_at dksX4_latestFrom_2 14 rfl rfl)
theorem dX4_latestFrom_62 : decode cX4_latestFrom 62 = .ok (.invokestatic 179, 3) := dk_184 0 179 (dk_at dksX4_latestFrom_2 15 rfl rfl)
theorem dX4_latestFrom_65 : decode cX4_latestFrom 65 = .ok (.ifCond .eq 44, 3) := dk_153 0 44 (dk_at dksX4_latestFrom_2 18 rfl rfl)
theorem dX4_latestFrom_68 : decode cX4_latestFrom 68 = .ok (.iload 11, 2) := dk_21 11 (dk_at dksX4_latestFrom_2 21 rfl rfl)
theorem dX4_latestFrom_70 : decode cX4_latestFrom 70 = .ok (.iload_n 3, 1) := dk_29 (dk_at dksX4_latestFrom_2 23 rfl rfl)
theorem dX4_latestFrom_71 : decode cX4_latestFrom 71 = .ok (.if_icmp .eq 32, 3) := dk_159 0 32 (dk_at dksX4_latestFrom_3 0 rfl rfl)
theorem dX4_latestFrom_74 : decode cX4_latestFrom 74 = .ok (.iload 10, 2) := dk_21 10 (dk_at dksX4_latestFrom_3 3 rfl rfl)
theorem dX4_latestFrom_76 : decode cX4_latestFrom 76 = .ok (.iload 11, 2) := dk_21 11 (dk_at dksX4_latestFrom_3 5 rfl rfl)
theorem dX4_latestFrom_78 : decode cX4_latestFrom 78 = .ok (.invokestatic 179, 3) := dk_184 0 179 (dk_at dksX4_latestFrom_3 7 rfl rfl)
theorem dX4_latestFrom_81 : decode cX4_latestFrom 81 = .ok (.ifCond .eq 22, 3) := dk_153 0 22 (dk_at dksX4_latestFrom_3 10 rfl rfl)
theorem dX4_latestFrom_84 : decode cX4_latestFrom 84 = .ok (.aload_n 0, 1) := dk_42 (dk_at dksX4_latestFrom_3 13 rfl rfl)
theorem dX4_latestFrom_85 : decode cX4_latestFrom 85 = .ok (.iload 11, 2) := dk_21 11 (dk_at dksX4_latestFrom_3 14 rfl rfl)
theorem dX4_latestFrom_87 : decode cX4_latestFrom 87 = .ok (.iload_n 2, 1) := dk_28 (dk_at dksX4_latestFrom_3 16 rfl rfl)
theorem dX4_latestFrom_88 : decode cX4_latestFrom 88 = .ok (.iconst 1, 1) := dk_4 (dk_at dksX4_latestFrom_3 17 rfl rfl)
theorem dX4_latestFrom_89 : decode cX4_latestFrom 89 = .ok (.isub, 1) := dk_100 (dk_at dksX4_latestFrom_3 18 rfl rfl)
theorem dX4_latestFrom_90 : decode cX4_latestFrom 90 = .ok (.iload 4, 2) := dk_21 4 (dk_at dksX4_latestFrom_3 19 rfl rfl)
theorem dX4_latestFrom_92 : decode cX4_latestFrom 92 = .ok (.iload 7, 2) := dk_21 7 (dk_at dksX4_latestFrom_3 21 rfl rfl)
theorem dX4_latestFrom_94 : decode cX4_latestFrom 94 = .ok (.invokevirtual 416, 3) := dk_182 1 160 (dk_at dksX4_latestFrom_4 0 rfl rfl)
theorem dX4_latestFrom_97 : decode cX4_latestFrom 97 = .ok (.ifCond .eq 6, 3) := dk_153 0 6 (dk_at dksX4_latestFrom_4 3 rfl rfl)
theorem dX4_latestFrom_100 : decode cX4_latestFrom 100 = .ok (.iload 7, 2) := dk_21 7 (dk_at dksX4_latestFrom_4 6 rfl rfl)
theorem dX4_latestFrom_102 : decode cX4_latestFrom 102 = .ok (.ireturn, 1) := dk_172 (dk_at dksX4_latestFrom_4 8 rfl rfl)
theorem dX4_latestFrom_103 : decode cX4_latestFrom 103 = .ok (.iinc 11 1, 3) := dk_132 11 1 (dk_at dksX4_latestFrom_4 9 rfl rfl)
theorem dX4_latestFrom_106 : decode cX4_latestFrom 106 = .ok (.goto (-56), 3) := dk_167 255 200 (dk_at dksX4_latestFrom_4 12 rfl rfl)
theorem dX4_latestFrom_109 : decode cX4_latestFrom 109 = .ok (.iinc 9 1, 3) := dk_132 9 1 (dk_at dksX4_latestFrom_4 15 rfl rfl)
theorem dX4_latestFrom_112 : decode cX4_latestFrom 112 = .ok (.goto (-89), 3) := dk_167 255 167 (dk_at dksX4_latestFrom_4 18 rfl rfl)
theorem dX4_latestFrom_115 : decode cX4_latestFrom 115 = .ok (.iinc 7 (-1), 3) := dk_132 7 255 (dk_at dksX4_latestFrom_4 21 rfl rfl)
theorem dX4_latestFrom_118 : decode cX4_latestFrom 118 = .ok (.goto (-114), 3) := dk_167 255 142 (dk_at dksX4_latestFrom_5 0 rfl rfl)
theorem dX4_latestFrom_121 : decode cX4_latestFrom 121 = .ok (.iconst (-1), 1) := dk_2 (dk_at dksX4_latestFrom_5 3 rfl rfl)
theorem dX4_latestFrom_122 : decode cX4_latestFrom 122 = .ok (.ireturn, 1) := dk_172 (dk_at dksX4_latestFrom_5 4 rfl rfl)
abbrev cX4_isInTime : ByteArray := prog_26_method_88_code
def yX4_isInTime : MethodName := ⟨RX4, "isInTime", "(IIII)Z"⟩
def dkwX4_isInTime_1 : List UInt8 := [104, 27, 96, 46, 21, 4, 164, 0, 7, 4, 167, 0, 4, 3, 172]
abbrev dktX4_isInTime_1 : List UInt8 := dkwX4_isInTime_1 ++ []
def dkwX4_isInTime_0 : List UInt8 := [28, 154, 0, 16, 27, 29, 160, 0, 7, 4, 167, 0, 28, 3, 167, 0, 24, 42, 180, 0, 79, 16, 10, 28]
abbrev dktX4_isInTime_0 : List UInt8 := dkwX4_isInTime_0 ++ dktX4_isInTime_1
theorem dksX4_isInTime_0 : cX4_isInTime.data.toList.drop 0 = dktX4_isInTime_0 := by decide +kernel
theorem dksX4_isInTime_1 : cX4_isInTime.data.toList.drop 24 = dktX4_isInTime_1 := dk_seg dksX4_isInTime_0 24 rfl rfl
theorem dX4_isInTime_0 : decode cX4_isInTime 0 = .ok (.iload_n 2, 1) := dk_28 (dk_at dksX4_isInTime_0 0 rfl rfl)
theorem dX4_isInTime_1 : decode cX4_isInTime 1 = .ok (.ifCond .ne 16, 3) := dk_154 0 16 (dk_at dksX4_isInTime_0 1 rfl rfl)
theorem dX4_isInTime_4 : decode cX4_isInTime 4 = .ok (.iload_n 1, 1) := dk_27 (dk_at dksX4_isInTime_0 4 rfl rfl)
theorem dX4_isInTime_5 : decode cX4_isInTime 5 = .ok (.iload_n 3, 1) := dk_29 (dk_at dksX4_isInTime_0 5 rfl rfl)
theorem dX4_isInTime_6 : decode cX4_isInTime 6 = .ok (.if_icmp .ne 7, 3) := dk_160 0 7 (dk_at dksX4_isInTime_0 6 rfl rfl)
theorem dX4_isInTime_9 : decode cX4_isInTime 9 = .ok (.iconst 1, 1) := dk_4 (dk_at dksX4_isInTime_0 9 rfl rfl)
theorem dX4_isInTime_10 : decode cX4_isInTime 10 = .ok (.goto 28, 3) := dk_167 0 28 (dk_at dksX4_isInTime_0 10 rfl rfl)
theorem dX4_isInTime_13 : decode cX4_isInTime 13 = .ok (.iconst 0, 1) := dk_3 (dk_at dksX4_isInTime_0 13 rfl rfl)
theorem dX4_isInTime_14 : decode cX4_isInTime 14 = .ok (.goto 24, 3) := dk_167 0 24 (dk_at dksX4_isInTime_0 14 rfl rfl)
theorem dX4_isInTime_17 : decode cX4_isInTime 17 = .ok (.aload_n 0, 1) := dk_42 (dk_at dksX4_isInTime_0 17 rfl rfl)
theorem dX4_isInTime_18 : decode cX4_isInTime 18 = .ok (.getfield 79, 3) := dk_180 0 79 (dk_at dksX4_isInTime_0 18 rfl rfl)
theorem dX4_isInTime_21 : decode cX4_isInTime 21 = .ok (.bipush 10, 2) := dk_16 10 (dk_at dksX4_isInTime_0 21 rfl rfl)
theorem dX4_isInTime_23 : decode cX4_isInTime 23 = .ok (.iload_n 2, 1) := dk_28 (dk_at dksX4_isInTime_0 23 rfl rfl)
theorem dX4_isInTime_24 : decode cX4_isInTime 24 = .ok (.imul, 1) := dk_104 (dk_at dksX4_isInTime_1 0 rfl rfl)
theorem dX4_isInTime_25 : decode cX4_isInTime 25 = .ok (.iload_n 1, 1) := dk_27 (dk_at dksX4_isInTime_1 1 rfl rfl)
theorem dX4_isInTime_26 : decode cX4_isInTime 26 = .ok (.iadd, 1) := dk_96 (dk_at dksX4_isInTime_1 2 rfl rfl)
theorem dX4_isInTime_27 : decode cX4_isInTime 27 = .ok (.iaload, 1) := dk_46 (dk_at dksX4_isInTime_1 3 rfl rfl)
theorem dX4_isInTime_28 : decode cX4_isInTime 28 = .ok (.iload 4, 2) := dk_21 4 (dk_at dksX4_isInTime_1 4 rfl rfl)
theorem dX4_isInTime_30 : decode cX4_isInTime 30 = .ok (.if_icmp .le 7, 3) := dk_164 0 7 (dk_at dksX4_isInTime_1 6 rfl rfl)
theorem dX4_isInTime_33 : decode cX4_isInTime 33 = .ok (.iconst 1, 1) := dk_4 (dk_at dksX4_isInTime_1 9 rfl rfl)
theorem dX4_isInTime_34 : decode cX4_isInTime 34 = .ok (.goto 4, 3) := dk_167 0 4 (dk_at dksX4_isInTime_1 10 rfl rfl)
theorem dX4_isInTime_37 : decode cX4_isInTime 37 = .ok (.iconst 0, 1) := dk_3 (dk_at dksX4_isInTime_1 13 rfl rfl)
theorem dX4_isInTime_38 : decode cX4_isInTime 38 = .ok (.ireturn, 1) := dk_172 (dk_at dksX4_isInTime_1 14 rfl rfl)
abbrev cX4_choosesHop : ByteArray := prog_26_method_90_code
def yX4_choosesHop : MethodName := ⟨RX4, "choosesHop", "(IIIIII)V"⟩
def dkwX4_choosesHop_6 : List UInt8 := [132, 11, 1, 167, 255, 160, 132, 9, 1, 167, 255, 127, 132, 7, 1, 167, 255, 102, 177]
abbrev dktX4_choosesHop_6 : List UInt8 := dkwX4_choosesHop_6 ++ []
def dkwX4_choosesHop_5 : List UInt8 := [180, 0, 82, 6, 28, 104, 4, 96, 21, 9, 79, 42, 180, 0, 82, 6, 28, 104, 5, 96, 21, 11, 79, 177]
abbrev dktX4_choosesHop_5 : List UInt8 := dkwX4_choosesHop_5 ++ dktX4_choosesHop_6
def dkwX4_choosesHop_4 : List UInt8 := [21, 4, 21, 7, 182, 1, 160, 154, 0, 6, 167, 0, 38, 42, 180, 0, 82, 6, 28, 104, 21, 7, 79, 42]
abbrev dktX4_choosesHop_4 : List UInt8 := dkwX4_choosesHop_4 ++ dktX4_choosesHop_5
def dkwX4_choosesHop_3 : List UInt8 := [159, 0, 72, 21, 10, 21, 11, 184, 0, 179, 153, 0, 62, 42, 21, 11, 42, 180, 1, 145, 28, 100, 4, 100]
abbrev dktX4_choosesHop_3 : List UInt8 := dkwX4_choosesHop_3 ++ dktX4_choosesHop_4
def dkwX4_choosesHop_2 : List UInt8 := [3, 54, 11, 21, 11, 42, 180, 0, 24, 163, 0, 93, 21, 10, 29, 184, 0, 179, 153, 0, 84, 21, 11, 29]
abbrev dktX4_choosesHop_2 : List UInt8 := dkwX4_choosesHop_2 ++ dktX4_choosesHop_3
def dkwX4_choosesHop_1 : List UInt8 := [21, 9, 5, 42, 180, 0, 24, 104, 162, 0, 124, 42, 27, 21, 9, 21, 7, 21, 8, 182, 1, 141, 54, 10]
abbrev dktX4_choosesHop_1 : List UInt8 := dkwX4_choosesHop_1 ++ dktX4_choosesHop_2
def dkwX4_choosesHop_0 : List UInt8 := [21, 5, 54, 7, 21, 7, 21, 6, 163, 0, 153, 42, 27, 21, 7, 182, 1, 138, 54, 8, 3, 54, 9]
abbrev dktX4_choosesHop_0 : List UInt8 := dkwX4_choosesHop_0 ++ dktX4_choosesHop_1
theorem dksX4_choosesHop_0 : cX4_choosesHop.data.toList.drop 0 = dktX4_choosesHop_0 := by decide +kernel
theorem dksX4_choosesHop_1 : cX4_choosesHop.data.toList.drop 23 = dktX4_choosesHop_1 := dk_seg dksX4_choosesHop_0 23 rfl rfl
theorem dksX4_choosesHop_2 : cX4_choosesHop.data.toList.drop 47 = dktX4_choosesHop_2 := dk_seg dksX4_choosesHop_1 24 rfl rfl
theorem dksX4_choosesHop_3 : cX4_choosesHop.data.toList.drop 71 = dktX4_choosesHop_3 := dk_seg dksX4_choosesHop_2 24 rfl rfl
theorem dksX4_choosesHop_4 : cX4_choosesHop.data.toList.drop 95 = dktX4_choosesHop_4 := dk_seg dksX4_choosesHop_3 24 rfl rfl
theorem dksX4_choosesHop_5 : cX4_choosesHop.data.toList.drop 119 = dktX4_choosesHop_5 := dk_seg dksX4_choosesHop_4 24 rfl rfl
theorem dksX4_choosesHop_6 : cX4_choosesHop.data.toList.drop 143 = dktX4_choosesHop_6 := dk_seg dksX4_choosesHop_5 24 rfl rfl
theorem dX4_choosesHop_0 : decode cX4_choosesHop 0 = .ok (.iload 5, 2) := dk_21 5 (dk_at dksX4_choosesHop_0 0 rfl rfl)
theorem dX4_choosesHop_2 : decode cX4_choosesHop 2 = .ok (.istore 7, 2) := dk_54 7 (dk_at dksX4_choosesHop_0 2 rfl rfl)
theorem dX4_choosesHop_4 : decode cX4_choosesHop 4 = .ok (.iload 7, 2) := dk_21 7 (dk_at dksX4_choosesHop_0 4 rfl rfl)
theorem dX4_choosesHop_6 : decode cX4_choosesHop 6 = .ok (.iload 6, 2) := dk_21 6 (dk_at dksX4_choosesHop_0 6 rfl rfl)
theorem dX4_choosesHop_8 : decode cX4_choosesHop 8 = .ok (.if_icmp .gt 153, 3) := dk_163 0 153 (dk_at dksX4_choosesHop_0 8 rfl rfl)
theorem dX4_choosesHop_11 : decode cX4_choosesHop 11 = .ok (.aload_n 0, 1) := dk_42 (dk_at dksX4_choosesHop_0 11 rfl rfl)
theorem dX4_choosesHop_12 : decode cX4_choosesHop 12 = .ok (.iload_n 1, 1) := dk_27 (dk_at dksX4_choosesHop_0 12 rfl rfl)
theorem dX4_choosesHop_13 : decode cX4_choosesHop 13 = .ok (.iload 7, 2) := dk_21 7 (dk_at dksX4_choosesHop_0 13 rfl rfl)
theorem dX4_choosesHop_15 : decode cX4_choosesHop 15 = .ok (.invokevirtual 394, 3) := dk_182 1 138 (dk_at dksX4_choosesHop_0 15 rfl rfl)
theorem dX4_choosesHop_18 : decode cX4_choosesHop 18 = .ok (.istore 8, 2) := dk_54 8 (dk_at dksX4_choosesHop_0 18 rfl rfl)
theorem dX4_choosesHop_20 : decode cX4_choosesHop 20 = .ok (.iconst 0, 1) := dk_3 (dk_at dksX4_choosesHop_0 20 rfl rfl)
theorem dX4_choosesHop_21 : decode cX4_choosesHop 21 = .ok (.istore 9, 2) := dk_54 9 (dk_at dksX4_choosesHop_0 21 rfl rfl)
theorem dX4_choosesHop_23 : decode cX4_choosesHop 23 = .ok (.iload 9, 2) := dk_21 9 (dk_at dksX4_choosesHop_1 0 rfl rfl)
theorem dX4_choosesHop_25 : decode cX4_choosesHop 25 = .ok (.iconst 2, 1) := dk_5 (dk_at dksX4_choosesHop_1 2 rfl rfl)
theorem dX4_choosesHop_26 : decode cX4_choosesHop 26 = .ok (.aload_n 0, 1) := dk_42 (dk_at dksX4_choosesHop_1 3 rfl rfl)
theorem dX4_choosesHop_27 : decode cX4_choosesHop 27 = .ok (.getfield 24, 3) := dk_180 0 24 (dk_at dksX4_choosesHop_1 4 rfl rfl)
theorem dX4_choosesHop_30 : decode cX4_choosesHop 30 = .ok (.imul, 1) := dk_104 (dk_at dksX4_choosesHop_1 7 rfl rfl)
theorem dX4_choosesHop_31 : decode cX4_choosesHop 31 = .ok (.if_icmp .ge 124, 3) := dk_162 0 124 (dk_at dksX4_choosesHop_1 8 rfl rfl)
theorem dX4_choosesHop_34 : decode cX4_choosesHop 34 = .ok (.aload_n 0, 1) := dk_42 (dk_at dksX4_choosesHop_1 11 rfl rfl)
theorem dX4_choosesHop_35 : decode cX4_choosesHop 35 = .ok (.iload_n 1, 1) := dk_27 (dk_at dksX4_choosesHop_1 12 rfl rfl)
theorem dX4_choosesHop_36 : decode cX4_choosesHop 36 = .ok (.iload 9, 2) := dk_21 9 (dk_at dksX4_choosesHop_1 13 rfl rfl)
theorem dX4_choosesHop_38 : decode cX4_choosesHop 38 = .ok (.iload 7, 2) := dk_21 7 (dk_at dksX4_choosesHop_1 15 rfl rfl)
theorem dX4_choosesHop_40 : decode cX4_choosesHop 40 = .ok (.iload 8, 2) := dk_21 8 (dk_at dksX4_choosesHop_1 17 rfl rfl)
theorem dX4_choosesHop_42 : decode cX4_choosesHop 42 = .ok (.invokevirtual 397, 3) := dk_182 1 141 (dk_at dksX4_choosesHop_1 19 rfl rfl)
theorem dX4_choosesHop_45 : decode cX4_choosesHop 45 = .ok (.istore 10, 2) := dk_54 10 (dk_at dksX4_choosesHop_1 22 rfl rfl)
theorem dX4_choosesHop_47 : decode cX4_choosesHop 47 = .ok (.iconst 0, 1) := dk_3 (dk_at dksX4_choosesHop_2 0 rfl rfl)
theorem dX4_choosesHop_48 : decode cX4_choosesHop 48 = .ok (.istore 11, 2) := dk_54 11 (dk_at dksX4_choosesHop_2 1 rfl rfl)
theorem dX4_choosesHop_50 : decode cX4_choosesHop 50 = .ok (.iload 11, 2) := dk_21 11 (dk_at dksX4_choosesHop_2 3 rfl rfl)
theorem dX4_choosesHop_52 : decode cX4_choosesHop 52 = .ok (.aload_n 0, 1) := dk_42 (dk_at dksX4_choosesHop_2 5 rfl rfl)
theorem dX4_choosesHop_53 : decode cX4_choosesHop 53 = .ok (.getfield 24, 3) := dk_180 0 24 (dk_at dksX4_choosesHop_2 6 rfl rfl)
theorem dX4_choosesHop_56 : decode cX4_choosesHop 56 = .ok (.if_icmp .gt 93, 3) := dk_163 0 93 (dk_at dksX4_choosesHop_2 9 rfl rfl)
theorem dX4_choosesHop_59 : decode cX4_choosesHop 59 = .ok (.iload 10, 2) := dk_21 10 (dk_at dksX4_choosesHop_2 12 rfl rfl)
theorem dX4_choosesHop_61 : decode cX4_choosesHop 61 = .ok (.iload_n 3, 1) := dk_29 (dk_at dksX4_choosesHop_2 14 rfl rfl)
theorem dX4_choosesHop_62 : decode cX4_choosesHop 62 = .ok (.invokestatic 179, 3) := dk_184 0 179 (dk_at dksX4_choosesHop_2 15 rfl rfl)
theorem dX4_choosesHop_65 : decode cX4_choosesHop 65 = .ok (.ifCond .eq 84, 3) := dk_153 0 84 (dk_at dksX4_choosesHop_2 18 rfl rfl)
theorem dX4_choosesHop_68 : decode cX4_choosesHop 68 = .ok (.iload 11, 2) := dk_21 11 (dk_at dksX4_choosesHop_2 21 rfl rfl)
theorem dX4_choosesHop_70 : decode cX4_choosesHop 70 = .ok (.iload_n 3, 1) := dk_29 (dk_at dksX4_choosesHop_2 23 rfl rfl)
theorem dX4_choosesHop_71 : decode cX4_choosesHop 71 = .ok (.if_icmp .eq 72, 3) := dk_159 0 72 (dk_at dksX4_choosesHop_3 0 rfl rfl)
theorem dX4_choosesHop_74 : decode cX4_choosesHop 74 = .ok (.iload 10, 2) := dk_21 10 (dk_at dksX4_choosesHop_3 3 rfl rfl)
theorem dX4_choosesHop_76 : decode cX4_choosesHop 76 = .ok (.iload 11, 2) := dk_21 11 (dk_at dksX4_choosesHop_3 5 rfl rfl)
theorem dX4_choosesHop_78 : decode cX4_choosesHop 78 = .ok (.invokestatic 179, 3) := dk_184 0 179 (dk_at dksX4_choosesHop_3 7 rfl rfl)
theorem dX4_choosesHop_81 : decode cX4_choosesHop 81 = .ok (.ifCond .eq 62, 3) := dk_153 0 62 (dk_at dksX4_choosesHop_3 10 rfl rfl)
theorem dX4_choosesHop_84 : decode cX4_choosesHop 84 = .ok (.aload_n 0, 1) := dk_42 (dk_at dksX4_choosesHop_3 13 rfl rfl)
theorem dX4_choosesHop_85 : decode cX4_choosesHop 85 = .ok (.iload 11, 2) := dk_21 11 (dk_at dksX4_choosesHop_3 14 rfl rfl)
theorem dX4_choosesHop_87 : decode cX4_choosesHop 87 = .ok (.aload_n 0, 1) := dk_42 (dk_at dksX4_choosesHop_3 16 rfl rfl)
theorem dX4_choosesHop_88 : decode cX4_choosesHop 88 = .ok (.getfield 401, 3) := dk_180 1 145 (dk_at dksX4_choosesHop_3 17 rfl rfl)
theorem dX4_choosesHop_91 : decode cX4_choosesHop 91 = .ok (.iload_n 2, 1) := dk_28 (dk_at dksX4_choosesHop_3 20 rfl rfl)
theorem dX4_choosesHop_92 : decode cX4_choosesHop 92 = .ok (.isub, 1) := dk_100 (dk_at dksX4_choosesHop_3 21 rfl rfl)
theorem dX4_choosesHop_93 : decode cX4_choosesHop 93 = .ok (.iconst 1, 1) := dk_4 (dk_at dksX4_choosesHop_3 22 rfl rfl)
theorem dX4_choosesHop_94 : decode cX4_choosesHop 94 = .ok (.isub, 1) := dk_100 (dk_at dksX4_choosesHop_3 23 rfl rfl)
theorem dX4_choosesHop_95 : decode cX4_choosesHop 95 = .ok (.iload 4, 2) := dk_21 4 (dk_at dksX4_choosesHop_4 0 rfl rfl)
theorem dX4_choosesHop_97 : decode cX4_choosesHop 97 = .ok (.iload 7, 2) := dk_21 7 (dk_at dksX4_choosesHop_4 2 rfl rfl)
theorem dX4_choosesHop_99 : decode cX4_choosesHop 99 = .ok (.invokevirtual 416, 3) := dk_182 1 160 (dk_at dksX4_choosesHop_4 4 rfl rfl)
theorem dX4_choosesHop_102 : decode cX4_choosesHop 102 = .ok (.ifCond .ne 6, 3) := dk_154 0 6 (dk_at dksX4_choosesHop_4 7 rfl rfl)
theorem dX4_choosesHop_105 : decode cX4_choosesHop 105 = .ok (.goto 38, 3) := dk_167 0 38 (dk_at dksX4_choosesHop_4 10 rfl rfl)
theorem dX4_choosesHop_108 : decode cX4_choosesHop 108 = .ok (.aload_n 0, 1) := dk_42 (dk_at dksX4_choosesHop_4 13 rfl rfl)
theorem dX4_choosesHop_109 : decode cX4_choosesHop 109 = .ok (.getfield 82, 3) := dk_180 0 82 (dk_at dksX4_choosesHop_4 14 rfl rfl)
theorem dX4_choosesHop_112 : decode cX4_choosesHop 112 = .ok (.iconst 3, 1) := dk_6 (dk_at dksX4_choosesHop_4 17 rfl rfl)
theorem dX4_choosesHop_113 : decode cX4_choosesHop 113 = .ok (.iload_n 2, 1) := dk_28 (dk_at dksX4_choosesHop_4 18 rfl rfl)
theorem dX4_choosesHop_114 : decode cX4_choosesHop 114 = .ok (.imul, 1) := dk_104 (dk_at dksX4_choosesHop_4 19 rfl rfl)
theorem dX4_choosesHop_115 : decode cX4_choosesHop 115 = .ok (.iload 7, 2) := dk_21 7 (dk_at dksX4_choosesHop_4 20 rfl rfl)
theorem dX4_choosesHop_117 : decode cX4_choosesHop 117 = .ok (.iastore, 1) := dk_79 (dk_at dksX4_choosesHop_4 22 rfl rfl)
theorem dX4_choosesHop_118 : decode cX4_choosesHop 118 = .ok (.aload_n 0, 1) := dk_42 (dk_at dksX4_choosesHop_4 23 rfl rfl)
theorem dX4_choosesHop_119 : decode cX4_choosesHop 119 = .ok (.getfield 82, 3) := dk_180 0 82 (dk_at dksX4_choosesHop_5 0 rfl rfl)
theorem dX4_choosesHop_122 : decode cX4_choosesHop 122 = .ok (.iconst 3, 1) := dk_6 (dk_at dksX4_choosesHop_5 3 rfl rfl)
theorem dX4_choosesHop_123 : decode cX4_choosesHop 123 = .ok (.iload_n 2, 1) := dk_28 (dk_at dksX4_choosesHop_5 4 rfl rfl)
theorem dX4_choosesHop_124 : decode cX4_choosesHop 124 = .ok (.imul, 1) := dk_104 (dk_at dksX4_choosesHop_5 5 rfl rfl)
theorem dX4_choosesHop_125 : decode cX4_choosesHop 125 = .ok (.iconst 1, 1) := dk_4 (dk_at dksX4_choosesHop_5 6 rfl rfl)
theorem dX4_choosesHop_126 : decode cX4_choosesHop 126 = .ok (.iadd, 1) := dk_96 (dk_at dksX4_choosesHop_5 7 rfl rfl)
theorem dX4_choosesHop_127 : decode cX4_choosesHop 127 = .ok (.iload 9, 2) := dk_21 9 (dk_at dksX4_choosesHop_5 8 rfl rfl)
theorem dX4_choosesHop_129 : decode cX4_choosesHop 129 = .ok (.iastore, 1) := dk_79 (dk_at dksX4_choosesHop_5 10 rfl rfl)
theorem dX4_choosesHop_130 : decode cX4_choosesHop 130 = .ok (.aload_n 0, 1) := dk_42 (dk_at dksX4_choosesHop_5 11 rfl rfl)
theorem dX4_choosesHop_131 : decode cX4_choosesHop 131 = .ok (.getfield 82, 3) := dk_180 0 82 (dk_at dksX4_choosesHop_5 12 rfl rfl)
theorem dX4_choosesHop_134 : decode cX4_choosesHop 134 = .ok (.iconst 3, 1) := dk_6 (dk_at dksX4_choosesHop_5 15 rfl rfl)
theorem dX4_choosesHop_135 : decode cX4_choosesHop 135 = .ok (.iload_n 2, 1) := dk_28 (dk_at dksX4_choosesHop_5 16 rfl rfl)
theorem dX4_choosesHop_136 : decode cX4_choosesHop 136 = .ok (.imul, 1) := dk_104 (dk_at dksX4_choosesHop_5 17 rfl rfl)
theorem dX4_choosesHop_137 : decode cX4_choosesHop 137 = .ok (.iconst 2, 1) := dk_5 (dk_at dksX4_choosesHop_5 18 rfl rfl)
theorem dX4_choosesHop_138 : decode cX4_choosesHop 138 = .ok (.iadd, 1) := dk_96 (dk_at dksX4_choosesHop_5 19 rfl rfl)
theorem dX4_choosesHop_139 : decode cX4_choosesHop 139 = .ok (.iload 11, 2) := dk_21 11 (dk_at dksX4_choosesHop_5 20 rfl rfl)
theorem dX4_choosesHop_141 : decode cX4_choosesHop 141 = .ok (.iastore, 1) := dk_79 (dk_at dksX4_choosesHop_5 22 rfl rfl)
theorem dX4_choosesHop_142 : decode cX4_choosesHop 142 = .ok (.return_, 1) := dk_177 (dk_at dksX4_choosesHop_5 23 rfl rfl)
theorem dX4_choosesHop_143 : decode cX4_choosesHop 143 = .ok (.iinc 11 1, 3) := dk_132 11 1 (dk_at dksX4_choosesHop_6 0 rfl rfl)
theorem dX4_choosesHop_146 : decode cX4_choosesHop 146 = .ok (.goto (-96), 3) := dk_167 255 160 (dk_at dksX4_choosesHop_6 3 rfl rfl)
theorem dX4_choosesHop_149 : decode cX4_choosesHop 149 = .ok (.iinc 9 1, 3) := dk_132 9 1 (dk_at dksX4_choosesHop_6 6 rfl rfl)
theorem dX4_choosesHop_152 : decode cX4_choosesHop 152 = .ok (.goto (-129), 3) := dk_167 255 127 (dk_at dksX4_choosesHop_6 9 rfl rfl)
theorem dX4_choosesHop_155 : decode cX4_choosesHop 155 = .ok (.iinc 7 1, 3) := dk_132 7 1 (dk_at dksX4_choosesHop_6 12 rfl rfl)
theorem dX4_choosesHop_158 : decode cX4_choosesHop 158 = .ok (.goto (-154), 3) := dk_167 255 102 (dk_at dksX4_choosesHop_6 15 rfl rfl)
theorem dX4_choosesHop_161 : decode cX4_choosesHop 161 = .ok (.return_, 1) := dk_177 (dk_at dksX4_choosesHop_6 18 rfl rfl)
abbrev cX4_culprits : ByteArray := prog_26_method_92_code
def yX4_culprits : MethodName := ⟨RX4, "culprits", "(I)I"⟩
def dkwX4_culprits_8 : List UInt8 := [153, 0, 7, 29, 167, 0, 4, 28, 61, 132, 3, 1, 167, 255, 135, 28, 172]
abbrev dktX4_culprits_8 : List UInt8 := dkwX4_culprits_8 ++ []
def dkwX4_culprits_7 : List UInt8 := [182, 1, 107, 182, 1, 167, 153, 0, 7, 4, 167, 0, 4, 3, 54, 4, 132, 5, 1, 167, 255, 187, 21, 4]
abbrev dktX4_culprits_7 : List UInt8 := dkwX4_culprits_7 ++ dktX4_culprits_8
def dkwX4_culprits_6 : List UInt8 := [5, 182, 1, 107, 42, 21, 5, 6, 182, 1, 107, 29, 42, 21, 5, 7, 182, 1, 107, 42, 21, 5, 8]
abbrev dktX4_culprits_6 : List UInt8 := dkwX4_culprits_6 ++ dktX4_culprits_7
def dkwX4_culprits_5 : List UInt8 := [180, 0, 119, 162, 0, 66, 21, 4, 153, 0, 61, 27, 21, 5, 184, 0, 179, 153, 0, 39, 42, 42, 21, 5]
abbrev dktX4_culprits_5 : List UInt8 := dkwX4_culprits_5 ++ dktX4_culprits_6
def dkwX4_culprits_4 : List UInt8 := [184, 1, 132, 28, 184, 1, 132, 161, 0, 6, 167, 0, 92, 4, 54, 4, 3, 54, 5, 21, 5, 42]
abbrev dktX4_culprits_4 : List UInt8 := dkwX4_culprits_4 ++ dktX4_culprits_5
def dkwX4_culprits_3 : List UInt8 := [182, 0, 170, 2, 61, 3, 62, 29, 4, 42, 180, 0, 24, 120, 162, 0, 117, 28, 2, 159, 0, 17, 29]
abbrev dktX4_culprits_3 : List UInt8 := dkwX4_culprits_3 ++ dktX4_culprits_4
def dkwX4_culprits_2 : List UInt8 := [42, 28, 5, 182, 1, 107, 182, 0, 167, 154, 0, 5, 2, 172, 132, 2, 1, 167, 255, 214, 42, 3]
abbrev dktX4_culprits_2 : List UInt8 := dkwX4_culprits_2 ++ dktX4_culprits_3
def dkwX4_culprits_1 : List UInt8 := [42, 180, 0, 119, 162, 0, 40, 27, 28, 184, 0, 179, 153, 0, 26, 42, 28, 182, 1, 125, 153, 0, 16, 42]
abbrev dktX4_culprits_1 : List UInt8 := dkwX4_culprits_1 ++ dktX4_culprits_2
def dkwX4_culprits_0 : List UInt8 := [42, 3, 181, 0, 1, 27, 158, 0, 13, 27, 4, 42, 180, 0, 119, 120, 161, 0, 5, 2, 172, 3, 61, 28]
abbrev dktX4_culprits_0 : List UInt8 := dkwX4_culprits_0 ++ dktX4_culprits_1
theorem dksX4_culprits_0 : cX4_culprits.data.toList.drop 0 = dktX4_culprits_0 := by decide +kernel
theorem dksX4_culprits_1 : cX4_culprits.data.toList.drop 24 = dktX4_culprits_1 := dk_seg dksX4_culprits_0 24 rfl rfl
theorem dksX4_culprits_2 : cX4_culprits.data.toList.drop 48 = dktX4_culprits_2 := dk_seg dksX4_culprits_1 24 rfl rfl
theorem dksX4_culprits_3 : cX4_culprits.data.toList.drop 70 = dktX4_culprits_3 := dk_seg dksX4_culprits_2 22 rfl rfl
theorem dksX4_culprits_4 : cX4_culprits.data.toList.drop 93 = dktX4_culprits_4 := dk_seg dksX4_culprits_3 23 rfl rfl
theorem dksX4_culprits_5 : cX4_culprits.data.toList.drop 115 = dktX4_culprits_5 := dk_seg dksX4_culprits_4 22 rfl rfl
theorem dksX4_culprits_6 : cX4_culprits.data.toList.drop 139 = dktX4_culprits_6 := dk_seg dksX4_culprits_5 24 rfl rfl
theorem dksX4_culprits_7 : cX4_culprits.data.toList.drop 162 = dktX4_culprits_7 := dk_seg dksX4_culprits_6 23 rfl rfl
theorem dksX4_culprits_8 : cX4_culprits.data.toList.drop 186 = dktX4_culprits_8 := dk_seg dksX4_culprits_7 24 rfl rfl
theorem dX4_culprits_0 : decode cX4_culprits 0 = .ok (.aload_n 0, 1) := dk_42 (dk_at dksX4_culprits_0 0 rfl rfl)
theorem dX4_culprits_1 : decode cX4_culprits 1 = .ok (.iconst 0, 1) := dk_3 (dk_at dksX4_culprits_0 1 rfl rfl)
theorem dX4_culprits_2 : decode cX4_culprits 2 = .ok (.putfield 1, 3) := dk_181 0 1 (dk_at dksX4_culprits_0 2 rfl rfl)
theorem dX4_culprits_5 : decode cX4_culprits 5 = .ok (.iload_n 1, 1) := dk_27 (dk_at dksX4_culprits_0 5 rfl rfl)
theorem dX4_culprits_6 : decode cX4_culprits 6 = .ok (.ifCond .le 13, 3) := dk_158 0 13 (dk_at dksX4_culprits_0 6 rfl rfl)
theorem dX4_culprits_9 : decode cX4_culprits 9 = .ok (.iload_n 1, 1) := dk_27 (dk_at dksX4_culprits_0 9 rfl rfl)
theorem dX4_culprits_10 : decode cX4_culprits 10 = .ok (.iconst 1, 1) := dk_4 (dk_at dksX4_culprits_0 10 rfl rfl)
theorem dX4_culprits_11 : decode cX4_culprits 11 = .ok (.aload_n 0, 1) := dk_42 (dk_at dksX4_culprits_0 11 rfl rfl)
theorem dX4_culprits_12 : decode cX4_culprits 12 = .ok (.getfield 119, 3) := dk_180 0 119 (dk_at dksX4_culprits_0 12 rfl rfl)
theorem dX4_culprits_15 : decode cX4_culprits 15 = .ok (.ishl, 1) := dk_120 (dk_at dksX4_culprits_0 15 rfl rfl)
theorem dX4_culprits_16 : decode cX4_culprits 16 = .ok (.if_icmp .lt 5, 3) := dk_161 0 5 (dk_at dksX4_culprits_0 16 rfl rfl)
theorem dX4_culprits_19 : decode cX4_culprits 19 = .ok (.iconst (-1), 1) := dk_2 (dk_at dksX4_culprits_0 19 rfl rfl)
theorem dX4_culprits_20 : decode cX4_culprits 20 = .ok (.ireturn, 1) := dk_172 (dk_at dksX4_culprits_0 20 rfl rfl)
theorem dX4_culprits_21 : decode cX4_culprits 21 = .ok (.iconst 0, 1) := dk_3 (dk_at dksX4_culprits_0 21 rfl rfl)
theorem dX4_culprits_22 : decode cX4_culprits 22 = .ok (.istore_n 2, 1) := dk_61 (dk_at dksX4_culprits_0 22 rfl rfl)
theorem dX4_culprits_23 : decode cX4_culprits 23 = .ok (.iload_n 2, 1) := dk_28 (dk_at dksX4_culprits_0 23 rfl rfl)
theorem dX4_culprits_24 : decode cX4_culprits 24 = .ok (.aload_n 0, 1) := dk_42 (dk_at dksX4_culprits_1 0 rfl rfl)
theorem dX4_culprits_25 : decode cX4_culprits 25 = .ok (.getfield 119, 3) := dk_180 0 119 (dk_at dksX4_culprits_1 1 rfl rfl)
theorem dX4_culprits_28 : decode cX4_culprits 28 = .ok (.if_icmp .ge 40, 3) := dk_162 0 40 (dk_at dksX4_culprits_1 4 rfl rfl)
theorem dX4_culprits_31 : decode cX4_culprits 31 = .ok (.iload_n 1, 1) := dk_27 (dk_at dksX4_culprits_1 7 rfl rfl)
theorem dX4_culprits_32 : decode cX4_culprits 32 = .ok (.iload_n 2, 1) := dk_28 (dk_at dksX4_culprits_1 8 rfl rfl)
theorem dX4_culprits_33 : decode cX4_culprits 33 = .ok (.invokestatic 179, 3) := dk_184 0 179 (dk_at dksX4_culprits_1 9 rfl rfl)
theorem dX4_culprits_36 : decode cX4_culprits 36 = .ok (.ifCond .eq 26, 3) := dk_153 0 26 (dk_at dksX4_culprits_1 12 rfl rfl)
theorem dX4_culprits_39 : decode cX4_culprits 39 = .ok (.aload_n 0, 1) := dk_42 (dk_at dksX4_culprits_1 15 rfl rfl)
theorem dX4_culprits_40 : decode cX4_culprits 40 = .ok (.iload_n 2, 1) := dk_28 (dk_at dksX4_culprits_1 16 rfl rfl)
theorem dX4_culprits_41 : decode cX4_culprits 41 = .ok (.invokevirtual 381, 3) := dk_182 1 125 (dk_at dksX4_culprits_1 17 rfl rfl)
theorem dX4_culprits_44 : decode cX4_culprits 44 = .ok (.ifCond .eq 16, 3) := dk_153 0 16 (dk_at dksX4_culprits_1 20 rfl rfl)
theorem dX4_culprits_47 : decode cX4_culprits 47 = .ok (.aload_n 0, 1) := dk_42 (dk_at dksX4_culprits_1 23 rfl rfl)
theorem dX4_culprits_48 : decode cX4_culprits 48 = .ok (.aload_n 0, 1) := dk_42 (dk_at dksX4_culprits_2 0 rfl rfl)
theorem dX4_culprits_49 : decode cX4_culprits 49 = .ok (.iload_n 2, 1) := dk_28 (dk_at dksX4_culprits_2 1 rfl rfl)
theorem dX4_culprits_50 : decode cX4_culprits 50 = .ok (.iconst 2, 1) := dk_5 (dk_at dksX4_culprits_2 2 rfl rfl)
theorem dX4_culprits_51 : decode cX4_culprits 51 = .ok (.invokevirtual 363, 3) := dk_182 1 107 (dk_at dksX4_culprits_2 3 rfl rfl)
theorem dX4_culprits_54 : decode cX4_culprits 54 = .ok (.invokevirtual 167, 3) := dk_182 0 167 (dk_at dksX4_culprits_2 6 rfl rfl)
theorem dX4_culprits_57 : decode cX4_culprits 57 = .ok (.ifCond .ne 5, 3) := dk_154 0 5 (dk_at dksX4_culprits_2 9 rfl rfl)
theorem dX4_culprits_60 : decode cX4_culprits 60 = .ok (.iconst (-1), 1) := dk_2 (dk_at dksX4_culprits_2 12 rfl rfl)
theorem dX4_culprits_61 : decode cX4_culprits 61 = .ok (.ireturn, 1) := dk_172 (dk_at dksX4_culprits_2 13 rfl rfl)
theorem dX4_culprits_62 : decode cX4_culprits 62 = .ok (.iinc 2 1, 3) := dk_132 2 1 (dk_at dksX4_culprits_2 14 rfl rfl)
theorem dX4_culprits_65 : decode cX4_culprits 65 = .ok (.goto (-42), 3) := dk_167 255 214 (dk_at dksX4_culprits_2 17 rfl rfl)
theorem dX4_culprits_68 : decode cX4_culprits 68 = .ok (.aload_n 0, 1) := dk_42 (dk_at dksX4_culprits_2 20 rfl rfl)
theorem dX4_culprits_69 : decode cX4_culprits 69 = .ok (.iconst 0, 1) := dk_3 (dk_at dksX4_culprits_2 21 rfl rfl)
theorem dX4_culprits_70 : decode cX4_culprits 70 = .ok (.invokevirtual 170, 3) := dk_182 0 170 (dk_at dksX4_culprits_3 0 rfl rfl)
theorem dX4_culprits_73 : decode cX4_culprits 73 = .ok (.iconst (-1), 1) := dk_2 (dk_at dksX4_culprits_3 3 rfl rfl)
theorem dX4_culprits_74 : decode cX4_culprits 74 = .ok (.istore_n 2, 1) := dk_61 (dk_at dksX4_culprits_3 4 rfl rfl)
theorem dX4_culprits_75 : decode cX4_culprits 75 = .ok (.iconst 0, 1) := dk_3 (dk_at dksX4_culprits_3 5 rfl rfl)
theorem dX4_culprits_76 : decode cX4_culprits 76 = .ok (.istore_n 3, 1) := dk_62 (dk_at dksX4_culprits_3 6 rfl rfl)
theorem dX4_culprits_77 : decode cX4_culprits 77 = .ok (.iload_n 3, 1) := dk_29 (dk_at dksX4_culprits_3 7 rfl rfl)
theorem dX4_culprits_78 : decode cX4_culprits 78 = .ok (.iconst 1, 1) := dk_4 (dk_at dksX4_culprits_3 8 rfl rfl)
theorem dX4_culprits_79 : decode cX4_culprits 79 = .ok (.aload_n 0, 1) := dk_42 (dk_at dksX4_culprits_3 9 rfl rfl)
theorem dX4_culprits_80 : decode cX4_culprits 80 = .ok (.getfield 24, 3) := dk_180 0 24 (dk_at dksX4_culprits_3 10 rfl rfl)
theorem dX4_culprits_83 : decode cX4_culprits 83 = .ok (.ishl, 1) := dk_120 (dk_at dksX4_culprits_3 13 rfl rfl)
theorem dX4_culprits_84 : decode cX4_culprits 84 = .ok (.if_icmp .ge 117, 3) := dk_162 0 117 (dk_at dksX4_culprits_3 14 rfl rfl)
theorem dX4_culprits_87 : decode cX4_culprits 87 = .ok (.iload_n 2, 1) := dk_28 (dk_at dksX4_culprits_3 17 rfl rfl)
theorem dX4_culprits_88 : decode cX4_culprits 88 = .ok (.iconst (-1), 1) := dk_2 (dk_at dksX4_culprits_3 18 rfl rfl)
theorem dX4_culprits_89 : decode cX4_culprits 89 = .ok (.if_icmp .eq 17, 3) := dk_159 0 17 (dk_at dksX4_culprits_3 19 rfl rfl)
theorem dX4_culprits_92 : decode cX4_culprits 92 = .ok (.iload_n 3, 1) := dk_29 (dk_at dksX4_culprits_3 22 rfl rfl)
theorem dX4_culprits_93 : decode cX4_culprits 93 = .ok (.invokestatic 388, 3) := dk_184 1 132 (dk_at dksX4_culprits_4 0 rfl rfl)
theorem dX4_culprits_96 : decode cX4_culprits 96 = .ok (.iload_n 2, 1) := dk_28 (dk_at dksX4_culprits_4 3 rfl rfl)
theorem dX4_culprits_97 : decode cX4_culprits 97 = .ok (.invokestatic 388, 3) := dk_184 1 132 (dk_at dksX4_culprits_4 4 rfl rfl)
theorem dX4_culprits_100 : decode cX4_culprits 100 = .ok (.if_icmp .lt 6, 3) := dk_161 0 6 (dk_at dksX4_culprits_4 7 rfl rfl)
theorem dX4_culprits_103 : decode cX4_culprits 103 = .ok (.goto 92, 3) := dk_167 0 92 (dk_at dksX4_culprits_4 10 rfl rfl)
theorem dX4_culprits_106 : decode cX4_culprits 106 = .ok (.iconst 1, 1) := dk_4 (dk_at dksX4_culprits_4 13 rfl rfl)
theorem dX4_culprits_107 : decode cX4_culprits 107 = .ok (.istore 4, 2) := dk_54 4 (dk_at dksX4_culprits_4 14 rfl rfl)
theorem dX4_culprits_109 : decode cX4_culprits 109 = .ok (.iconst 0, 1) := dk_3 (dk_at dksX4_culprits_4 16 rfl rfl)
theorem dX4_culprits_110 : decode cX4_culprits 110 = .ok (.istore 5, 2) := dk_54 5 (dk_at dksX4_culprits_4 17 rfl rfl)
theorem dX4_culprits_112 : decode cX4_culprits 112 = .ok (.iload 5, 2) := dk_21 5 (dk_at dksX4_culprits_4 19 rfl rfl)
theorem dX4_culprits_114 : decode cX4_culprits 114 = .ok (.aload_n 0, 1) := dk_42 (dk_at dksX4_culprits_4 21 rfl rfl)
theorem dX4_culprits_115 : decode cX4_culprits 115 = .ok (.getfield 119, 3) := dk_180 0 119 (dk_at dksX4_culprits_5 0 rfl rfl)
theorem dX4_culprits_118 : decode cX4_culprits 118 = .ok (.if_icmp .ge 66, 3) := dk_162 0 66 (dk_at dksX4_culprits_5 3 rfl rfl)
theorem dX4_culprits_121 : decode cX4_culprits 121 = .ok (.iload 4, 2) := dk_21 4 (dk_at dksX4_culprits_5 6 rfl rfl)
theorem dX4_culprits_123 : decode cX4_culprits 123 = .ok (.ifCond .eq 61, 3) := dk_153 0 61 (dk_at dksX4_culprits_5 8 rfl rfl)
theorem dX4_culprits_126 : decode cX4_culprits 126 = .ok (.iload_n 1, 1) := dk_27 (dk_at dksX4_culprits_5 11 rfl rfl)
theorem dX4_culprits_127 : decode cX4_culprits 127 = .ok (.iload 5, 2) := dk_21 5 (dk_at dksX4_culprits_5 12 rfl rfl)
theorem dX4_culprits_129 : decode cX4_culprits 129 = .ok (.invokestatic 179, 3) := dk_184 0 179 (dk_at dksX4_culprits_5 14 rfl rfl)
theorem dX4_culprits_132 : decode cX4_culprits 132 = .ok (.ifCond .eq 39, 3) := dk_153 0 39 (dk_at dksX4_culprits_5 17 rfl rfl)
theorem dX4_culprits_135 : decode cX4_culprits 135 = .ok (.aload_n 0, 1) := dk_42 (dk_at dksX4_culprits_5 20 rfl rfl)
theorem dX4_culprits_136 : decode cX4_culprits 136 = .ok (.aload_n 0, 1) := dk_42 (dk_at dksX4_culprits_5 21 rfl rfl)
theorem dX4_culprits_137 : decode cX4_culprits 137 = .ok (.iload 5, 2) := dk_21 5 (dk_at dksX4_culprits_5 22 rfl rfl)
theorem dX4_culprits_139 : decode cX4_culprits 139 = .ok (.iconst 2, 1) := dk_5 (dk_at dksX4_culprits_6 0 rfl rfl)
theorem dX4_culprits_140 : decode cX4_culprits 140 = .ok (.invokevirtual 363, 3) := dk_182 1 107 (dk_at dksX4_culprits_6 1 rfl rfl)
theorem dX4_culprits_143 : decode cX4_culprits 143 = .ok (.aload_n 0, 1) := dk_42 (dk_at dksX4_culprits_6 4 rfl rfl)
theorem dX4_culprits_144 : decode cX4_culprits 144 = .ok (.iload 5, 2) := dk_21 5 (dk_at dksX4_culprits_6 5 rfl rfl)
theorem dX4_culprits_146 : decode cX4_culprits 146 = .ok (.iconst 3, 1) := dk_6 (dk_at dksX4_culprits_6 7 rfl rfl)
theorem dX4_culprits_147 : decode cX4_culprits 147 = .ok (.invokevirtual 363, 3) := dk_182 1 107 (dk_at dksX4_culprits_6 8 rfl rfl)
theorem dX4_culprits_150 : decode cX4_culprits 150 = .ok (.iload_n 3, 1) := dk_29 (dk_at dksX4_culprits_6 11 rfl rfl)
theorem dX4_culprits_151 : decode cX4_culprits 151 = .ok (.aload_n 0, 1) := dk_42 (dk_at dksX4_culprits_6 12 rfl rfl)
theorem dX4_culprits_152 : decode cX4_culprits 152 = .ok (.iload 5, 2) := dk_21 5 (dk_at dksX4_culprits_6 13 rfl rfl)
theorem dX4_culprits_154 : decode cX4_culprits 154 = .ok (.iconst 4, 1) := dk_7 (dk_at dksX4_culprits_6 15 rfl rfl)
theorem dX4_culprits_155 : decode cX4_culprits 155 = .ok (.invokevirtual 363, 3) := dk_182 1 107 (dk_at dksX4_culprits_6 16 rfl rfl)
theorem dX4_culprits_158 : decode cX4_culprits 158 = .ok (.aload_n 0, 1) := dk_42 (dk_at dksX4_culprits_6 19 rfl rfl)
theorem dX4_culprits_159 : decode cX4_culprits 159 = .ok (.iload 5, 2) := dk_21 5 (dk_at dksX4_culprits_6 20 rfl rfl)
theorem dX4_culprits_161 : decode cX4_culprits 161 = .ok (.iconst 5, 1) := dk_8 (dk_at dksX4_culprits_6 22 rfl rfl)
theorem dX4_culprits_162 : decode cX4_culprits 162 = .ok (.invokevirtual 363, 3) := dk_182 1 107 (dk_at dksX4_culprits_7 0 rfl rfl)
theorem dX4_culprits_165 : decode cX4_culprits 165 = .ok (.invokevirtual 423, 3) := dk_182 1 167 (dk_at dksX4_culprits_7 3 rfl rfl)
theorem dX4_culprits_168 : decode cX4_culprits 168 = .ok (.ifCond .eq 7, 3) := dk_153 0 7 (dk_at dksX4_culprits_7 6 rfl rfl)
theorem dX4_culprits_171 : decode cX4_culprits 171 = .ok (.iconst 1, 1) := dk_4 (dk_at dksX4_culprits_7 9 rfl rfl)
theorem dX4_culprits_172 : decode cX4_culprits 172 = .ok (.goto 4, 3) := dk_167 0 4 (dk_at dksX4_culprits_7 10 rfl rfl)
theorem dX4_culprits_175 : decode cX4_culprits 175 = .ok (.iconst 0, 1) := dk_3 (dk_at dksX4_culprits_7 13 rfl rfl)
theorem dX4_culprits_176 : decode cX4_culprits 176 = .ok (.istore 4, 2) := dk_54 4 (dk_at dksX4_culprits_7 14 rfl rfl)
theorem dX4_culprits_178 : decode cX4_culprits 178 = .ok (.iinc 5 1, 3) := dk_132 5 1 (dk_at dksX4_culprits_7 16 rfl rfl)
theorem dX4_culprits_181 : decode cX4_culprits 181 = .ok (.goto (-69), 3) := dk_167 255 187 (dk_at dksX4_culprits_7 19 rfl rfl)
theorem dX4_culprits_184 : decode cX4_culprits 184 = .ok (.iload 4, 2) := dk_21 4 (dk_at dksX4_culprits_7 22 rfl rfl)
theorem dX4_culprits_186 : decode cX4_culprits 186 = .ok (.ifCond .eq 7, 3) := dk_153 0 7 (dk_at dksX4_culprits_8 0 rfl rfl)
theorem dX4_culprits_189 : decode cX4_culprits 189 = .ok (.iload_n 3, 1) := dk_29 (dk_at dksX4_culprits_8 3 rfl rfl)
theorem dX4_culprits_190 : decode cX4_culprits 190 = .ok (.goto 4, 3) := dk_167 0 4 (dk_at dksX4_culprits_8 4 rfl rfl)
theorem dX4_culprits_193 : decode cX4_culprits 193 = .ok (.iload_n 2, 1) := dk_28 (dk_at dksX4_culprits_8 7 rfl rfl)
theorem dX4_culprits_194 : decode cX4_culprits 194 = .ok (.istore_n 2, 1) := dk_61 (dk_at dksX4_culprits_8 8 rfl rfl)
theorem dX4_culprits_195 : decode cX4_culprits 195 = .ok (.iinc 3 1, 3) := dk_132 3 1 (dk_at dksX4_culprits_8 9 rfl rfl)
theorem dX4_culprits_198 : decode cX4_culprits 198 = .ok (.goto (-121), 3) := dk_167 255 135 (dk_at dksX4_culprits_8 12 rfl rfl)
theorem dX4_culprits_201 : decode cX4_culprits 201 = .ok (.iload_n 2, 1) := dk_28 (dk_at dksX4_culprits_8 15 rfl rfl)
theorem dX4_culprits_202 : decode cX4_culprits 202 = .ok (.ireturn, 1) := dk_172 (dk_at dksX4_culprits_8 16 rfl rfl)
abbrev cX4_hasPass : ByteArray := prog_26_method_85_code
def yX4_hasPass : MethodName := ⟨RX4, "hasPass", "(IIIII)Z"⟩
def dkwX4_hasPass_4 : List UInt8 := [54, 6, 132, 7, 1, 167, 255, 172, 21, 6, 28, 184, 0, 179, 172]
abbrev dktX4_hasPass_4 : List UInt8 := dkwX4_hasPass_4 ++ []
def dkwX4_hasPass_3 : List UInt8 := [21, 11, 21, 6, 126, 153, 0, 10, 21, 9, 21, 11, 128, 54, 9, 132, 10, 1, 167, 255, 214, 21, 9]
abbrev dktX4_hasPass_3 : List UInt8 := dkwX4_hasPass_3 ++ dktX4_hasPass_4
def dkwX4_hasPass_2 : List UInt8 := [21, 10, 5, 42, 180, 0, 24, 104, 162, 0, 37, 42, 29, 21, 10, 21, 7, 21, 8, 182, 1, 141, 54, 11]
abbrev dktX4_hasPass_2 : List UInt8 := dkwX4_hasPass_2 ++ dktX4_hasPass_3
def dkwX4_hasPass_1 : List UInt8 := [28, 184, 0, 179, 154, 0, 74, 42, 29, 21, 7, 182, 1, 138, 54, 8, 21, 6, 54, 9, 3, 54, 10]
abbrev dktX4_hasPass_1 : List UInt8 := dkwX4_hasPass_1 ++ dktX4_hasPass_2
def dkwX4_hasPass_0 : List UInt8 := [4, 42, 27, 21, 4, 182, 0, 173, 120, 54, 6, 21, 4, 54, 7, 21, 7, 21, 5, 163, 0, 83, 21, 6]
abbrev dktX4_hasPass_0 : List UInt8 := dkwX4_hasPass_0 ++ dktX4_hasPass_1
theorem dksX4_hasPass_0 : cX4_hasPass.data.toList.drop 0 = dktX4_hasPass_0 := by decide +kernel
theorem dksX4_hasPass_1 : cX4_hasPass.data.toList.drop 24 = dktX4_hasPass_1 := dk_seg dksX4_hasPass_0 24 rfl rfl
theorem dksX4_hasPass_2 : cX4_hasPass.data.toList.drop 47 = dktX4_hasPass_2 := dk_seg dksX4_hasPass_1 23 rfl rfl
theorem dksX4_hasPass_3 : cX4_hasPass.data.toList.drop 71 = dktX4_hasPass_3 := dk_seg dksX4_hasPass_2 24 rfl rfl
theorem dksX4_hasPass_4 : cX4_hasPass.data.toList.drop 94 = dktX4_hasPass_4 := dk_seg dksX4_hasPass_3 23 rfl rfl
theorem dX4_hasPass_0 : decode cX4_hasPass 0 = .ok (.iconst 1, 1) := dk_4 (dk_at dksX4_hasPass_0 0 rfl rfl)
theorem dX4_hasPass_1 : decode cX4_hasPass 1 = .ok (.aload_n 0, 1) := dk_42 (dk_at dksX4_hasPass_0 1 rfl rfl)
theorem dX4_hasPass_2 : decode cX4_hasPass 2 = .ok (.iload_n 1, 1) := dk_27 (dk_at dksX4_hasPass_0 2 rfl rfl)
theorem dX4_hasPass_3 : decode cX4_hasPass 3 = .ok (.iload 4, 2) := dk_21 4 (dk_at dksX4_hasPass_0 3 rfl rfl)
theorem dX4_hasPass_5 : decode cX4_hasPass 5 = .ok (.invokevirtual 173, 3) := dk_182 0 173 (dk_at dksX4_hasPass_0 5 rfl rfl)
theorem dX4_hasPass_8 : decode cX4_hasPass 8 = .ok (.ishl, 1) := dk_120 (dk_at dksX4_hasPass_0 8 rfl rfl)
theorem dX4_hasPass_9 : decode cX4_hasPass 9 = .ok (.istore 6, 2) := dk_54 6 (dk_at dksX4_hasPass_0 9 rfl rfl)
theorem dX4_hasPass_11 : decode cX4_hasPass 11 = .ok (.iload 4, 2) := dk_21 4 (dk_at dksX4_hasPass_0 11 rfl rfl)
theorem dX4_hasPass_13 : decode cX4_hasPass 13 = .ok (.istore 7, 2) := dk_54 7 (dk_at dksX4_hasPass_0 13 rfl rfl)
theorem dX4_hasPass_15 : decode cX4_hasPass 15 = .ok (.iload 7, 2) := dk_21 7 (dk_at dksX4_hasPass_0 15 rfl rfl)
theorem dX4_hasPass_17 : decode cX4_hasPass 17 = .ok (.iload 5, 2) := dk_21 5 (dk_at dksX4_hasPass_0 17 rfl rfl)
theorem dX4_hasPass_19 : decode cX4_hasPass 19 = .ok (.if_icmp .gt 83, 3) := dk_163 0 83 (dk_at dksX4_hasPass_0 19 rfl rfl)
theorem dX4_hasPass_22 : decode cX4_hasPass 22 = .ok (.iload 6, 2) := dk_21 6 (dk_at dksX4_hasPass_0 22 rfl rfl)
theorem dX4_hasPass_24 : decode cX4_hasPass 24 = .ok (.iload_n 2, 1) := dk_28 (dk_at dksX4_hasPass_1 0 rfl rfl)
theorem dX4_hasPass_25 : decode cX4_hasPass 25 = .ok (.invokestatic 179, 3) := dk_184 0 179 (dk_at dksX4_hasPass_1 1 rfl rfl)
theorem dX4_hasPass_28 : decode cX4_hasPass 28 = .ok (.ifCond .ne 74, 3) := dk_154 0 74 (dk_at dksX4_hasPass_1 4 rfl rfl)
theorem dX4_hasPass_31 : decode cX4_hasPass 31 = .ok (.aload_n 0, 1) := dk_42 (dk_at dksX4_hasPass_1 7 rfl rfl)
theorem dX4_hasPass_32 : decode cX4_hasPass 32 = .ok (.iload_n 3, 1) := dk_29 (dk_at dksX4_hasPass_1 8 rfl rfl)
theorem dX4_hasPass_33 : decode cX4_hasPass 33 = .ok (.iload 7, 2) := dk_21 7 (dk_at dksX4_hasPass_1 9 rfl rfl)
theorem dX4_hasPass_35 : decode cX4_hasPass 35 = .ok (.invokevirtual 394, 3) := dk_182 1 138 (dk_at dksX4_hasPass_1 11 rfl rfl)
theorem dX4_hasPass_38 : decode cX4_hasPass 38 = .ok (.istore 8, 2) := dk_54 8 (dk_at dksX4_hasPass_1 14 rfl rfl)
theorem dX4_hasPass_40 : decode cX4_hasPass 40 = .ok (.iload 6, 2) := dk_21 6 (dk_at dksX4_hasPass_1 16 rfl rfl)
theorem dX4_hasPass_42 : decode cX4_hasPass 42 = .ok (.istore 9, 2) := dk_54 9 (dk_at dksX4_hasPass_1 18 rfl rfl)
theorem dX4_hasPass_44 : decode cX4_hasPass 44 = .ok (.iconst 0, 1) := dk_3 (dk_at dksX4_hasPass_1 20 rfl rfl)
theorem dX4_hasPass_45 : decode cX4_hasPass 45 = .ok (.istore 10, 2) := dk_54 10 (dk_at dksX4_hasPass_1 21 rfl rfl)
theorem dX4_hasPass_47 : decode cX4_hasPass 47 = .ok (.iload 10, 2) := dk_21 10 (dk_at dksX4_hasPass_2 0 rfl rfl)
theorem dX4_hasPass_49 : decode cX4_hasPass 49 = .ok (.iconst 2, 1) := dk_5 (dk_at dksX4_hasPass_2 2 rfl rfl)
theorem dX4_hasPass_50 : decode cX4_hasPass 50 = .ok (.aload_n 0, 1) := dk_42 (dk_at dksX4_hasPass_2 3 rfl rfl)
theorem dX4_hasPass_51 : decode cX4_hasPass 51 = .ok (.getfield 24, 3) := dk_180 0 24 (dk_at dksX4_hasPass_2 4 rfl rfl)
theorem dX4_hasPass_54 : decode cX4_hasPass 54 = .ok (.imul, 1) := dk_104 (dk_at dksX4_hasPass_2 7 rfl rfl)
theorem dX4_hasPass_55 : decode cX4_hasPass 55 = .ok (.if_icmp .ge 37, 3) := dk_162 0 37 (dk_at dksX4_hasPass_2 8 rfl rfl)
theorem dX4_hasPass_58 : decode cX4_hasPass 58 = .ok (.aload_n 0, 1) := dk_42 (dk_at dksX4_hasPass_2 11 rfl rfl)
theorem dX4_hasPass_59 : decode cX4_hasPass 59 = .ok (.iload_n 3, 1) := dk_29 (dk_at dksX4_hasPass_2 12 rfl rfl)
theorem dX4_hasPass_60 : decode cX4_hasPass 60 = .ok (.iload 10, 2) := dk_21 10 (dk_at dksX4_hasPass_2 13 rfl rfl)
theorem dX4_hasPass_62 : decode cX4_hasPass 62 = .ok (.iload 7, 2) := dk_21 7 (dk_at dksX4_hasPass_2 15 rfl rfl)
theorem dX4_hasPass_64 : decode cX4_hasPass 64 = .ok (.iload 8, 2) := dk_21 8 (dk_at dksX4_hasPass_2 17 rfl rfl)
theorem dX4_hasPass_66 : decode cX4_hasPass 66 = .ok (.invokevirtual 397, 3) := dk_182 1 141 (dk_at dksX4_hasPass_2 19 rfl rfl)
theorem dX4_hasPass_69 : decode cX4_hasPass 69 = .ok (.istore 11, 2) := dk_54 11 (dk_at dksX4_hasPass_2 22 rfl rfl)
theorem dX4_hasPass_71 : decode cX4_hasPass 71 = .ok (.iload 11, 2) := dk_21 11 (dk_at dksX4_hasPass_3 0 rfl rfl)
theorem dX4_hasPass_73 : decode cX4_hasPass 73 = .ok (.iload 6, 2) := dk_21 6 (dk_at dksX4_hasPass_3 2 rfl rfl)
theorem dX4_hasPass_75 : decode cX4_hasPass 75 = .ok (.iand, 1) := dk_126 (dk_at dksX4_hasPass_3 4 rfl rfl)
theorem dX4_hasPass_76 : decode cX4_hasPass 76 = .ok (.ifCond .eq 10, 3) := dk_153 0 10 (dk_at dksX4_hasPass_3 5 rfl rfl)
theorem dX4_hasPass_79 : decode cX4_hasPass 79 = .ok (.iload 9, 2) := dk_21 9 (dk_at dksX4_hasPass_3 8 rfl rfl)
theorem dX4_hasPass_81 : decode cX4_hasPass 81 = .ok (.iload 11, 2) := dk_21 11 (dk_at dksX4_hasPass_3 10 rfl rfl)
theorem dX4_hasPass_83 : decode cX4_hasPass 83 = .ok (.ior, 1) := dk_128 (dk_at dksX4_hasPass_3 12 rfl rfl)
theorem dX4_hasPass_84 : decode cX4_hasPass 84 = .ok (.istore 9, 2) := dk_54 9 (dk_at dksX4_hasPass_3 13 rfl rfl)
theorem dX4_hasPass_86 : decode cX4_hasPass 86 = .ok (.iinc 10 1, 3) := dk_132 10 1 (dk_at dksX4_hasPass_3 15 rfl rfl)
theorem dX4_hasPass_89 : decode cX4_hasPass 89 = .ok (.goto (-42), 3) := dk_167 255 214 (dk_at dksX4_hasPass_3 18 rfl rfl)
theorem dX4_hasPass_92 : decode cX4_hasPass 92 = .ok (.iload 9, 2) := dk_21 9 (dk_at dksX4_hasPass_3 21 rfl rfl)
theorem dX4_hasPass_94 : decode cX4_hasPass 94 = .ok (.istore 6, 2) := dk_54 6 (dk_at dksX4_hasPass_4 0 rfl rfl)
theorem dX4_hasPass_96 : decode cX4_hasPass 96 = .ok (.iinc 7 1, 3) := dk_132 7 1 (dk_at dksX4_hasPass_4 2 rfl rfl)
theorem dX4_hasPass_99 : decode cX4_hasPass 99 = .ok (.goto (-84), 3) := dk_167 255 172 (dk_at dksX4_hasPass_4 5 rfl rfl)
theorem dX4_hasPass_102 : decode cX4_hasPass 102 = .ok (.iload 6, 2) := dk_21 6 (dk_at dksX4_hasPass_4 8 rfl rfl)
theorem dX4_hasPass_104 : decode cX4_hasPass 104 = .ok (.iload_n 2, 1) := dk_28 (dk_at dksX4_hasPass_4 10 rfl rfl)
theorem dX4_hasPass_105 : decode cX4_hasPass 105 = .ok (.invokestatic 179, 3) := dk_184 0 179 (dk_at dksX4_hasPass_4 11 rfl rfl)
theorem dX4_hasPass_108 : decode cX4_hasPass 108 = .ok (.ireturn, 1) := dk_172 (dk_at dksX4_hasPass_4 14 rfl rfl)
abbrev cX4_record : ByteArray := prog_26_method_93_code
def yX4_record : MethodName := ⟨RX4, "record", "(II)I"⟩
def dkwX4_record_6 : List UInt8 := [172]
abbrev dktX4_record_6 : List UInt8 := dkwX4_record_6 ++ []
def dkwX4_record_5 : List UInt8 := [21, 6, 153, 0, 12, 21, 5, 154, 0, 7, 4, 167, 0, 4, 3, 96, 62, 132, 4, 1, 167, 255, 152, 29]
abbrev dktX4_record_5 : List UInt8 := dkwX4_record_5 ++ dktX4_record_6
def dkwX4_record_4 : List UInt8 := [154, 0, 33, 28, 6, 160, 0, 13, 21, 5, 153, 0, 8, 21, 6, 153, 0, 18, 28, 7, 160, 0, 17]
abbrev dktX4_record_4 : List UInt8 := dkwX4_record_4 ++ dktX4_record_5
def dkwX4_record_3 : List UInt8 := [54, 6, 29, 28, 153, 0, 53, 28, 4, 160, 0, 8, 21, 5, 154, 0, 43, 28, 5, 160, 0, 8, 21, 6]
abbrev dktX4_record_3 : List UInt8 := dkwX4_record_3 ++ dktX4_record_4
def dkwX4_record_2 : List UInt8 := [182, 1, 107, 27, 159, 0, 6, 167, 0, 81, 42, 21, 4, 182, 1, 116, 54, 5, 42, 21, 4, 182, 1, 119]
abbrev dktX4_record_2 : List UInt8 := dkwX4_record_2 ++ dktX4_record_3
def dkwX4_record_1 : List UInt8 := [154, 0, 5, 2, 172, 3, 62, 3, 54, 4, 21, 4, 42, 180, 0, 119, 162, 0, 101, 42, 21, 4, 3]
abbrev dktX4_record_1 : List UInt8 := dkwX4_record_1 ++ dktX4_record_2
def dkwX4_record_0 : List UInt8 := [42, 3, 181, 0, 1, 42, 27, 182, 0, 147, 153, 0, 15, 28, 133, 9, 20, 1, 170, 184, 0, 140]
abbrev dktX4_record_0 : List UInt8 := dkwX4_record_0 ++ dktX4_record_1
theorem dksX4_record_0 : cX4_record.data.toList.drop 0 = dktX4_record_0 := by decide +kernel
theorem dksX4_record_1 : cX4_record.data.toList.drop 22 = dktX4_record_1 := dk_seg dksX4_record_0 22 rfl rfl
theorem dksX4_record_2 : cX4_record.data.toList.drop 45 = dktX4_record_2 := dk_seg dksX4_record_1 23 rfl rfl
theorem dksX4_record_3 : cX4_record.data.toList.drop 69 = dktX4_record_3 := dk_seg dksX4_record_2 24 rfl rfl
theorem dksX4_record_4 : cX4_record.data.toList.drop 93 = dktX4_record_4 := dk_seg dksX4_record_3 24 rfl rfl
theorem dksX4_record_5 : cX4_record.data.toList.drop 116 = dktX4_record_5 := dk_seg dksX4_record_4 23 rfl rfl
theorem dksX4_record_6 : cX4_record.data.toList.drop 140 = dktX4_record_6 := dk_seg dksX4_record_5 24 rfl rfl
theorem dX4_record_0 : decode cX4_record 0 = .ok (.aload_n 0, 1) := dk_42 (dk_at dksX4_record_0 0 rfl rfl)
theorem dX4_record_1 : decode cX4_record 1 = .ok (.iconst 0, 1) := dk_3 (dk_at dksX4_record_0 1 rfl rfl)
theorem dX4_record_2 : decode cX4_record 2 = .ok (.putfield 1, 3) := dk_181 0 1 (dk_at dksX4_record_0 2 rfl rfl)
theorem dX4_record_5 : decode cX4_record 5 = .ok (.aload_n 0, 1) := dk_42 (dk_at dksX4_record_0 5 rfl rfl)
theorem dX4_record_6 : decode cX4_record 6 = .ok (.iload_n 1, 1) := dk_27 (dk_at dksX4_record_0 6 rfl rfl)
theorem dX4_record_7 : decode cX4_record 7 = .ok (.invokevirtual 147, 3) := dk_182 0 147 (dk_at dksX4_record_0 7 rfl rfl)
theorem dX4_record_10 : decode cX4_record 10 = .ok (.ifCond .eq 15, 3) := dk_153 0 15 (dk_at dksX4_record_0 10 rfl rfl)
theorem dX4_record_13 : decode cX4_record 13 = .ok (.iload_n 2, 1) := dk_28 (dk_at dksX4_record_0 13 rfl rfl)
theorem dX4_record_14 : decode cX4_record 14 = .ok (.i2l, 1) := dk_133 (dk_at dksX4_record_0 14 rfl rfl)
theorem dX4_record_15 : decode cX4_record 15 = .ok (.lconst 0, 1) := dk_9 (dk_at dksX4_record_0 15 rfl rfl)
theorem dX4_record_16 : decode cX4_record 16 = .ok (.ldc2_w 426, 3) := dk_20 1 170 (dk_at dksX4_record_0 16 rfl rfl)
theorem dX4_record_19 : decode cX4_record 19 = .ok (.invokestatic 140, 3) := dk_184 0 140 (dk_at dksX4_record_0 19 rfl rfl)
theorem dX4_record_22 : decode cX4_record 22 = .ok (.ifCond .ne 5, 3) := dk_154 0 5 (dk_at dksX4_record_1 0 rfl rfl)
theorem dX4_record_25 : decode cX4_record 25 = .ok (.iconst (-1), 1) := dk_2 (dk_at dksX4_record_1 3 rfl rfl)
theorem dX4_record_26 : decode cX4_record 26 = .ok (.ireturn, 1) := dk_172 (dk_at dksX4_record_1 4 rfl rfl)
theorem dX4_record_27 : decode cX4_record 27 = .ok (.iconst 0, 1) := dk_3 (dk_at dksX4_record_1 5 rfl rfl)
theorem dX4_record_28 : decode cX4_record 28 = .ok (.istore_n 3, 1) := dk_62 (dk_at dksX4_record_1 6 rfl rfl)
theorem dX4_record_29 : decode cX4_record 29 = .ok (.iconst 0, 1) := dk_3 (dk_at dksX4_record_1 7 rfl rfl)
theorem dX4_record_30 : decode cX4_record 30 = .ok (.istore 4, 2) := dk_54 4 (dk_at dksX4_record_1 8 rfl rfl)
theorem dX4_record_32 : decode cX4_record 32 = .ok (.iload 4, 2) := dk_21 4 (dk_at dksX4_record_1 10 rfl rfl)
theorem dX4_record_34 : decode cX4_record 34 = .ok (.aload_n 0, 1) := dk_42 (dk_at dksX4_record_1 12 rfl rfl)
theorem dX4_record_35 : decode cX4_record 35 = .ok (.getfield 119, 3) := dk_180 0 119 (dk_at dksX4_record_1 13 rfl rfl)
theorem dX4_record_38 : decode cX4_record 38 = .ok (.if_icmp .ge 101, 3) := dk_162 0 101 (dk_at dksX4_record_1 16 rfl rfl)
theorem dX4_record_41 : decode cX4_record 41 = .ok (.aload_n 0, 1) := dk_42 (dk_at dksX4_record_1 19 rfl rfl)
theorem dX4_record_42 : decode cX4_record 42 = .ok (.iload 4, 2) := dk_21 4 (dk_at dksX4_record_1 20 rfl rfl)
theorem dX4_record_44 : decode cX4_record 44 = .ok (.iconst 0, 1) := dk_3 (dk_at dksX4_record_1 22 rfl rfl)
theorem dX4_record_45 : decode cX4_record 45 = .ok (.invokevirtual 363, 3) := dk_182 1 107 (dk_at dksX4_record_2 0 rfl rfl)
theorem dX4_record_48 : decode cX4_record 48 = .ok (.iload_n 1, 1) := dk_27 (dk_at dksX4_record_2 3 rfl rfl)
theorem dX4_record_49 : decode cX4_record 49 = .ok (.if_icmp .eq 6, 3) := dk_159 0 6 (dk_at dksX4_record_2 4 rfl rfl)
theorem dX4_record_52 : decode cX4_record 52 = .ok (.goto 81, 3) := dk_167 0 81 (dk_at dksX4_record_2 7 rfl rfl)
theorem dX4_record_55 : decode cX4_record 55 = .ok (.aload_n 0, 1) := dk_42 (dk_at dksX4_record_2 10 rfl rfl)
theorem dX4_record_56 : decode cX4_record 56 = .ok (.iload 4, 2) := dk_21 4 (dk_at dksX4_record_2 11 rfl rfl)
theorem dX4_record_58 : decode cX4_record 58 = .ok (.invokevirtual 372, 3) := dk_182 1 116 (dk_at dksX4_record_2 13 rfl rfl)
theorem dX4_record_61 : decode cX4_record 61 = .ok (.istore 5, 2) := dk_54 5 (dk_at dksX4_record_2 16 rfl rfl)
theorem dX4_record_63 : decode cX4_record 63 = .ok (.aload_n 0, 1) := dk_42 (dk_at dksX4_record_2 18 rfl rfl)
theorem dX4_record_64 : decode cX4_record 64 = .ok (.iload 4, 2) := dk_21 4 (dk_at dksX4_record_2 19 rfl rfl)
theorem dX4_record_66 : decode cX4_record 66 = .ok (.invokevirtual 375, 3) := dk_182 1 119 (dk_at dksX4_record_2 21 rfl rfl)
theorem dX4_record_69 : decode cX4_record 69 = .ok (.istore 6, 2) := dk_54 6 (dk_at dksX4_record_3 0 rfl rfl)
theorem dX4_record_71 : decode cX4_record 71 = .ok (.iload_n 3, 1) := dk_29 (dk_at dksX4_record_3 2 rfl rfl)
theorem dX4_record_72 : decode cX4_record 72 = .ok (.iload_n 2, 1) := dk_28 (dk_at dksX4_record_3 3 rfl rfl)
theorem dX4_record_73 : decode cX4_record 73 = .ok (.ifCond .eq 53, 3) := dk_153 0 53 (dk_at dksX4_record_3 4 rfl rfl)
theorem dX4_record_76 : decode cX4_record 76 = .ok (.iload_n 2, 1) := dk_28 (dk_at dksX4_record_3 7 rfl rfl)
theorem dX4_record_77 : decode cX4_record 77 = .ok (.iconst 1, 1) := dk_4 (dk_at dksX4_record_3 8 rfl rfl)
theorem dX4_record_78 : decode cX4_record 78 = .ok (.if_icmp .ne 8, 3) := dk_160 0 8 (dk_at dksX4_record_3 9 rfl rfl)
theorem dX4_record_81 : decode cX4_record 81 = .ok (.iload 5, 2) := dk_21 5 (dk_at dksX4_record_3 12 rfl rfl)
theorem dX4_record_83 : decode cX4_record 83 = .ok (.ifCond .ne 43, 3) := dk_154 0 43 (dk_at dksX4_record_3 14 rfl rfl)
theorem dX4_record_86 : decode cX4_record 86 = .ok (.iload_n 2, 1) := dk_28 (dk_at dksX4_record_3 17 rfl rfl)
theorem dX4_record_87 : decode cX4_record 87 = .ok (.iconst 2, 1) := dk_5 (dk_at dksX4_record_3 18 rfl rfl)
theorem dX4_record_88 : decode cX4_record 88 = .ok (.if_icmp .ne 8, 3) := dk_160 0 8 (dk_at dksX4_record_3 19 rfl rfl)
theorem dX4_record_91 : decode cX4_record 91 = .ok (.iload 6, 2) := dk_21 6 (dk_at dksX4_record_3 22 rfl rfl)
theorem dX4_record_93 : decode cX4_record 93 = .ok (.ifCond .ne 33, 3) := dk_154 0 33 (dk_at dksX4_record_4 0 rfl rfl)
theorem dX4_record_96 : decode cX4_record 96 = .ok (.iload_n 2, 1) := dk_28 (dk_at dksX4_record_4 3 rfl rfl)
theorem dX4_record_97 : decode cX4_record 97 = .ok (.iconst 3, 1) := dk_6 (dk_at dksX4_record_4 4 rfl rfl)
theorem dX4_record_98 : decode cX4_record 98 = .ok (.if_icmp .ne 13, 3) := dk_160 0 13 (dk_at dksX4_record_4 5 rfl rfl)
theorem dX4_record_101 : decode cX4_record 101 = .ok (.iload 5, 2) := dk_21 5 (dk_at dksX4_record_4 8 rfl rfl)
theorem dX4_record_103 : decode cX4_record 103 = .ok (.ifCond .eq 8, 3) := dk_153 0 8 (dk_at dksX4_record_4 10 rfl rfl)
theorem dX4_record_106 : decode cX4_record 106 = .ok (.iload 6, 2) := dk_21 6 (dk_at dksX4_record_4 13 rfl rfl)
theorem dX4_record_108 : decode cX4_record 108 = .ok (.ifCond .eq 18, 3) := dk_153 0 18 (dk_at dksX4_record_4 15 rfl rfl)
theorem dX4_record_111 : decode cX4_record 111 = .ok (.iload_n 2, 1) := dk_28 (dk_at dksX4_record_4 18 rfl rfl)
theorem dX4_record_112 : decode cX4_record 112 = .ok (.iconst 4, 1) := dk_7 (dk_at dksX4_record_4 19 rfl rfl)
theorem dX4_record_113 : decode cX4_record 113 = .ok (.if_icmp .ne 17, 3) := dk_160 0 17 (dk_at dksX4_record_4 20 rfl rfl)
theorem dX4_record_116 : decode cX4_record 116 = .ok (.iload 6, 2) := dk_21 6 (dk_at dksX4_record_5 0 rfl rfl)
theorem dX4_record_118 : decode cX4_record 118 = .ok (.ifCond .eq 12, 3) := dk_153 0 12 (dk_at dksX4_record_5 2 rfl rfl)
theorem dX4_record_121 : decode cX4_record 121 = .ok (.iload 5, 2) := dk_21 5 (dk_at dksX4_record_5 5 rfl rfl)
theorem dX4_record_123 : decode cX4_record 123 = .ok (.ifCond .ne 7, 3) := dk_154 0 7 (dk_at dksX4_record_5 7 rfl rfl)
theorem dX4_record_126 : decode cX4_record 126 = .ok (.iconst 1, 1) := dk_4 (dk_at dksX4_record_5 10 rfl rfl)
theorem dX4_record_127 : decode cX4_record 127 = .ok (.goto 4, 3) := dk_167 0 4 (dk_at dksX4_record_5 11 rfl rfl)
theorem dX4_record_130 : decode cX4_record 130 = .ok (.iconst 0, 1) := dk_3 (dk_at dksX4_record_5 14 rfl rfl)
theorem dX4_record_131 : decode cX4_record 131 = .ok (.iadd, 1) := dk_96 (dk_at dksX4_record_5 15 rfl rfl)
theorem dX4_record_132 : decode cX4_record 132 = .ok (.istore_n 3, 1) := dk_62 (dk_at dksX4_record_5 16 rfl rfl)
theorem dX4_record_133 : decode cX4_record 133 = .ok (.iinc 4 1, 3) := dk_132 4 1 (dk_at dksX4_record_5 17 rfl rfl)
theorem dX4_record_136 : decode cX4_record 136 = .ok (.goto (-104), 3) := dk_167 255 152 (dk_at dksX4_record_5 20 rfl rfl)
theorem dX4_record_139 : decode cX4_record 139 = .ok (.iload_n 3, 1) := dk_29 (dk_at dksX4_record_5 23 rfl rfl)
theorem dX4_record_140 : decode cX4_record 140 = .ok (.ireturn, 1) := dk_172 (dk_at dksX4_record_6 0 rfl rfl)
abbrev cX4_control : ByteArray := prog_26_method_94_code
def yX4_control : MethodName := ⟨RX4, "control", "(IIIIII)I"⟩
def dkwX4_control_8 : List UInt8 := [181, 0, 122, 42, 180, 0, 122, 4, 100, 172]
abbrev dktX4_control_8 : List UInt8 := dkwX4_control_8 ++ []
def dkwX4_control_7 : List UInt8 := [180, 0, 122, 21, 5, 79, 42, 180, 0, 100, 42, 180, 0, 122, 21, 6, 79, 42, 89, 180, 0, 122, 4, 96]
abbrev dktX4_control_7 : List UInt8 := dkwX4_control_7 ++ dktX4_control_8
def dkwX4_control_6 : List UInt8 := [42, 180, 0, 122, 29, 79, 42, 180, 0, 94, 42, 180, 0, 122, 21, 4, 79, 42, 180, 0, 97, 42]
abbrev dktX4_control_6 : List UInt8 := dkwX4_control_6 ++ dktX4_control_7
def dkwX4_control_5 : List UInt8 := [42, 180, 0, 85, 42, 180, 0, 122, 27, 79, 42, 180, 0, 88, 42, 180, 0, 122, 28, 79, 42, 180, 0, 91]
abbrev dktX4_control_5 : List UInt8 := dkwX4_control_5 ++ dktX4_control_6
def dkwX4_control_4 : List UInt8 := [154, 0, 9, 42, 5, 182, 0, 156, 172, 42, 180, 0, 122, 16, 8, 160, 0, 9, 42, 6, 182, 0, 156, 172]
abbrev dktX4_control_4 : List UInt8 := dkwX4_control_4 ++ dktX4_control_5
def dkwX4_control_3 : List UInt8 := [153, 0, 26, 21, 4, 21, 5, 184, 0, 150, 153, 0, 16, 21, 6, 133, 10, 20, 1, 172, 184, 0, 140]
abbrev dktX4_control_3 : List UInt8 := dkwX4_control_3 ++ dktX4_control_4
def dkwX4_control_2 : List UInt8 := [154, 0, 9, 42, 4, 182, 0, 156, 172, 27, 4, 160, 0, 15, 29, 133, 9, 20, 0, 138, 184, 0, 140]
abbrev dktX4_control_2 : List UInt8 := dkwX4_control_2 ++ dktX4_control_3
def dkwX4_control_1 : List UInt8 := [182, 0, 160, 153, 0, 24, 27, 5, 160, 0, 25, 42, 28, 182, 0, 147, 153, 0, 11, 42, 29, 182, 0, 153]
abbrev dktX4_control_1 : List UInt8 := dkwX4_control_1 ++ dktX4_control_2
def dkwX4_control_0 : List UInt8 := [42, 3, 181, 0, 1, 27, 133, 9, 20, 0, 200, 184, 0, 140, 153, 0, 36, 27, 154, 0, 11, 42, 28]
abbrev dktX4_control_0 : List UInt8 := dkwX4_control_0 ++ dktX4_control_1
theorem dksX4_control_0 : cX4_control.data.toList.drop 0 = dktX4_control_0 := by decide +kernel
theorem dksX4_control_1 : cX4_control.data.toList.drop 23 = dktX4_control_1 := dk_seg dksX4_control_0 23 rfl rfl
theorem dksX4_control_2 : cX4_control.data.toList.drop 47 = dktX4_control_2 := dk_seg dksX4_control_1 24 rfl rfl
theorem dksX4_control_3 : cX4_control.data.toList.drop 70 = dktX4_control_3 := dk_seg dksX4_control_2 23 rfl rfl
theorem dksX4_control_4 : cX4_control.data.toList.drop 93 = dktX4_control_4 := dk_seg dksX4_control_3 23 rfl rfl
theorem dksX4_control_5 : cX4_control.data.toList.drop 117 = dktX4_control_5 := dk_seg dksX4_control_4 24 rfl rfl
theorem dksX4_control_6 : cX4_control.data.toList.drop 141 = dktX4_control_6 := dk_seg dksX4_control_5 24 rfl rfl
theorem dksX4_control_7 : cX4_control.data.toList.drop 163 = dktX4_control_7 := dk_seg dksX4_control_6 22 rfl rfl
theorem dksX4_control_8 : cX4_control.data.toList.drop 187 = dktX4_control_8 := dk_seg dksX4_control_7 24 rfl rfl
theorem dX4_control_0 : decode cX4_control 0 = .ok (.aload_n 0, 1) := dk_42 (dk_at dksX4_control_0 0 rfl rfl)
theorem dX4_control_1 : decode cX4_control 1 = .ok (.iconst 0, 1) := dk_3 (dk_at dksX4_control_0 1 rfl rfl)
theorem dX4_control_2 : decode cX4_control 2 = .ok (.putfield 1, 3) := dk_181 0 1 (dk_at dksX4_control_0 2 rfl rfl)
theorem dX4_control_5 : decode cX4_control 5 = .ok (.iload_n 1, 1) := dk_27 (dk_at dksX4_control_0 5 rfl rfl)
theorem dX4_control_6 : decode cX4_control 6 = .ok (.i2l, 1) := dk_133 (dk_at dksX4_control_0 6 rfl rfl)
theorem dX4_control_7 : decode cX4_control 7 = .ok (.lconst 0, 1) := dk_9 (dk_at dksX4_control_0 7 rfl rfl)
theorem dX4_control_8 : decode cX4_control 8 = .ok (.ldc2_w 200, 3) := dk_20 0 200 (dk_at dksX4_control_0 8 rfl rfl)
theorem dX4_control_11 : decode cX4_control 11 = .ok (.invokestatic 140, 3) := dk_184 0 140 (dk_at dksX4_control_0 11 rfl rfl)
theorem dX4_control_14 : decode cX4_control 14 = .ok (.ifCond .eq 36, 3) := dk_153 0 36 (dk_at dksX4_control_0 14 rfl rfl)
theorem dX4_control_17 : decode cX4_control 17 = .ok (.iload_n 1, 1) := dk_27 (dk_at dksX4_control_0 17 rfl rfl)
theorem dX4_control_18 : decode cX4_control 18 = .ok (.ifCond .ne 11, 3) := dk_154 0 11 (dk_at dksX4_control_0 18 rfl rfl)
theorem dX4_control_21 : decode cX4_control 21 = .ok (.aload_n 0, 1) := dk_42 (dk_at dksX4_control_0 21 rfl rfl)
theorem dX4_control_22 : decode cX4_control 22 = .ok (.iload_n 2, 1) := dk_28 (dk_at dksX4_control_0 22 rfl rfl)
theorem dX4_control_23 : decode cX4_control 23 = .ok (.invokevirtual 160, 3) := dk_182 0 160 (dk_at dksX4_control_1 0 rfl rfl)
theorem dX4_control_26 : decode cX4_control 26 = .ok (.ifCond .eq 24, 3) := dk_153 0 24 (dk_at dksX4_control_1 3 rfl rfl)
theorem dX4_control_29 : decode cX4_control 29 = .ok (.iload_n 1, 1) := dk_27 (dk_at dksX4_control_1 6 rfl rfl)
theorem dX4_control_30 : decode cX4_control 30 = .ok (.iconst 2, 1) := dk_5 (dk_at dksX4_control_1 7 rfl rfl)
theorem dX4_control_31 : decode cX4_control 31 = .ok (.if_icmp .ne 25, 3) := dk_160 0 25 (dk_at dksX4_control_1 8 rfl rfl)
theorem dX4_control_34 : decode cX4_control 34 = .ok (.aload_n 0, 1) := dk_42 (dk_at dksX4_control_1 11 rfl rfl)
theorem dX4_control_35 : decode cX4_control 35 = .ok (.iload_n 2, 1) := dk_28 (dk_at dksX4_control_1 12 rfl rfl)
theorem dX4_control_36 : decode cX4_control 36 = .ok (.invokevirtual 147, 3) := dk_182 0 147 (dk_at dksX4_control_1 13 rfl rfl)
theorem dX4_control_39 : decode cX4_control 39 = .ok (.ifCond .eq 11, 3) := dk_153 0 11 (dk_at dksX4_control_1 16 rfl rfl)
theorem dX4_control_42 : decode cX4_control 42 = .ok (.aload_n 0, 1) := dk_42 (dk_at dksX4_control_1 19 rfl rfl)
theorem dX4_control_43 : decode cX4_control 43 = .ok (.iload_n 3, 1) := dk_29 (dk_at dksX4_control_1 20 rfl rfl)
theorem dX4_control_44 : decode cX4_control 44 = .ok (.invokevirtual 153, 3) := dk_182 0 153 (dk_at dksX4_control_1 21 rfl rfl)
theorem dX4_control_47 : decode cX4_control 47 = .ok (.ifCond .ne 9, 3) := dk_154 0 9 (dk_at dksX4_control_2 0 rfl rfl)
theorem dX4_control_50 : decode cX4_control 50 = .ok (.aload_n 0, 1) := dk_42 (dk_at dksX4_control_2 3 rfl rfl)
theorem dX4_control_51 : decode cX4_control 51 = .ok (.iconst 1, 1) := dk_4 (dk_at dksX4_control_2 4 rfl rfl)
theorem dX4_control_52 : decode cX4_control 52 = .ok (.invokevirtual 156, 3) := dk_182 0 156 (dk_at dksX4_control_2 5 rfl rfl)
theorem dX4_control_55 : decode cX4_control 55 = .ok (.ireturn, 1) := dk_172 (dk_at dksX4_control_2 8 rfl rfl)
theorem dX4_control_56 : decode cX4_control 56 = .ok (.iload_n 1, 1) := dk_27 (dk_at dksX4_control_2 9 rfl rfl)
theorem dX4_control_57 : decode cX4_control 57 = .ok (.iconst 1, 1) := dk_4 (dk_at dksX4_control_2 10 rfl rfl)
theorem dX4_control_58 : decode cX4_control 58 = .ok (.if_icmp .ne 15, 3) := dk_160 0 15 (dk_at dksX4_control_2 11 rfl rfl)
theorem dX4_control_61 : decode cX4_control 61 = .ok (.iload_n 3, 1) := dk_29 (dk_at dksX4_control_2 14 rfl rfl)
theorem dX4_control_62 : decode cX4_control 62 = .ok (.i2l, 1) := dk_133 (dk_at dksX4_control_2 15 rfl rfl)
theorem dX4_control_63 : decode cX4_control 63 = .ok (.lconst 0, 1) := dk_9 (dk_at dksX4_control_2 16 rfl rfl)
theorem dX4_control_64 : decode cX4_control 64 = .ok (.ldc2_w 138, 3) := dk_20 0 138 (dk_at dksX4_control_2 17 rfl rfl)
theorem dX4_control_67 : decode cX4_control 67 = .ok (.invokestatic 140, 3) := dk_184 0 140 (dk_at dksX4_control_2 20 rfl rfl)
theorem dX4_control_70 : decode cX4_control 70 = .ok (.ifCond .eq 26, 3) := dk_153 0 26 (dk_at dksX4_control_3 0 rfl rfl)
theorem dX4_control_73 : decode cX4_control 73 = .ok (.iload 4, 2) := dk_21 4 (dk_at dksX4_control_3 3 rfl rfl)
theorem dX4_control_75 : decode cX4_control 75 = .ok (.iload 5, 2) := dk_21 5 (dk_at dksX4_control_3 5 rfl rfl)
theorem dX4_control_77 : decode cX4_control 77 = .ok (.invokestatic 150, 3) := dk_184 0 150 (dk_at dksX4_control_3 7 rfl rfl)
theorem dX4_control_80 : decode cX4_control 80 = .ok (.ifCond .eq 16, 3) := dk_153 0 16 (dk_at dksX4_control_3 10 rfl rfl)
theorem dX4_control_83 : decode cX4_control 83 = .ok (.iload 6, 2) := dk_21 6 (dk_at dksX4_control_3 13 rfl rfl)
theorem dX4_control_85 : decode cX4_control 85 = .ok (.i2l, 1) := dk_133 (dk_at dksX4_control_3 15 rfl rfl)
theorem dX4_control_86 : decode cX4_control 86 = .ok (.lconst 1, 1) := dk_10 (dk_at dksX4_control_3 16 rfl rfl)
theorem dX4_control_87 : decode cX4_control 87 = .ok (.ldc2_w 428, 3) := dk_20 1 172 (dk_at dksX4_control_3 17 rfl rfl)
theorem dX4_control_90 : decode cX4_control 90 = .ok (.invokestatic 140, 3) := dk_184 0 140 (dk_at dksX4_control_3 20 rfl rfl)
theorem dX4_control_93 : decode cX4_control 93 = .ok (.ifCond .ne 9, 3) := dk_154 0 9 (dk_at dksX4_control_4 0 rfl rfl)
theorem dX4_control_96 : decode cX4_control 96 = .ok (.aload_n 0, 1) := dk_42 (dk_at dksX4_control_4 3 rfl rfl)
theorem dX4_control_97 : decode cX4_control 97 = .ok (.iconst 2, 1) := dk_5 (dk_at dksX4_control_4 4 rfl rfl)
theorem dX4_control_98 : decode cX4_control 98 = .ok (.invokevirtual 156, 3) := dk_182 0 156 (dk_at dksX4_control_4 5 rfl rfl)
theorem dX4_control_101 : decode cX4_control 101 = .ok (.ireturn, 1) := dk_172 (dk_at dksX4_control_4 8 rfl rfl)
theorem dX4_control_102 : decode cX4_control 102 = .ok (.aload_n 0, 1) := dk_42 (dk_at dksX4_control_4 9 rfl rfl)
theorem dX4_control_103 : decode cX4_control 103 = .ok (.getfield 122, 3) := dk_180 0 122 (dk_at dksX4_control_4 10 rfl rfl)
theorem dX4_control_106 : decode cX4_control 106 = .ok (.bipush 8, 2) := dk_16 8 (dk_at dksX4_control_4 13 rfl rfl)
theorem dX4_control_108 : decode cX4_control 108 = .ok (.if_icmp .ne 9, 3) := dk_160 0 9 (dk_at dksX4_control_4 15 rfl rfl)
theorem dX4_control_111 : decode cX4_control 111 = .ok (.aload_n 0, 1) := dk_42 (dk_at dksX4_control_4 18 rfl rfl)
theorem dX4_control_112 : decode cX4_control 112 = .ok (.iconst 3, 1) := dk_6 (dk_at dksX4_control_4 19 rfl rfl)
theorem dX4_control_113 : decode cX4_control 113 = .ok (.invokevirtual 156, 3) := dk_182 0 156 (dk_at dksX4_control_4 20 rfl rfl)
theorem dX4_control_116 : decode cX4_control 116 = .ok (.ireturn, 1) := dk_172 (dk_at dksX4_control_4 23 rfl rfl)
theorem dX4_control_117 : decode cX4_control 117 = .ok (.aload_n 0, 1) := dk_42 (dk_at dksX4_control_5 0 rfl rfl)
theorem dX4_control_118 : decode cX4_control 118 = .ok (.getfield 85, 3) := dk_180 0 85 (dk_at dksX4_control_5 1 rfl rfl)
theorem dX4_control_121 : decode cX4_control 121 = .ok (.aload_n 0, 1) := dk_42 (dk_at dksX4_control_5 4 rfl rfl)
theorem dX4_control_122 : decode cX4_control 122 = .ok (.getfield 122, 3) := dk_180 0 122 (dk_at dksX4_control_5 5 rfl rfl)
theorem dX4_control_125 : decode cX4_control 125 = .ok (.iload_n 1, 1) := dk_27 (dk_at dksX4_control_5 8 rfl rfl)
theorem dX4_control_126 : decode cX4_control 126 = .ok (.iastore, 1) := dk_79 (dk_at dksX4_control_5 9 rfl rfl)
theorem dX4_control_127 : decode cX4_control 127 = .ok (.aload_n 0, 1) := dk_42 (dk_at dksX4_control_5 10 rfl rfl)
theorem dX4_control_128 : decode cX4_control 128 = .ok (.getfield 88, 3) := dk_180 0 88 (dk_at dksX4_control_5 11 rfl rfl)
theorem dX4_control_131 : decode cX4_control 131 = .ok (.aload_n 0, 1) := dk_42 (dk_at dksX4_control_5 14 rfl rfl)
theorem dX4_control_132 : decode cX4_control 132 = .ok (.getfield 122, 3) := dk_180 0 122 (dk_at dksX4_control_5 15 rfl rfl)
theorem dX4_control_135 : decode cX4_control 135 = .ok (.iload_n 2, 1) := dk_28 (dk_at dksX4_control_5 18 rfl rfl)
theorem dX4_control_136 : decode cX4_control 136 = .ok (.iastore, 1) := dk_79 (dk_at dksX4_control_5 19 rfl rfl)
theorem dX4_control_137 : decode cX4_control 137 = .ok (.aload_n 0, 1) := dk_42 (dk_at dksX4_control_5 20 rfl rfl)
theorem dX4_control_138 : decode cX4_control 138 = .ok (.getfield 91, 3) := dk_180 0 91 (dk_at dksX4_control_5 21 rfl rfl)
theorem dX4_control_141 : decode cX4_control 141 = .ok (.aload_n 0, 1) := dk_42 (dk_at dksX4_control_6 0 rfl rfl)
theorem dX4_control_142 : decode cX4_control 142 = .ok (.getfield 122, 3) := dk_180 0 122 (dk_at dksX4_control_6 1 rfl rfl)
theorem dX4_control_145 : decode cX4_control 145 = .ok (.iload_n 3, 1) := dk_29 (dk_at dksX4_control_6 4 rfl rfl)
theorem dX4_control_146 : decode cX4_control 146 = .ok (.iastore, 1) := dk_79 (dk_at dksX4_control_6 5 rfl rfl)
theorem dX4_control_147 : decode cX4_control 147 = .ok (.aload_n 0, 1) := dk_42 (dk_at dksX4_control_6 6 rfl rfl)
theorem dX4_control_148 : decode cX4_control 148 = .ok (.getfield 94, 3) := dk_180 0 94 (dk_at dksX4_control_6 7 rfl rfl)
theorem dX4_control_151 : decode cX4_control 151 = .ok (.aload_n 0, 1) := dk_42 (dk_at dksX4_control_6 10 rfl rfl)
theorem dX4_control_152 : decode cX4_control 152 = .ok (.getfield 122, 3) := dk_180 0 122 (dk_at dksX4_control_6 11 rfl rfl)
theorem dX4_control_155 : decode cX4_control 155 = .ok (.iload 4, 2) := dk_21 4 (dk_at dksX4_control_6 14 rfl rfl)
theorem dX4_control_157 : decode cX4_control 157 = .ok (.iastore, 1) := dk_79 (dk_at dksX4_control_6 16 rfl rfl)
theorem dX4_control_158 : decode cX4_control 158 = .ok (.aload_n 0, 1) := dk_42 (dk_at dksX4_control_6 17 rfl rfl)
theorem dX4_control_159 : decode cX4_control 159 = .ok (.getfield 97, 3) := dk_180 0 97 (dk_at dksX4_control_6 18 rfl rfl)
theorem dX4_control_162 : decode cX4_control 162 = .ok (.aload_n 0, 1) := dk_42 (dk_at dksX4_control_6 21 rfl rfl)
theorem dX4_control_163 : decode cX4_control 163 = .ok (.getfield 122, 3) := dk_180 0 122 (dk_at dksX4_control_7 0 rfl rfl)
theorem dX4_control_166 : decode cX4_control 166 = .ok (.iload 5, 2) := dk_21 5 (dk_at dksX4_control_7 3 rfl rfl)
theorem dX4_control_168 : decode cX4_control 168 = .ok (.iastore, 1) := dk_79 (dk_at dksX4_control_7 5 rfl rfl)
theorem dX4_control_169 : decode cX4_control 169 = .ok (.aload_n 0, 1) := dk_42 (dk_at dksX4_control_7 6 rfl rfl)
theorem dX4_control_170 : decode cX4_control 170 = .ok (.getfield 100, 3) := dk_180 0 100 (dk_at dksX4_control_7 7 rfl rfl)
theorem dX4_control_173 : decode cX4_control 173 = .ok (.aload_n 0, 1) := dk_42 (dk_at dksX4_control_7 10 rfl rfl)
theorem dX4_control_174 : decode cX4_control 174 = .ok (.getfield 122, 3) := dk_180 0 122 (dk_at dksX4_control_7 11 rfl rfl)
theorem dX4_control_177 : decode cX4_control 177 = .ok (.iload 6, 2) := dk_21 6 (dk_at dksX4_control_7 14 rfl rfl)
theorem dX4_control_179 : decode cX4_control 179 = .ok (.iastore, 1) := dk_79 (dk_at dksX4_control_7 16 rfl rfl)
theorem dX4_control_180 : decode cX4_control 180 = .ok (.aload_n 0, 1) := dk_42 (dk_at dksX4_control_7 17 rfl rfl)
theorem dX4_control_181 : decode cX4_control 181 = .ok (.dup, 1) := dk_89 (dk_at dksX4_control_7 18 rfl rfl)
theorem dX4_control_182 : decode cX4_control 182 = .ok (.getfield 122, 3) := dk_180 0 122 (dk_at dksX4_control_7 19 rfl rfl)
theorem dX4_control_185 : decode cX4_control 185 = .ok (.iconst 1, 1) := dk_4 (dk_at dksX4_control_7 22 rfl rfl)
theorem dX4_control_186 : decode cX4_control 186 = .ok (.iadd, 1) := dk_96 (dk_at dksX4_control_7 23 rfl rfl)
theorem dX4_control_187 : decode cX4_control 187 = .ok (.putfield 122, 3) := dk_181 0 122 (dk_at dksX4_control_8 0 rfl rfl)
theorem dX4_control_190 : decode cX4_control 190 = .ok (.aload_n 0, 1) := dk_42 (dk_at dksX4_control_8 3 rfl rfl)
theorem dX4_control_191 : decode cX4_control 191 = .ok (.getfield 122, 3) := dk_180 0 122 (dk_at dksX4_control_8 4 rfl rfl)
theorem dX4_control_194 : decode cX4_control 194 = .ok (.iconst 1, 1) := dk_4 (dk_at dksX4_control_8 7 rfl rfl)
theorem dX4_control_195 : decode cX4_control 195 = .ok (.isub, 1) := dk_100 (dk_at dksX4_control_8 8 rfl rfl)
theorem dX4_control_196 : decode cX4_control 196 = .ok (.ireturn, 1) := dk_172 (dk_at dksX4_control_8 9 rfl rfl)
abbrev cX4_closes : ByteArray := prog_26_method_97_code
def yX4_closes : MethodName := ⟨RX4, "closes", "(IIIII)I"⟩
def dkwX4_closes_2 : List UInt8 := [172]
abbrev dktX4_closes_2 : List UInt8 := dkwX4_closes_2 ++ []
def dkwX4_closes_1 : List UInt8 := [154, 0, 5, 2, 172, 42, 27, 28, 29, 21, 4, 21, 5, 182, 1, 177, 153, 0, 7, 4, 167, 0, 4, 3]
abbrev dktX4_closes_1 : List UInt8 := dkwX4_closes_1 ++ dktX4_closes_2
def dkwX4_closes_0 : List UInt8 := [42, 3, 181, 0, 1, 42, 27, 182, 1, 174, 153, 0, 16, 42, 28, 29, 21, 4, 21, 5, 182, 1, 95]
abbrev dktX4_closes_0 : List UInt8 := dkwX4_closes_0 ++ dktX4_closes_1
theorem dksX4_closes_0 : cX4_closes.data.toList.drop 0 = dktX4_closes_0 := by decide +kernel
theorem dksX4_closes_1 : cX4_closes.data.toList.drop 23 = dktX4_closes_1 := dk_seg dksX4_closes_0 23 rfl rfl
theorem dksX4_closes_2 : cX4_closes.data.toList.drop 47 = dktX4_closes_2 := dk_seg dksX4_closes_1 24 rfl rfl
theorem dX4_closes_0 : decode cX4_closes 0 = .ok (.aload_n 0, 1) := dk_42 (dk_at dksX4_closes_0 0 rfl rfl)
theorem dX4_closes_1 : decode cX4_closes 1 = .ok (.iconst 0, 1) := dk_3 (dk_at dksX4_closes_0 1 rfl rfl)
theorem dX4_closes_2 : decode cX4_closes 2 = .ok (.putfield 1, 3) := dk_181 0 1 (dk_at dksX4_closes_0 2 rfl rfl)
theorem dX4_closes_5 : decode cX4_closes 5 = .ok (.aload_n 0, 1) := dk_42 (dk_at dksX4_closes_0 5 rfl rfl)
theorem dX4_closes_6 : decode cX4_closes 6 = .ok (.iload_n 1, 1) := dk_27 (dk_at dksX4_closes_0 6 rfl rfl)
theorem dX4_closes_7 : decode cX4_closes 7 = .ok (.invokevirtual 430, 3) := dk_182 1 174 (dk_at dksX4_closes_0 7 rfl rfl)
theorem dX4_closes_10 : decode cX4_closes 10 = .ok (.ifCond .eq 16, 3) := dk_153 0 16 (dk_at dksX4_closes_0 10 rfl rfl)
theorem dX4_closes_13 : decode cX4_closes 13 = .ok (.aload_n 0, 1) := dk_42 (dk_at dksX4_closes_0 13 rfl rfl)
theorem dX4_closes_14 : decode cX4_closes 14 = .ok (.iload_n 2, 1) := dk_28 (dk_at dksX4_closes_0 14 rfl rfl)
theorem dX4_closes_15 : decode cX4_closes 15 = .ok (.iload_n 3, 1) := dk_29 (dk_at dksX4_closes_0 15 rfl rfl)
theorem dX4_closes_16 : decode cX4_closes 16 = .ok (.iload 4, 2) := dk_21 4 (dk_at dksX4_closes_0 16 rfl rfl)
theorem dX4_closes_18 : decode cX4_closes 18 = .ok (.iload 5, 2) := dk_21 5 (dk_at dksX4_closes_0 18 rfl rfl)
theorem dX4_closes_20 : decode cX4_closes 20 = .ok (.invokevirtual 351, 3) := dk_182 1 95 (dk_at dksX4_closes_0 20 rfl rfl)
theorem dX4_closes_23 : decode cX4_closes 23 = .ok (.ifCond .ne 5, 3) := dk_154 0 5 (dk_at dksX4_closes_1 0 rfl rfl)
theorem dX4_closes_26 : decode cX4_closes 26 = .ok (.iconst (-1), 1) := dk_2 (dk_at dksX4_closes_1 3 rfl rfl)
theorem dX4_closes_27 : decode cX4_closes 27 = .ok (.ireturn, 1) := dk_172 (dk_at dksX4_closes_1 4 rfl rfl)
theorem dX4_closes_28 : decode cX4_closes 28 = .ok (.aload_n 0, 1) := dk_42 (dk_at dksX4_closes_1 5 rfl rfl)
theorem dX4_closes_29 : decode cX4_closes 29 = .ok (.iload_n 1, 1) := dk_27 (dk_at dksX4_closes_1 6 rfl rfl)
theorem dX4_closes_30 : decode cX4_closes 30 = .ok (.iload_n 2, 1) := dk_28 (dk_at dksX4_closes_1 7 rfl rfl)
theorem dX4_closes_31 : decode cX4_closes 31 = .ok (.iload_n 3, 1) := dk_29 (dk_at dksX4_closes_1 8 rfl rfl)
theorem dX4_closes_32 : decode cX4_closes 32 = .ok (.iload 4, 2) := dk_21 4 (dk_at dksX4_closes_1 9 rfl rfl)
theorem dX4_closes_34 : decode cX4_closes 34 = .ok (.iload 5, 2) := dk_21 5 (dk_at dksX4_closes_1 11 rfl rfl)
theorem dX4_closes_36 : decode cX4_closes 36 = .ok (.invokevirtual 433, 3) := dk_182 1 177 (dk_at dksX4_closes_1 13 rfl rfl)
theorem dX4_closes_39 : decode cX4_closes 39 = .ok (.ifCond .eq 7, 3) := dk_153 0 7 (dk_at dksX4_closes_1 16 rfl rfl)
theorem dX4_closes_42 : decode cX4_closes 42 = .ok (.iconst 1, 1) := dk_4 (dk_at dksX4_closes_1 19 rfl rfl)
theorem dX4_closes_43 : decode cX4_closes 43 = .ok (.goto 4, 3) := dk_167 0 4 (dk_at dksX4_closes_1 20 rfl rfl)
theorem dX4_closes_46 : decode cX4_closes 46 = .ok (.iconst 0, 1) := dk_3 (dk_at dksX4_closes_1 23 rfl rfl)
theorem dX4_closes_47 : decode cX4_closes 47 = .ok (.ireturn, 1) := dk_172 (dk_at dksX4_closes_2 0 rfl rfl)
abbrev cX4_isSet : ByteArray := prog_26_method_95_code
def yX4_isSet : MethodName := ⟨RX4, "isSet", "(I)Z"⟩
def dkwX4_isSet_0 : List UInt8 := [27, 133, 9, 4, 42, 180, 0, 122, 120, 4, 100, 133, 184, 0, 140, 172]
abbrev dktX4_isSet_0 : List UInt8 := dkwX4_isSet_0 ++ []
theorem dksX4_isSet_0 : cX4_isSet.data.toList.drop 0 = dktX4_isSet_0 := by decide +kernel
theorem dX4_isSet_0 : decode cX4_isSet 0 = .ok (.iload_n 1, 1) := dk_27 (dk_at dksX4_isSet_0 0 rfl rfl)
theorem dX4_isSet_1 : decode cX4_isSet 1 = .ok (.i2l, 1) := dk_133 (dk_at dksX4_isSet_0 1 rfl rfl)
theorem dX4_isSet_2 : decode cX4_isSet 2 = .ok (.lconst 0, 1) := dk_9 (dk_at dksX4_isSet_0 2 rfl rfl)
theorem dX4_isSet_3 : decode cX4_isSet 3 = .ok (.iconst 1, 1) := dk_4 (dk_at dksX4_isSet_0 3 rfl rfl)
theorem dX4_isSet_4 : decode cX4_isSet 4 = .ok (.aload_n 0, 1) := dk_42 (dk_at dksX4_isSet_0 4 rfl rfl)
theorem dX4_isSet_5 : decode cX4_isSet 5 = .ok (.getfield 122, 3) := dk_180 0 122 (dk_at dksX4_isSet_0 5 rfl rfl)
theorem dX4_isSet_8 : decode cX4_isSet 8 = .ok (.ishl, 1) := dk_120 (dk_at dksX4_isSet_0 8 rfl rfl)
theorem dX4_isSet_9 : decode cX4_isSet 9 = .ok (.iconst 1, 1) := dk_4 (dk_at dksX4_isSet_0 9 rfl rfl)
theorem dX4_isSet_10 : decode cX4_isSet 10 = .ok (.isub, 1) := dk_100 (dk_at dksX4_isSet_0 10 rfl rfl)
theorem dX4_isSet_11 : decode cX4_isSet 11 = .ok (.i2l, 1) := dk_133 (dk_at dksX4_isSet_0 11 rfl rfl)
theorem dX4_isSet_12 : decode cX4_isSet 12 = .ok (.invokestatic 140, 3) := dk_184 0 140 (dk_at dksX4_isSet_0 12 rfl rfl)
theorem dX4_isSet_15 : decode cX4_isSet 15 = .ok (.ireturn, 1) := dk_172 (dk_at dksX4_isSet_0 15 rfl rfl)
abbrev cX4_doesClose : ByteArray := prog_26_method_96_code
def yX4_doesClose : MethodName := ⟨RX4, "doesClose", "(IIIII)Z"⟩
def dkwX4_doesClose_2 : List UInt8 := [159, 0, 5, 3, 172, 132, 7, 1, 167, 255, 223, 132, 6, 1, 167, 255, 205, 4, 172]
abbrev dktX4_doesClose_2 : List UInt8 := dkwX4_doesClose_2 ++ []
def dkwX4_doesClose_1 : List UInt8 := [180, 0, 24, 162, 0, 30, 42, 21, 6, 21, 7, 3, 28, 29, 21, 4, 21, 5, 182, 1, 98, 2]
abbrev dktX4_doesClose_1 : List UInt8 := dkwX4_doesClose_1 ++ dktX4_doesClose_2
def dkwX4_doesClose_0 : List UInt8 := [42, 27, 182, 0, 170, 3, 54, 6, 21, 6, 42, 180, 1, 41, 162, 0, 48, 3, 54, 7, 21, 7, 42]
abbrev dktX4_doesClose_0 : List UInt8 := dkwX4_doesClose_0 ++ dktX4_doesClose_1
theorem dksX4_doesClose_0 : cX4_doesClose.data.toList.drop 0 = dktX4_doesClose_0 := by decide +kernel
theorem dksX4_doesClose_1 : cX4_doesClose.data.toList.drop 23 = dktX4_doesClose_1 := dk_seg dksX4_doesClose_0 23 rfl rfl
theorem dksX4_doesClose_2 : cX4_doesClose.data.toList.drop 45 = dktX4_doesClose_2 := dk_seg dksX4_doesClose_1 22 rfl rfl
theorem dX4_doesClose_0 : decode cX4_doesClose 0 = .ok (.aload_n 0, 1) := dk_42 (dk_at dksX4_doesClose_0 0 rfl rfl)
theorem dX4_doesClose_1 : decode cX4_doesClose 1 = .ok (.iload_n 1, 1) := dk_27 (dk_at dksX4_doesClose_0 1 rfl rfl)
theorem dX4_doesClose_2 : decode cX4_doesClose 2 = .ok (.invokevirtual 170, 3) := dk_182 0 170 (dk_at dksX4_doesClose_0 2 rfl rfl)
theorem dX4_doesClose_5 : decode cX4_doesClose 5 = .ok (.iconst 0, 1) := dk_3 (dk_at dksX4_doesClose_0 5 rfl rfl)
theorem dX4_doesClose_6 : decode cX4_doesClose 6 = .ok (.istore 6, 2) := dk_54 6 (dk_at dksX4_doesClose_0 6 rfl rfl)
theorem dX4_doesClose_8 : decode cX4_doesClose 8 = .ok (.iload 6, 2) := dk_21 6 (dk_at dksX4_doesClose_0 8 rfl rfl)
theorem dX4_doesClose_10 : decode cX4_doesClose 10 = .ok (.aload_n 0, 1) := dk_42 (dk_at dksX4_doesClose_0 10 rfl rfl)
theorem dX4_doesClose_11 : decode cX4_doesClose 11 = .ok (.getfield 297, 3) := dk_180 1 41 (dk_at dksX4_doesClose_0 11 rfl rfl)
theorem dX4_doesClose_14 : decode cX4_doesClose 14 = .ok (.if_icmp .ge 48, 3) := dk_162 0 48 (dk_at dksX4_doesClose_0 14 rfl rfl)
theorem dX4_doesClose_17 : decode cX4_doesClose 17 = .ok (.iconst 0, 1) := dk_3 (dk_at dksX4_doesClose_0 17 rfl rfl)
theorem dX4_doesClose_18 : decode cX4_doesClose 18 = .ok (.istore 7, 2) := dk_54 7 (dk_at dksX4_doesClose_0 18 rfl rfl)
theorem dX4_doesClose_20 : decode cX4_doesClose 20 = .ok (.iload 7, 2) := dk_21 7 (dk_at dksX4_doesClose_0 20 rfl rfl)
theorem dX4_doesClose_22 : decode cX4_doesClose 22 = .ok (.aload_n 0, 1) := dk_42 (dk_at dksX4_doesClose_0 22 rfl rfl)
theorem dX4_doesClose_23 : decode cX4_doesClose 23 = .ok (.getfield 24, 3) := dk_180 0 24 (dk_at dksX4_doesClose_1 0 rfl rfl)
theorem dX4_doesClose_26 : decode cX4_doesClose 26 = .ok (.if_icmp .ge 30, 3) := dk_162 0 30 (dk_at dksX4_doesClose_1 3 rfl rfl)
theorem dX4_doesClose_29 : decode cX4_doesClose 29 = .ok (.aload_n 0, 1) := dk_42 (dk_at dksX4_doesClose_1 6 rfl rfl)
theorem dX4_doesClose_30 : decode cX4_doesClose 30 = .ok (.iload 6, 2) := dk_21 6 (dk_at dksX4_doesClose_1 7 rfl rfl)
theorem dX4_doesClose_32 : decode cX4_doesClose 32 = .ok (.iload 7, 2) := dk_21 7 (dk_at dksX4_doesClose_1 9 rfl rfl)
theorem dX4_doesClose_34 : decode cX4_doesClose 34 = .ok (.iconst 0, 1) := dk_3 (dk_at dksX4_doesClose_1 11 rfl rfl)
theorem dX4_doesClose_35 : decode cX4_doesClose 35 = .ok (.iload_n 2, 1) := dk_28 (dk_at dksX4_doesClose_1 12 rfl rfl)
theorem dX4_doesClose_36 : decode cX4_doesClose 36 = .ok (.iload_n 3, 1) := dk_29 (dk_at dksX4_doesClose_1 13 rfl rfl)
theorem dX4_doesClose_37 : decode cX4_doesClose 37 = .ok (.iload 4, 2) := dk_21 4 (dk_at dksX4_doesClose_1 14 rfl rfl)
theorem dX4_doesClose_39 : decode cX4_doesClose 39 = .ok (.iload 5, 2) := dk_21 5 (dk_at dksX4_doesClose_1 16 rfl rfl)
theorem dX4_doesClose_41 : decode cX4_doesClose 41 = .ok (.invokevirtual 354, 3) := dk_182 1 98 (dk_at dksX4_doesClose_1 18 rfl rfl)
theorem dX4_doesClose_44 : decode cX4_doesClose 44 = .ok (.iconst (-1), 1) := dk_2 (dk_at dksX4_doesClose_1 21 rfl rfl)
theorem dX4_doesClose_45 : decode cX4_doesClose 45 = .ok (.if_icmp .eq 5, 3) := dk_159 0 5 (dk_at dksX4_doesClose_2 0 rfl rfl)
theorem dX4_doesClose_48 : decode cX4_doesClose 48 = .ok (.iconst 0, 1) := dk_3 (dk_at dksX4_doesClose_2 3 rfl rfl)
theorem dX4_doesClose_49 : decode cX4_doesClose 49 = .ok (.ireturn, 1) := dk_172 (dk_at dksX4_doesClose_2 4 rfl rfl)
theorem dX4_doesClose_50 : decode cX4_doesClose 50 = .ok (.iinc 7 1, 3) := dk_132 7 1 (dk_at dksX4_doesClose_2 5 rfl rfl)
theorem dX4_doesClose_53 : decode cX4_doesClose 53 = .ok (.goto (-33), 3) := dk_167 255 223 (dk_at dksX4_doesClose_2 8 rfl rfl)
theorem dX4_doesClose_56 : decode cX4_doesClose 56 = .ok (.iinc 6 1, 3) := dk_132 6 1 (dk_at dksX4_doesClose_2 11 rfl rfl)
theorem dX4_doesClose_59 : decode cX4_doesClose 59 = .ok (.goto (-51), 3) := dk_167 255 205 (dk_at dksX4_doesClose_2 14 rfl rfl)
theorem dX4_doesClose_62 : decode cX4_doesClose 62 = .ok (.iconst 1, 1) := dk_4 (dk_at dksX4_doesClose_2 17 rfl rfl)
theorem dX4_doesClose_63 : decode cX4_doesClose 63 = .ok (.ireturn, 1) := dk_172 (dk_at dksX4_doesClose_2 18 rfl rfl)
abbrev cX4_cheapest : ByteArray := prog_26_method_98_code
def yX4_cheapest : MethodName := ⟨RX4, "cheapest", "(IIIII)I"⟩
def dkwX4_cheapest_8 : List UInt8 := [154, 0, 8, 21, 6, 167, 0, 5, 21, 7, 172]
abbrev dktX4_cheapest_8 : List UInt8 := dkwX4_cheapest_8 ++ []
def dkwX4_cheapest_7 : List UInt8 := [54, 6, 21, 9, 54, 7, 132, 8, 1, 167, 255, 125, 21, 6, 2, 160, 0, 7, 2, 167, 0, 15, 21, 5]
abbrev dktX4_cheapest_7 : List UInt8 := dkwX4_cheapest_7 ++ dktX4_cheapest_8
def dkwX4_cheapest_6 : List UInt8 := [21, 10, 153, 0, 28, 42, 21, 8, 27, 28, 29, 21, 4, 182, 1, 177, 154, 0, 6, 167, 0, 11, 21, 8]
abbrev dktX4_cheapest_6 : List UInt8 := dkwX4_cheapest_6 ++ dktX4_cheapest_7
def dkwX4_cheapest_5 : List UInt8 := [160, 0, 20, 21, 8, 184, 1, 132, 21, 6, 184, 1, 132, 162, 0, 7, 4, 167, 0, 4, 3, 54, 10]
abbrev dktX4_cheapest_5 : List UInt8 := dkwX4_cheapest_5 ++ dktX4_cheapest_6
def dkwX4_cheapest_4 : List UInt8 := [132, 10, 1, 167, 255, 218, 21, 6, 2, 159, 0, 30, 21, 9, 21, 7, 161, 0, 23, 21, 9, 21, 7]
abbrev dktX4_cheapest_4 : List UInt8 := dkwX4_cheapest_4 ++ dktX4_cheapest_5
def dkwX4_cheapest_3 : List UInt8 := [21, 10, 184, 0, 179, 153, 0, 13, 42, 180, 0, 100, 21, 10, 46, 167, 0, 4, 3, 96, 54, 9]
abbrev dktX4_cheapest_3 : List UInt8 := dkwX4_cheapest_3 ++ dktX4_cheapest_4
def dkwX4_cheapest_2 : List UInt8 := [120, 162, 0, 126, 3, 54, 9, 3, 54, 10, 21, 10, 42, 180, 0, 122, 162, 0, 35, 21, 9, 21, 8]
abbrev dktX4_cheapest_2 : List UInt8 := dkwX4_cheapest_2 ++ dktX4_cheapest_3
def dkwX4_cheapest_1 : List UInt8 := [184, 0, 140, 154, 0, 5, 2, 172, 2, 54, 6, 3, 54, 7, 3, 54, 8, 21, 8, 4, 42, 180, 0, 122]
abbrev dktX4_cheapest_1 : List UInt8 := dkwX4_cheapest_1 ++ dktX4_cheapest_2
def dkwX4_cheapest_0 : List UInt8 := [42, 3, 181, 0, 1, 42, 27, 28, 29, 21, 4, 182, 1, 95, 153, 0, 14, 21, 5, 133, 9, 10]
abbrev dktX4_cheapest_0 : List UInt8 := dkwX4_cheapest_0 ++ dktX4_cheapest_1
theorem dksX4_cheapest_0 : cX4_cheapest.data.toList.drop 0 = dktX4_cheapest_0 := by decide +kernel
theorem dksX4_cheapest_1 : cX4_cheapest.data.toList.drop 22 = dktX4_cheapest_1 := dk_seg dksX4_cheapest_0 22 rfl rfl
theorem dksX4_cheapest_2 : cX4_cheapest.data.toList.drop 46 = dktX4_cheapest_2 := dk_seg dksX4_cheapest_1 24 rfl rfl
theorem dksX4_cheapest_3 : cX4_cheapest.data.toList.drop 69 = dktX4_cheapest_3 := dk_seg dksX4_cheapest_2 23 rfl rfl
theorem dksX4_cheapest_4 : cX4_cheapest.data.toList.drop 91 = dktX4_cheapest_4 := dk_seg dksX4_cheapest_3 22 rfl rfl
theorem dksX4_cheapest_5 : cX4_cheapest.data.toList.drop 114 = dktX4_cheapest_5 := dk_seg dksX4_cheapest_4 23 rfl rfl
theorem dksX4_cheapest_6 : cX4_cheapest.data.toList.drop 137 = dktX4_cheapest_6 := dk_seg dksX4_cheapest_5 23 rfl rfl
theorem dksX4_cheapest_7 : cX4_cheapest.data.toList.drop 161 = dktX4_cheapest_7 := dk_seg dksX4_cheapest_6 24 rfl rfl
theorem dksX4_cheapest_8 : cX4_cheapest.data.toList.drop 185 = dktX4_cheapest_8 := dk_seg dksX4_cheapest_7 24 rfl rfl
theorem dX4_cheapest_0 : decode cX4_cheapest 0 = .ok (.aload_n 0, 1) := dk_42 (dk_at dksX4_cheapest_0 0 rfl rfl)
theorem dX4_cheapest_1 : decode cX4_cheapest 1 = .ok (.iconst 0, 1) := dk_3 (dk_at dksX4_cheapest_0 1 rfl rfl)
theorem dX4_cheapest_2 : decode cX4_cheapest 2 = .ok (.putfield 1, 3) := dk_181 0 1 (dk_at dksX4_cheapest_0 2 rfl rfl)
theorem dX4_cheapest_5 : decode cX4_cheapest 5 = .ok (.aload_n 0, 1) := dk_42 (dk_at dksX4_cheapest_0 5 rfl rfl)
theorem dX4_cheapest_6 : decode cX4_cheapest 6 = .ok (.iload_n 1, 1) := dk_27 (dk_at dksX4_cheapest_0 6 rfl rfl)
theorem dX4_cheapest_7 : decode cX4_cheapest 7 = .ok (.iload_n 2, 1) := dk_28 (dk_at dksX4_cheapest_0 7 rfl rfl)
theorem dX4_cheapest_8 : decode cX4_cheapest 8 = .ok (.iload_n 3, 1) := dk_29 (dk_at dksX4_cheapest_0 8 rfl rfl)
theorem dX4_cheapest_9 : decode cX4_cheapest 9 = .ok (.iload 4, 2) := dk_21 4 (dk_at dksX4_cheapest_0 9 rfl rfl)
theorem dX4_cheapest_11 : decode cX4_cheapest 11 = .ok (.invokevirtual 351, 3) := dk_182 1 95 (dk_at dksX4_cheapest_0 11 rfl rfl)
theorem dX4_cheapest_14 : decode cX4_cheapest 14 = .ok (.ifCond .eq 14, 3) := dk_153 0 14 (dk_at dksX4_cheapest_0 14 rfl rfl)
theorem dX4_cheapest_17 : decode cX4_cheapest 17 = .ok (.iload 5, 2) := dk_21 5 (dk_at dksX4_cheapest_0 17 rfl rfl)
theorem dX4_cheapest_19 : decode cX4_cheapest 19 = .ok (.i2l, 1) := dk_133 (dk_at dksX4_cheapest_0 19 rfl rfl)
theorem dX4_cheapest_20 : decode cX4_cheapest 20 = .ok (.lconst 0, 1) := dk_9 (dk_at dksX4_cheapest_0 20 rfl rfl)
theorem dX4_cheapest_21 : decode cX4_cheapest 21 = .ok (.lconst 1, 1) := dk_10 (dk_at dksX4_cheapest_0 21 rfl rfl)
theorem dX4_cheapest_22 : decode cX4_cheapest 22 = .ok (.invokestatic 140, 3) := dk_184 0 140 (dk_at dksX4_cheapest_1 0 rfl rfl)
theorem dX4_cheapest_25 : decode cX4_cheapest 25 = .ok (.ifCond .ne 5, 3) := dk_154 0 5 (dk_at dksX4_cheapest_1 3 rfl rfl)
theorem dX4_cheapest_28 : decode cX4_cheapest 28 = .ok (.iconst (-1), 1) := dk_2 (dk_at dksX4_cheapest_1 6 rfl rfl)
theorem dX4_cheapest_29 : decode cX4_cheapest 29 = .ok (.ireturn, 1) := dk_172 (dk_at dksX4_cheapest_1 7 rfl rfl)
theorem dX4_cheapest_30 : decode cX4_cheapest 30 = .ok (.iconst (-1), 1) := dk_2 (dk_at dksX4_cheapest_1 8 rfl rfl)
theorem dX4_cheapest_31 : decode cX4_cheapest 31 = .ok (.istore 6, 2) := dk_54 6 (dk_at dksX4_cheapest_1 9 rfl rfl)
theorem dX4_cheapest_33 : decode cX4_cheapest 33 = .ok (.iconst 0, 1) := dk_3 (dk_at dksX4_cheapest_1 11 rfl rfl)
theorem dX4_cheapest_34 : decode cX4_cheapest 34 = .ok (.istore 7, 2) := dk_54 7 (dk_at dksX4_cheapest_1 12 rfl rfl)
theorem dX4_cheapest_36 : decode cX4_cheapest 36 = .ok (.iconst 0, 1) := dk_3 (dk_at dksX4_cheapest_1 14 rfl rfl)
theorem dX4_cheapest_37 : decode cX4_cheapest 37 = .ok (.istore 8, 2) := dk_54 8 (dk_at dksX4_cheapest_1 15 rfl rfl)
theorem dX4_cheapest_39 : decode cX4_cheapest 39 = .ok (.iload 8, 2) := dk_21 8 (dk_at dksX4_cheapest_1 17 rfl rfl)
theorem dX4_cheapest_41 : decode cX4_cheapest 41 = .ok (.iconst 1, 1) := dk_4 (dk_at dksX4_cheapest_1 19 rfl rfl)
theorem dX4_cheapest_42 : decode cX4_cheapest 42 = .ok (.aload_n 0, 1) := dk_42 (dk_at dksX4_cheapest_1 20 rfl rfl)
theorem dX4_cheapest_43 : decode cX4_cheapest 43 = .ok (.getfield 122, 3) := dk_180 0 122 (dk_at dksX4_cheapest_1 21 rfl rfl)
theorem dX4_cheapest_46 : decode cX4_cheapest 46 = .ok (.ishl, 1) := dk_120 (dk_at dksX4_cheapest_2 0 rfl rfl)
theorem dX4_cheapest_47 : decode cX4_cheapest 47 = .ok (.if_icmp .ge 126, 3) := dk_162 0 126 (dk_at dksX4_cheapest_2 1 rfl rfl)
theorem dX4_cheapest_50 : decode cX4_cheapest 50 = .ok (.iconst 0, 1) := dk_3 (dk_at dksX4_cheapest_2 4 rfl rfl)
theorem dX4_cheapest_51 : decode cX4_cheapest 51 = .ok (.istore 9, 2) := dk_54 9 (dk_at dksX4_cheapest_2 5 rfl rfl)
theorem dX4_cheapest_53 : decode cX4_cheapest 53 = .ok (.iconst 0, 1) := dk_3 (dk_at dksX4_cheapest_2 7 rfl rfl)
theorem dX4_cheapest_54 : decode cX4_cheapest 54 = .ok (.istore 10, 2) := dk_54 10 (dk_at dksX4_cheapest_2 8 rfl rfl)
theorem dX4_cheapest_56 : decode cX4_cheapest 56 = .ok (.iload 10, 2) := dk_21 10 (dk_at dksX4_cheapest_2 10 rfl rfl)
theorem dX4_cheapest_58 : decode cX4_cheapest 58 = .ok (.aload_n 0, 1) := dk_42 (dk_at dksX4_cheapest_2 12 rfl rfl)
theorem dX4_cheapest_59 : decode cX4_cheapest 59 = .ok (.getfield 122, 3) := dk_180 0 122 (dk_at dksX4_cheapest_2 13 rfl rfl)
theorem dX4_cheapest_62 : decode cX4_cheapest 62 = .ok (.if_icmp .ge 35, 3) := dk_162 0 35 (dk_at dksX4_cheapest_2 16 rfl rfl)
theorem dX4_cheapest_65 : decode cX4_cheapest 65 = .ok (.iload 9, 2) := dk_21 9 (dk_at dksX4_cheapest_2 19 rfl rfl)
theorem dX4_cheapest_67 : decode cX4_cheapest 67 = .ok (.iload 8, 2) := dk_21 8 (dk_at dksX4_cheapest_2 21 rfl rfl)
theorem dX4_cheapest_69 : decode cX4_cheapest 69 = .ok (.iload 10, 2) := dk_21 10 (dk_at dksX4_cheapest_3 0 rfl rfl)
theorem dX4_cheapest_71 : decode cX4_cheapest 71 = .ok (.invokestatic 179, 3) := dk_184 0 179 (dk_at dksX4_cheapest_3 2 rfl rfl)
theorem dX4_cheapest_74 : decode cX4_cheapest 74 = .ok (.ifCond .eq 13, 3) := dk_153 0 13 (dk_at dksX4_cheapest_3 5 rfl rfl)
theorem dX4_cheapest_77 : decode cX4_cheapest 77 = .ok (.aload_n 0, 1) := dk_42 (dk_at dksX4_cheapest_3 8 rfl rfl)
theorem dX4_cheapest_78 : decode cX4_cheapest 78 = .ok (.getfield 100, 3) := dk_180 0 100 (dk_at dksX4_cheapest_3 9 rfl rfl)
theorem dX4_cheapest_81 : decode cX4_cheapest 81 = .ok (.iload 10, 2) := dk_21 10 (dk_at dksX4_cheapest_3 12 rfl rfl)
theorem dX4_cheapest_83 : decode cX4_cheapest 83 = .ok (.iaload, 1) := dk_46 (dk_at dksX4_cheapest_3 14 rfl rfl)
theorem dX4_cheapest_84 : decode cX4_cheapest 84 = .ok (.goto 4, 3) := dk_167 0 4 (dk_at dksX4_cheapest_3 15 rfl rfl)
theorem dX4_cheapest_87 : decode cX4_cheapest 87 = .ok (.iconst 0, 1) := dk_3 (dk_at dksX4_cheapest_3 18 rfl rfl)
theorem dX4_cheapest_88 : decode cX4_cheapest 88 = .ok (.iadd, 1) := dk_96 (dk_at dksX4_cheapest_3 19 rfl rfl)
theorem dX4_cheapest_89 : decode cX4_cheapest 89 = .ok (.istore 9, 2) := dk_54 9 (dk_at dksX4_cheapest_3 20 rfl rfl)
theorem dX4_cheapest_91 : decode cX4_cheapest 91 = .ok (.iinc 10 1, 3) := dk_132 10 1 (dk_at dksX4_cheapest_4 0 rfl rfl)
theorem dX4_cheapest_94 : decode cX4_cheapest 94 = .ok (.goto (-38), 3) := dk_167 255 218 (dk_at dksX4_cheapest_4 3 rfl rfl)
theorem dX4_cheapest_97 : decode cX4_cheapest 97 = .ok (.iload 6, 2) := dk_21 6 (dk_at dksX4_cheapest_4 6 rfl rfl)
theorem dX4_cheapest_99 : decode cX4_cheapest 99 = .ok (.iconst (-1), 1) := dk_2 (dk_at dksX4_cheapest_4 8 rfl rfl)
theorem dX4_cheapest_100 : decode cX4_cheapest 100 = .ok (.if_icmp .eq 30, 3) := dk_159 0 30 (dk_at dksX4_cheapest_4 9 rfl rfl)
theorem dX4_cheapest_103 : decode cX4_cheapest 103 = .ok (.iload 9, 2) := dk_21 9 (dk_at dksX4_cheapest_4 12 rfl rfl)
theorem dX4_cheapest_105 : decode cX4_cheapest 105 = .ok (.iload 7, 2) := dk_21 7 (dk_at dksX4_cheapest_4 14 rfl rfl)
theorem dX4_cheapest_107 : decode cX4_cheapest 107 = .ok (.if_icmp .lt 23, 3) := dk_161 0 23 (dk_at dksX4_cheapest_4 16 rfl rfl)
theorem dX4_cheapest_110 : decode cX4_cheapest 110 = .ok (.iload 9, 2) := dk_21 9 (dk_at dksX4_cheapest_4 19 rfl rfl)
theorem dX4_cheapest_112 : decode cX4_cheapest 112 = .ok (.iload 7, 2) := dk_21 7 (dk_at dksX4_cheapest_4 21 rfl rfl)
theorem dX4_cheapest_114 : decode cX4_cheapest 114 = .ok (.if_icmp .ne 20, 3) := dk_160 0 20 (dk_at dksX4_cheapest_5 0 rfl rfl)
theorem dX4_cheapest_117 : decode cX4_cheapest 117 = .ok (.iload 8, 2) := dk_21 8 (dk_at dksX4_cheapest_5 3 rfl rfl)
theorem dX4_cheapest_119 : decode cX4_cheapest 119 = .ok (.invokestatic 388, 3) := dk_184 1 132 (dk_at dksX4_cheapest_5 5 rfl rfl)
theorem dX4_cheapest_122 : decode cX4_cheapest 122 = .ok (.iload 6, 2) := dk_21 6 (dk_at dksX4_cheapest_5 8 rfl rfl)
theorem dX4_cheapest_124 : decode cX4_cheapest 124 = .ok (.invokestatic 388, 3) := dk_184 1 132 (dk_at dksX4_cheapest_5 10 rfl rfl)
theorem dX4_cheapest_127 : decode cX4_cheapest 127 = .ok (.if_icmp .ge 7, 3) := dk_162 0 7 (dk_at dksX4_cheapest_5 13 rfl rfl)
theorem dX4_cheapest_130 : decode cX4_cheapest 130 = .ok (.iconst 1, 1) := dk_4 (dk_at dksX4_cheapest_5 16 rfl rfl)
theorem dX4_cheapest_131 : decode cX4_cheapest 131 = .ok (.goto 4, 3) := dk_167 0 4 (dk_at dksX4_cheapest_5 17 rfl rfl)
theorem dX4_cheapest_134 : decode cX4_cheapest 134 = .ok (.iconst 0, 1) := dk_3 (dk_at dksX4_cheapest_5 20 rfl rfl)
theorem dX4_cheapest_135 : decode cX4_cheapest 135 = .ok (.istore 10, 2) := dk_54 10 (dk_at dksX4_cheapest_5 21 rfl rfl)
theorem dX4_cheapest_137 : decode cX4_cheapest 137 = .ok (.iload 10, 2) := dk_21 10 (dk_at dksX4_cheapest_6 0 rfl rfl)
theorem dX4_cheapest_139 : decode cX4_cheapest 139 = .ok (.ifCond .eq 28, 3) := dk_153 0 28 (dk_at dksX4_cheapest_6 2 rfl rfl)
theorem dX4_cheapest_142 : decode cX4_cheapest 142 = .ok (.aload_n 0, 1) := dk_42 (dk_at dksX4_cheapest_6 5 rfl rfl)
theorem dX4_cheapest_143 : decode cX4_cheapest 143 = .ok (.iload 8, 2) := dk_21 8 (dk_at dksX4_cheapest_6 6 rfl rfl)
theorem dX4_cheapest_145 : decode cX4_cheapest 145 = .ok (.iload_n 1, 1) := dk_27 (dk_at dksX4_cheapest_6 8 rfl rfl)
theorem dX4_cheapest_146 : decode cX4_cheapest 146 = .ok (.iload_n 2, 1) := dk_28 (dk_at dksX4_cheapest_6 9 rfl rfl)
theorem dX4_cheapest_147 : decode cX4_cheapest 147 = .ok (.iload_n 3, 1) := dk_29 (dk_at dksX4_cheapest_6 10 rfl rfl)
theorem dX4_cheapest_148 : decode cX4_cheapest 148 = .ok (.iload 4, 2) := dk_21 4 (dk_at dksX4_cheapest_6 11 rfl rfl)
theorem dX4_cheapest_150 : decode cX4_cheapest 150 = .ok (.invokevirtual 433, 3) := dk_182 1 177 (dk_at dksX4_cheapest_6 13 rfl rfl)
theorem dX4_cheapest_153 : decode cX4_cheapest 153 = .ok (.ifCond .ne 6, 3) := dk_154 0 6 (dk_at dksX4_cheapest_6 16 rfl rfl)
theorem dX4_cheapest_156 : decode cX4_cheapest 156 = .ok (.goto 11, 3) := dk_167 0 11 (dk_at dksX4_cheapest_6 19 rfl rfl)
theorem dX4_cheapest_159 : decode cX4_cheapest 159 = .ok (.iload 8, 2) := dk_21 8 (dk_at dksX4_cheapest_6 22 rfl rfl)
theorem dX4_cheapest_161 : decode cX4_cheapest 161 = .ok (.istore 6, 2) := dk_54 6 (dk_at dksX4_cheapest_7 0 rfl rfl)
theorem dX4_cheapest_163 : decode cX4_cheapest 163 = .ok (.iload 9, 2) := dk_21 9 (dk_at dksX4_cheapest_7 2 rfl rfl)
theorem dX4_cheapest_165 : decode cX4_cheapest 165 = .ok (.istore 7, 2) := dk_54 7 (dk_at dksX4_cheapest_7 4 rfl rfl)
theorem dX4_cheapest_167 : decode cX4_cheapest 167 = .ok (.iinc 8 1, 3) := dk_132 8 1 (dk_at dksX4_cheapest_7 6 rfl rfl)
theorem dX4_cheapest_170 : decode cX4_cheapest 170 = .ok (.goto (-131), 3) := dk_167 255 125 (dk_at dksX4_cheapest_7 9 rfl rfl)
theorem dX4_cheapest_173 : decode cX4_cheapest 173 = .ok (.iload 6, 2) := dk_21 6 (dk_at dksX4_cheapest_7 12 rfl rfl)
theorem dX4_cheapest_175 : decode cX4_cheapest 175 = .ok (.iconst (-1), 1) := dk_2 (dk_at dksX4_cheapest_7 14 rfl rfl)
theorem dX4_cheapest_176 : decode cX4_cheapest 176 = .ok (.if_icmp .ne 7, 3) := dk_160 0 7 (dk_at dksX4_cheapest_7 15 rfl rfl)
theorem dX4_cheapest_179 : decode cX4_cheapest 179 = .ok (.iconst (-1), 1) := dk_2 (dk_at dksX4_cheapest_7 18 rfl rfl)
theorem dX4_cheapest_180 : decode cX4_cheapest 180 = .ok (.goto 15, 3) := dk_167 0 15 (dk_at dksX4_cheapest_7 19 rfl rfl)
theorem dX4_cheapest_183 : decode cX4_cheapest 183 = .ok (.iload 5, 2) := dk_21 5 (dk_at dksX4_cheapest_7 22 rfl rfl)
theorem dX4_cheapest_185 : decode cX4_cheapest 185 = .ok (.ifCond .ne 8, 3) := dk_154 0 8 (dk_at dksX4_cheapest_8 0 rfl rfl)
theorem dX4_cheapest_188 : decode cX4_cheapest 188 = .ok (.iload 6, 2) := dk_21 6 (dk_at dksX4_cheapest_8 3 rfl rfl)
theorem dX4_cheapest_190 : decode cX4_cheapest 190 = .ok (.goto 5, 3) := dk_167 0 5 (dk_at dksX4_cheapest_8 5 rfl rfl)
theorem dX4_cheapest_193 : decode cX4_cheapest 193 = .ok (.iload 7, 2) := dk_21 7 (dk_at dksX4_cheapest_8 8 rfl rfl)
theorem dX4_cheapest_195 : decode cX4_cheapest 195 = .ok (.ireturn, 1) := dk_172 (dk_at dksX4_cheapest_8 10 rfl rfl)
abbrev cX4_opens : ByteArray := prog_26_method_100_code
def yX4_opens : MethodName := ⟨RX4, "opens", "(IIIII)I"⟩
def dkwX4_opens_5 : List UInt8 := [167, 0, 4, 3, 96, 54, 6, 132, 8, 1, 167, 255, 199, 132, 7, 1, 167, 255, 181, 21, 6, 172]
abbrev dktX4_opens_5 : List UInt8 := dkwX4_opens_5 ++ []
def dkwX4_opens_4 : List UInt8 := [154, 0, 26, 42, 21, 7, 21, 8, 3, 28, 29, 21, 4, 21, 5, 182, 1, 98, 2, 159, 0, 7, 4]
abbrev dktX4_opens_4 : List UInt8 := dkwX4_opens_4 ++ dktX4_opens_5
def dkwX4_opens_3 : List UInt8 := [21, 8, 42, 180, 0, 24, 162, 0, 54, 21, 6, 42, 180, 0, 103, 16, 8, 21, 8, 104, 21, 7, 96, 51]
abbrev dktX4_opens_3 : List UInt8 := dkwX4_opens_3 ++ dktX4_opens_4
def dkwX4_opens_2 : List UInt8 := [4, 27, 120, 182, 0, 170, 3, 54, 6, 3, 54, 7, 21, 7, 42, 180, 1, 41, 162, 0, 72, 3, 54, 8]
abbrev dktX4_opens_2 : List UInt8 := dkwX4_opens_2 ++ dktX4_opens_3
def dkwX4_opens_1 : List UInt8 := [21, 4, 21, 5, 182, 1, 95, 154, 0, 5, 2, 172, 42, 3, 28, 29, 21, 4, 21, 5, 182, 1, 180, 42]
abbrev dktX4_opens_1 : List UInt8 := dkwX4_opens_1 ++ dktX4_opens_2
def dkwX4_opens_0 : List UInt8 := [42, 3, 181, 0, 1, 27, 133, 9, 42, 180, 0, 122, 4, 100, 133, 184, 0, 140, 153, 0, 16, 42, 28, 29]
abbrev dktX4_opens_0 : List UInt8 := dkwX4_opens_0 ++ dktX4_opens_1
theorem dksX4_opens_0 : cX4_opens.data.toList.drop 0 = dktX4_opens_0 := by decide +kernel
theorem dksX4_opens_1 : cX4_opens.data.toList.drop 24 = dktX4_opens_1 := dk_seg dksX4_opens_0 24 rfl rfl
theorem dksX4_opens_2 : cX4_opens.data.toList.drop 48 = dktX4_opens_2 := dk_seg dksX4_opens_1 24 rfl rfl
theorem dksX4_opens_3 : cX4_opens.data.toList.drop 72 = dktX4_opens_3 := dk_seg dksX4_opens_2 24 rfl rfl
theorem dksX4_opens_4 : cX4_opens.data.toList.drop 96 = dktX4_opens_4 := dk_seg dksX4_opens_3 24 rfl rfl
theorem dksX4_opens_5 : cX4_opens.data.toList.drop 119 = dktX4_opens_5 := dk_seg dksX4_opens_4 23 rfl rfl
theorem dX4_opens_0 : decode cX4_opens 0 = .ok (.aload_n 0, 1) := dk_42 (dk_at dksX4_opens_0 0 rfl rfl)
theorem dX4_opens_1 : decode cX4_opens 1 = .ok (.iconst 0, 1) := dk_3 (dk_at dksX4_opens_0 1 rfl rfl)
theorem dX4_opens_2 : decode cX4_opens 2 = .ok (.putfield 1, 3) := dk_181 0 1 (dk_at dksX4_opens_0 2 rfl rfl)
theorem dX4_opens_5 : decode cX4_opens 5 = .ok (.iload_n 1, 1) := dk_27 (dk_at dksX4_opens_0 5 rfl rfl)
theorem dX4_opens_6 : decode cX4_opens 6 = .ok (.i2l, 1) := dk_133 (dk_at dksX4_opens_0 6 rfl rfl)
theorem dX4_opens_7 : decode cX4_opens 7 = .ok (.lconst 0, 1) := dk_9 (dk_at dksX4_opens_0 7 rfl rfl)
theorem dX4_opens_8 : decode cX4_opens 8 = .ok (.aload_n 0, 1) := dk_42 (dk_at dksX4_opens_0 8 rfl rfl)
theorem dX4_opens_9 : decode cX4_opens 9 = .ok (.getfield 122, 3) := dk_180 0 122 (dk_at dksX4_opens_0 9 rfl rfl)
theorem dX4_opens_12 : decode cX4_opens 12 = .ok (.iconst 1, 1) := dk_4 (dk_at dksX4_opens_0 12 rfl rfl)
theorem dX4_opens_13 : decode cX4_opens 13 = .ok (.isub, 1) := dk_100 (dk_at dksX4_opens_0 13 rfl rfl)
theorem dX4_opens_14 : decode cX4_opens 14 = .ok (.i2l, 1) := dk_133 (dk_at dksX4_opens_0 14 rfl rfl)
theorem dX4_opens_15 : decode cX4_opens 15 = .ok (.invokestatic 140, 3) := dk_184 0 140 (dk_at dksX4_opens_0 15 rfl rfl)
theorem dX4_opens_18 : decode cX4_opens 18 = .ok (.ifCond .eq 16, 3) := dk_153 0 16 (dk_at dksX4_opens_0 18 rfl rfl)
theorem dX4_opens_21 : decode cX4_opens 21 = .ok (.aload_n 0, 1) := dk_42 (dk_at dksX4_opens_0 21 rfl rfl)
theorem dX4_opens_22 : decode cX4_opens 22 = .ok (.iload_n 2, 1) := dk_28 (dk_at dksX4_opens_0 22 rfl rfl)
theorem dX4_opens_23 : decode cX4_opens 23 = .ok (.iload_n 3, 1) := dk_29 (dk_at dksX4_opens_0 23 rfl rfl)
theorem dX4_opens_24 : decode cX4_opens 24 = .ok (.iload 4, 2) := dk_21 4 (dk_at dksX4_opens_1 0 rfl rfl)
theorem dX4_opens_26 : decode cX4_opens 26 = .ok (.iload 5, 2) := dk_21 5 (dk_at dksX4_opens_1 2 rfl rfl)
theorem dX4_opens_28 : decode cX4_opens 28 = .ok (.invokevirtual 351, 3) := dk_182 1 95 (dk_at dksX4_opens_1 4 rfl rfl)
theorem dX4_opens_31 : decode cX4_opens 31 = .ok (.ifCond .ne 5, 3) := dk_154 0 5 (dk_at dksX4_opens_1 7 rfl rfl)
theorem dX4_opens_34 : decode cX4_opens 34 = .ok (.iconst (-1), 1) := dk_2 (dk_at dksX4_opens_1 10 rfl rfl)
theorem dX4_opens_35 : decode cX4_opens 35 = .ok (.ireturn, 1) := dk_172 (dk_at dksX4_opens_1 11 rfl rfl)
theorem dX4_opens_36 : decode cX4_opens 36 = .ok (.aload_n 0, 1) := dk_42 (dk_at dksX4_opens_1 12 rfl rfl)
theorem dX4_opens_37 : decode cX4_opens 37 = .ok (.iconst 0, 1) := dk_3 (dk_at dksX4_opens_1 13 rfl rfl)
theorem dX4_opens_38 : decode cX4_opens 38 = .ok (.iload_n 2, 1) := dk_28 (dk_at dksX4_opens_1 14 rfl rfl)
theorem dX4_opens_39 : decode cX4_opens 39 = .ok (.iload_n 3, 1) := dk_29 (dk_at dksX4_opens_1 15 rfl rfl)
theorem dX4_opens_40 : decode cX4_opens 40 = .ok (.iload 4, 2) := dk_21 4 (dk_at dksX4_opens_1 16 rfl rfl)
theorem dX4_opens_42 : decode cX4_opens 42 = .ok (.iload 5, 2) := dk_21 5 (dk_at dksX4_opens_1 18 rfl rfl)
theorem dX4_opens_44 : decode cX4_opens 44 = .ok (.invokevirtual 436, 3) := dk_182 1 180 (dk_at dksX4_opens_1 20 rfl rfl)
theorem dX4_opens_47 : decode cX4_opens 47 = .ok (.aload_n 0, 1) := dk_42 (dk_at dksX4_opens_1 23 rfl rfl)
theorem dX4_opens_48 : decode cX4_opens 48 = .ok (.iconst 1, 1) := dk_4 (dk_at dksX4_opens_2 0 rfl rfl)
theorem dX4_opens_49 : decode cX4_opens 49 = .ok (.iload_n 1, 1) := dk_27 (dk_at dksX4_opens_2 1 rfl rfl)
theorem dX4_opens_50 : decode cX4_opens 50 = .ok (.ishl, 1) := dk_120 (dk_at dksX4_opens_2 2 rfl rfl)
theorem dX4_opens_51 : decode cX4_opens 51 = .ok (.invokevirtual 170, 3) := dk_182 0 170 (dk_at dksX4_opens_2 3 rfl rfl)
theorem dX4_opens_54 : decode cX4_opens 54 = .ok (.iconst 0, 1) := dk_3 (dk_at dksX4_opens_2 6 rfl rfl)
theorem dX4_opens_55 : decode cX4_opens 55 = .ok (.istore 6, 2) := dk_54 6 (dk_at dksX4_opens_2 7 rfl rfl)
theorem dX4_opens_57 : decode cX4_opens 57 = .ok (.iconst 0, 1) := dk_3 (dk_at dksX4_opens_2 9 rfl rfl)
theorem dX4_opens_58 : decode cX4_opens 58 = .ok (.istore 7, 2) := dk_54 7 (dk_at dksX4_opens_2 10 rfl rfl)
theorem dX4_opens_60 : decode cX4_opens 60 = .ok (.iload 7, 2) := dk_21 7 (dk_at dksX4_opens_2 12 rfl rfl)
theorem dX4_opens_62 : decode cX4_opens 62 = .ok (.aload_n 0, 1) := dk_42 (dk_at dksX4_opens_2 14 rfl rfl)
theorem dX4_opens_63 : decode cX4_opens 63 = .ok (.getfield 297, 3) := dk_180 1 41 (dk_at dksX4_opens_2 15 rfl rfl)
theorem dX4_opens_66 : decode cX4_opens 66 = .ok (.if_icmp .ge 72, 3) := dk_162 0 72 (dk_at dksX4_opens_2 18 rfl rfl)
theorem dX4_opens_69 : decode cX4_opens 69 = .ok (.iconst 0, 1) := dk_3 (dk_at dksX4_opens_2 21 rfl rfl)
theorem dX4_opens_70 : decode cX4_opens 70 = .ok (.istore 8, 2) := dk_54 8 (dk_at dksX4_opens_2 22 rfl rfl)
theorem dX4_opens_72 : decode cX4_opens 72 = .ok (.iload 8, 2) := dk_21 8 (dk_at dksX4_opens_3 0 rfl rfl)
theorem dX4_opens_74 : decode cX4_opens 74 = .ok (.aload_n 0, 1) := dk_42 (dk_at dksX4_opens_3 2 rfl rfl)
theorem dX4_opens_75 : decode cX4_opens 75 = .ok (.getfield 24, 3) := dk_180 0 24 (dk_at dksX4_opens_3 3 rfl rfl)
theorem dX4_opens_78 : decode cX4_opens 78 = .ok (.if_icmp .ge 54, 3) := dk_162 0 54 (dk_at dksX4_opens_3 6 rfl rfl)
theorem dX4_opens_81 : decode cX4_opens 81 = .ok (.iload 6, 2) := dk_21 6 (dk_at dksX4_opens_3 9 rfl rfl)
theorem dX4_opens_83 : decode cX4_opens 83 = .ok (.aload_n 0, 1) := dk_42 (dk_at dksX4_opens_3 11 rfl rfl)
theorem dX4_opens_84 : decode cX4_opens 84 = .ok (.getfield 103, 3) := dk_180 0 103 (dk_at dksX4_opens_3 12 rfl rfl)
theorem dX4_opens_87 : decode cX4_opens 87 = .ok (.bipush 8, 2) := dk_16 8 (dk_at dksX4_opens_3 15 rfl rfl)
theorem dX4_opens_89 : decode cX4_opens 89 = .ok (.iload 8, 2) := dk_21 8 (dk_at dksX4_opens_3 17 rfl rfl)
theorem dX4_opens_91 : decode cX4_opens 91 = .ok (.imul, 1) := dk_104 (dk_at dksX4_opens_3 19 rfl rfl)
theorem dX4_opens_92 : decode cX4_opens 92 = .ok (.iload 7, 2) := dk_21 7 (dk_at dksX4_opens_3 20 rfl rfl)
theorem dX4_opens_94 : decode cX4_opens 94 = .ok (.iadd, 1) := dk_96 (dk_at dksX4_opens_3 22 rfl rfl)
theorem dX4_opens_95 : decode cX4_opens 95 = .ok (.baload, 1) := dk_51 (dk_at dksX4_opens_3 23 rfl rfl)
theorem dX4_opens_96 : decode cX4_opens 96 = .ok (.ifCond .ne 26, 3) := dk_154 0 26 (dk_at dksX4_opens_4 0 rfl rfl)
theorem dX4_opens_99 : decode cX4_opens 99 = .ok (.aload_n 0, 1) := dk_42 (dk_at dksX4_opens_4 3 rfl rfl)
theorem dX4_opens_100 : decode cX4_opens 100 = .ok (.iload 7, 2) := dk_21 7 (dk_at dksX4_opens_4 4 rfl rfl)
theorem dX4_opens_102 : decode cX4_opens 102 = .ok (.iload 8, 2) := dk_21 8 (dk_at dksX4_opens_4 6 rfl rfl)
theorem dX4_opens_104 : decode cX4_opens 104 = .ok (.iconst 0, 1) := dk_3 (dk_at dksX4_opens_4 8 rfl rfl)
theorem dX4_opens_105 : decode cX4_opens 105 = .ok (.iload_n 2, 1) := dk_28 (dk_at dksX4_opens_4 9 rfl rfl)
theorem dX4_opens_106 : decode cX4_opens 106 = .ok (.iload_n 3, 1) := dk_29 (dk_at dksX4_opens_4 10 rfl rfl)
theorem dX4_opens_107 : decode cX4_opens 107 = .ok (.iload 4, 2) := dk_21 4 (dk_at dksX4_opens_4 11 rfl rfl)
theorem dX4_opens_109 : decode cX4_opens 109 = .ok (.iload 5, 2) := dk_21 5 (dk_at dksX4_opens_4 13 rfl rfl)
theorem dX4_opens_111 : decode cX4_opens 111 = .ok (.invokevirtual 354, 3) := dk_182 1 98 (dk_at dksX4_opens_4 15 rfl rfl)
theorem dX4_opens_114 : decode cX4_opens 114 = .ok (.iconst (-1), 1) := dk_2 (dk_at dksX4_opens_4 18 rfl rfl)
theorem dX4_opens_115 : decode cX4_opens 115 = .ok (.if_icmp .eq 7, 3) := dk_159 0 7 (dk_at dksX4_opens_4 19 rfl rfl)
theorem dX4_opens_118 : decode cX4_opens 118 = .ok (.iconst 1, 1) := dk_4 (dk_at dksX4_opens_4 22 rfl rfl)
theorem dX4_opens_119 : decode cX4_opens 119 = .ok (.goto 4, 3) := dk_167 0 4 (dk_at dksX4_opens_5 0 rfl rfl)
theorem dX4_opens_122 : decode cX4_opens 122 = .ok (.iconst 0, 1) := dk_3 (dk_at dksX4_opens_5 3 rfl rfl)
theorem dX4_opens_123 : decode cX4_opens 123 = .ok (.iadd, 1) := dk_96 (dk_at dksX4_opens_5 4 rfl rfl)
theorem dX4_opens_124 : decode cX4_opens 124 = .ok (.istore 6, 2) := dk_54 6 (dk_at dksX4_opens_5 5 rfl rfl)
theorem dX4_opens_126 : decode cX4_opens 126 = .ok (.iinc 8 1, 3) := dk_132 8 1 (dk_at dksX4_opens_5 7 rfl rfl)
theorem dX4_opens_129 : decode cX4_opens 129 = .ok (.goto (-57), 3) := dk_167 255 199 (dk_at dksX4_opens_5 10 rfl rfl)
theorem dX4_opens_132 : decode cX4_opens 132 = .ok (.iinc 7 1, 3) := dk_132 7 1 (dk_at dksX4_opens_5 13 rfl rfl)
theorem dX4_opens_135 : decode cX4_opens 135 = .ok (.goto (-75), 3) := dk_167 255 181 (dk_at dksX4_opens_5 16 rfl rfl)
theorem dX4_opens_138 : decode cX4_opens 138 = .ok (.iload 6, 2) := dk_21 6 (dk_at dksX4_opens_5 19 rfl rfl)
theorem dX4_opens_140 : decode cX4_opens 140 = .ok (.ireturn, 1) := dk_172 (dk_at dksX4_opens_5 21 rfl rfl)
abbrev cX4_fitsAll : ByteArray := prog_26_method_99_code
def yX4_fitsAll : MethodName := ⟨RX4, "fitsAll", "(IIIII)V"⟩
def dkwX4_fitsAll_3 : List UInt8 := [167, 255, 207, 132, 6, 1, 167, 255, 189, 177]
abbrev dktX4_fitsAll_3 : List UInt8 := dkwX4_fitsAll_3 ++ []
def dkwX4_fitsAll_2 : List UInt8 := [28, 29, 21, 4, 21, 5, 182, 1, 98, 2, 159, 0, 7, 4, 167, 0, 4, 3, 84, 132, 7, 1]
abbrev dktX4_fitsAll_2 : List UInt8 := dkwX4_fitsAll_2 ++ dktX4_fitsAll_3
def dkwX4_fitsAll_1 : List UInt8 := [180, 0, 24, 162, 0, 46, 42, 180, 0, 103, 16, 8, 21, 7, 104, 21, 6, 96, 42, 21, 6, 21, 7, 3]
abbrev dktX4_fitsAll_1 : List UInt8 := dkwX4_fitsAll_1 ++ dktX4_fitsAll_2
def dkwX4_fitsAll_0 : List UInt8 := [42, 27, 182, 0, 170, 3, 54, 6, 21, 6, 42, 180, 1, 41, 162, 0, 64, 3, 54, 7, 21, 7, 42]
abbrev dktX4_fitsAll_0 : List UInt8 := dkwX4_fitsAll_0 ++ dktX4_fitsAll_1
theorem dksX4_fitsAll_0 : cX4_fitsAll.data.toList.drop 0 = dktX4_fitsAll_0 := by decide +kernel
theorem dksX4_fitsAll_1 : cX4_fitsAll.data.toList.drop 23 = dktX4_fitsAll_1 := dk_seg dksX4_fitsAll_0 23 rfl rfl
theorem dksX4_fitsAll_2 : cX4_fitsAll.data.toList.drop 47 = dktX4_fitsAll_2 := dk_seg dksX4_fitsAll_1 24 rfl rfl
theorem dksX4_fitsAll_3 : cX4_fitsAll.data.toList.drop 69 = dktX4_fitsAll_3 := dk_seg dksX4_fitsAll_2 22 rfl rfl
theorem dX4_fitsAll_0 : decode cX4_fitsAll 0 = .ok (.aload_n 0, 1) := dk_42 (dk_at dksX4_fitsAll_0 0 rfl rfl)
theorem dX4_fitsAll_1 : decode cX4_fitsAll 1 = .ok (.iload_n 1, 1) := dk_27 (dk_at dksX4_fitsAll_0 1 rfl rfl)
theorem dX4_fitsAll_2 : decode cX4_fitsAll 2 = .ok (.invokevirtual 170, 3) := dk_182 0 170 (dk_at dksX4_fitsAll_0 2 rfl rfl)
theorem dX4_fitsAll_5 : decode cX4_fitsAll 5 = .ok (.iconst 0, 1) := dk_3 (dk_at dksX4_fitsAll_0 5 rfl rfl)
theorem dX4_fitsAll_6 : decode cX4_fitsAll 6 = .ok (.istore 6, 2) := dk_54 6 (dk_at dksX4_fitsAll_0 6 rfl rfl)
theorem dX4_fitsAll_8 : decode cX4_fitsAll 8 = .ok (.iload 6, 2) := dk_21 6 (dk_at dksX4_fitsAll_0 8 rfl rfl)
theorem dX4_fitsAll_10 : decode cX4_fitsAll 10 = .ok (.aload_n 0, 1) := dk_42 (dk_at dksX4_fitsAll_0 10 rfl rfl)
theorem dX4_fitsAll_11 : decode cX4_fitsAll 11 = .ok (.getfield 297, 3) := dk_180 1 41 (dk_at dksX4_fitsAll_0 11 rfl rfl)
theorem dX4_fitsAll_14 : decode cX4_fitsAll 14 = .ok (.if_icmp .ge 64, 3) := dk_162 0 64 (dk_at dksX4_fitsAll_0 14 rfl rfl)
theorem dX4_fitsAll_17 : decode cX4_fitsAll 17 = .ok (.iconst 0, 1) := dk_3 (dk_at dksX4_fitsAll_0 17 rfl rfl)
theorem dX4_fitsAll_18 : decode cX4_fitsAll 18 = .ok (.istore 7, 2) := dk_54 7 (dk_at dksX4_fitsAll_0 18 rfl rfl)
theorem dX4_fitsAll_20 : decode cX4_fitsAll 20 = .ok (.iload 7, 2) := dk_21 7 (dk_at dksX4_fitsAll_0 20 rfl rfl)
theorem dX4_fitsAll_22 : decode cX4_fitsAll 22 = .ok (.aload_n 0, 1) := dk_42 (dk_at dksX4_fitsAll_0 22 rfl rfl)
theorem dX4_fitsAll_23 : decode cX4_fitsAll 23 = .ok (.getfield 24, 3) := dk_180 0 24 (dk_at dksX4_fitsAll_1 0 rfl rfl)
theorem dX4_fitsAll_26 : decode cX4_fitsAll 26 = .ok (.if_icmp .ge 46, 3) := dk_162 0 46 (dk_at dksX4_fitsAll_1 3 rfl rfl)
theorem dX4_fitsAll_29 : decode cX4_fitsAll 29 = .ok (.aload_n 0, 1) := dk_42 (dk_at dksX4_fitsAll_1 6 rfl rfl)
theorem dX4_fitsAll_30 : decode cX4_fitsAll 30 = .ok (.getfield 103, 3) := dk_180 0 103 (dk_at dksX4_fitsAll_1 7 rfl rfl)
theorem dX4_fitsAll_33 : decode cX4_fitsAll 33 = .ok (.bipush 8, 2) := dk_16 8 (dk_at dksX4_fitsAll_1 10 rfl rfl)
theorem dX4_fitsAll_35 : decode cX4_fitsAll 35 = .ok (.iload 7, 2) := dk_21 7 (dk_at dksX4_fitsAll_1 12 rfl rfl)
theorem dX4_fitsAll_37 : decode cX4_fitsAll 37 = .ok (.imul, 1) := dk_104 (dk_at dksX4_fitsAll_1 14 rfl rfl)
theorem dX4_fitsAll_38 : decode cX4_fitsAll 38 = .ok (.iload 6, 2) := dk_21 6 (dk_at dksX4_fitsAll_1 15 rfl rfl)
theorem dX4_fitsAll_40 : decode cX4_fitsAll 40 = .ok (.iadd, 1) := dk_96 (dk_at dksX4_fitsAll_1 17 rfl rfl)
theorem dX4_fitsAll_41 : decode cX4_fitsAll 41 = .ok (.aload_n 0, 1) := dk_42 (dk_at dksX4_fitsAll_1 18 rfl rfl)
theorem dX4_fitsAll_42 : decode cX4_fitsAll 42 = .ok (.iload 6, 2) := dk_21 6 (dk_at dksX4_fitsAll_1 19 rfl rfl)
theorem dX4_fitsAll_44 : decode cX4_fitsAll 44 = .ok (.iload 7, 2) := dk_21 7 (dk_at dksX4_fitsAll_1 21 rfl rfl)
theorem dX4_fitsAll_46 : decode cX4_fitsAll 46 = .ok (.iconst 0, 1) := dk_3 (dk_at dksX4_fitsAll_1 23 rfl rfl)
theorem dX4_fitsAll_47 : decode cX4_fitsAll 47 = .ok (.iload_n 2, 1) := dk_28 (dk_at dksX4_fitsAll_2 0 rfl rfl)
theorem dX4_fitsAll_48 : decode cX4_fitsAll 48 = .ok (.iload_n 3, 1) := dk_29 (dk_at dksX4_fitsAll_2 1 rfl rfl)
theorem dX4_fitsAll_49 : decode cX4_fitsAll 49 = .ok (.iload 4, 2) := dk_21 4 (dk_at dksX4_fitsAll_2 2 rfl rfl)
theorem dX4_fitsAll_51 : decode cX4_fitsAll 51 = .ok (.iload 5, 2) := dk_21 5 (dk_at dksX4_fitsAll_2 4 rfl rfl)
theorem dX4_fitsAll_53 : decode cX4_fitsAll 53 = .ok (.invokevirtual 354, 3) := dk_182 1 98 (dk_at dksX4_fitsAll_2 6 rfl rfl)
theorem dX4_fitsAll_56 : decode cX4_fitsAll 56 = .ok (.iconst (-1), 1) := dk_2 (dk_at dksX4_fitsAll_2 9 rfl rfl)
theorem dX4_fitsAll_57 : decode cX4_fitsAll 57 = .ok (.if_icmp .eq 7, 3) := dk_159 0 7 (dk_at dksX4_fitsAll_2 10 rfl rfl)
theorem dX4_fitsAll_60 : decode cX4_fitsAll 60 = .ok (.iconst 1, 1) := dk_4 (dk_at dksX4_fitsAll_2 13 rfl rfl)
theorem dX4_fitsAll_61 : decode cX4_fitsAll 61 = .ok (.goto 4, 3) := dk_167 0 4 (dk_at dksX4_fitsAll_2 14 rfl rfl)
theorem dX4_fitsAll_64 : decode cX4_fitsAll 64 = .ok (.iconst 0, 1) := dk_3 (dk_at dksX4_fitsAll_2 17 rfl rfl)
theorem dX4_fitsAll_65 : decode cX4_fitsAll 65 = .ok (.bastore, 1) := dk_84 (dk_at dksX4_fitsAll_2 18 rfl rfl)
theorem dX4_fitsAll_66 : decode cX4_fitsAll 66 = .ok (.iinc 7 1, 3) := dk_132 7 1 (dk_at dksX4_fitsAll_2 19 rfl rfl)
theorem dX4_fitsAll_69 : decode cX4_fitsAll 69 = .ok (.goto (-49), 3) := dk_167 255 207 (dk_at dksX4_fitsAll_3 0 rfl rfl)
theorem dX4_fitsAll_72 : decode cX4_fitsAll 72 = .ok (.iinc 6 1, 3) := dk_132 6 1 (dk_at dksX4_fitsAll_3 3 rfl rfl)
theorem dX4_fitsAll_75 : decode cX4_fitsAll 75 = .ok (.goto (-67), 3) := dk_167 255 189 (dk_at dksX4_fitsAll_3 6 rfl rfl)
theorem dX4_fitsAll_78 : decode cX4_fitsAll 78 = .ok (.return_, 1) := dk_177 (dk_at dksX4_fitsAll_3 9 rfl rfl)
abbrev cX4_next_2 : ByteArray := prog_26_method_101_code
def yX4_next_2 : MethodName := ⟨RX4, "next", "(II)I"⟩
def dkwX4_next_2_9 : List UInt8 := [21, 9, 54, 5, 21, 6, 54, 4, 132, 6, 1, 167, 255, 101, 21, 4, 172]
abbrev dktX4_next_2_9 : List UInt8 := dkwX4_next_2_9 ++ []
def dkwX4_next_2_8 : List UInt8 := [21, 8, 162, 0, 8, 21, 7, 167, 0, 5, 21, 8, 54, 9, 21, 9, 21, 5, 163, 0, 6, 167, 0, 11]
abbrev dktX4_next_2_8 : List UInt8 := dkwX4_next_2_8 ++ dktX4_next_2_9
def dkwX4_next_2_7 : List UInt8 := [132, 7, 1, 167, 0, 6, 132, 8, 1, 132, 10, 1, 167, 255, 203, 132, 9, 1, 167, 255, 181, 21, 7]
abbrev dktX4_next_2_7 : List UInt8 := dkwX4_next_2_7 ++ dktX4_next_2_8
def dkwX4_next_2_6 : List UInt8 := [104, 21, 9, 96, 51, 154, 0, 6, 167, 0, 25, 42, 27, 21, 9, 21, 10, 3, 182, 1, 122, 153, 0, 9]
abbrev dktX4_next_2_6 : List UInt8 := dkwX4_next_2_6 ++ dktX4_next_2_7
def dkwX4_next_2_5 : List UInt8 := [29, 153, 0, 68, 3, 54, 10, 21, 10, 42, 180, 0, 24, 162, 0, 50, 42, 180, 0, 103, 16, 8, 21, 10]
abbrev dktX4_next_2_5 : List UInt8 := dkwX4_next_2_5 ++ dktX4_next_2_6
def dkwX4_next_2_4 : List UInt8 := [21, 6, 120, 182, 0, 170, 3, 54, 7, 3, 54, 8, 3, 54, 9, 21, 9, 42, 180, 1, 41, 162, 0, 72]
abbrev dktX4_next_2_4 : List UInt8 := dkwX4_next_2_4 ++ dktX4_next_2_5
def dkwX4_next_2_3 : List UInt8 := [42, 180, 0, 122, 162, 0, 152, 42, 180, 0, 100, 21, 6, 46, 28, 164, 0, 6, 167, 0, 132, 42, 4]
abbrev dktX4_next_2_3 : List UInt8 := dkwX4_next_2_3 ++ dktX4_next_2_4
def dkwX4_next_2_2 : List UInt8 := [7, 182, 1, 107, 42, 27, 8, 182, 1, 107, 182, 1, 180, 2, 54, 4, 2, 54, 5, 3, 54, 6, 21, 6]
abbrev dktX4_next_2_2 : List UInt8 := dkwX4_next_2_2 ++ dktX4_next_2_3
def dkwX4_next_2_1 : List UInt8 := [182, 0, 167, 62, 29, 153, 0, 32, 42, 3, 42, 27, 5, 182, 1, 107, 42, 27, 6, 182, 1, 107, 42, 27]
abbrev dktX4_next_2_1 : List UInt8 := dkwX4_next_2_1 ++ dktX4_next_2_2
def dkwX4_next_2_0 : List UInt8 := [42, 3, 181, 0, 1, 42, 27, 182, 1, 125, 154, 0, 5, 2, 172, 42, 42, 27, 5, 182, 1, 107]
abbrev dktX4_next_2_0 : List UInt8 := dkwX4_next_2_0 ++ dktX4_next_2_1
theorem dksX4_next_2_0 : cX4_next_2.data.toList.drop 0 = dktX4_next_2_0 := by decide +kernel
theorem dksX4_next_2_1 : cX4_next_2.data.toList.drop 22 = dktX4_next_2_1 := dk_seg dksX4_next_2_0 22 rfl rfl
theorem dksX4_next_2_2 : cX4_next_2.data.toList.drop 46 = dktX4_next_2_2 := dk_seg dksX4_next_2_1 24 rfl rfl
theorem dksX4_next_2_3 : cX4_next_2.data.toList.drop 70 = dktX4_next_2_3 := dk_seg dksX4_next_2_2 24 rfl rfl
theorem dksX4_next_2_4 : cX4_next_2.data.toList.drop 93 = dktX4_next_2_4 := dk_seg dksX4_next_2_3 23 rfl rfl
theorem dksX4_next_2_5 : cX4_next_2.data.toList.drop 117 = dktX4_next_2_5 := dk_seg dksX4_next_2_4 24 rfl rfl
theorem dksX4_next_2_6 : cX4_next_2.data.toList.drop 141 = dktX4_next_2_6 := dk_seg dksX4_next_2_5 24 rfl rfl
theorem dksX4_next_2_7 : cX4_next_2.data.toList.drop 165 = dktX4_next_2_7 := dk_seg dksX4_next_2_6 24 rfl rfl
theorem dksX4_next_2_8 : cX4_next_2.data.toList.drop 188 = dktX4_next_2_8 := dk_seg dksX4_next_2_7 23 rfl rfl
theorem dksX4_next_2_9 : cX4_next_2.data.toList.drop 212 = dktX4_next_2_9 := dk_seg dksX4_next_2_8 24 rfl rfl
theorem dX4_next_2_0 : decode cX4_next_2 0 = .ok (.aload_n 0, 1) := dk_42 (dk_at dksX4_next_2_0 0 rfl rfl)
theorem dX4_next_2_1 : decode cX4_next_2 1 = .ok (.iconst 0, 1) := dk_3 (dk_at dksX4_next_2_0 1 rfl rfl)
theorem dX4_next_2_2 : decode cX4_next_2 2 = .ok (.putfield 1, 3) := dk_181 0 1 (dk_at dksX4_next_2_0 2 rfl rfl)
theorem dX4_next_2_5 : decode cX4_next_2 5 = .ok (.aload_n 0, 1) := dk_42 (dk_at dksX4_next_2_0 5 rfl rfl)
theorem dX4_next_2_6 : decode cX4_next_2 6 = .ok (.iload_n 1, 1) := dk_27 (dk_at dksX4_next_2_0 6 rfl rfl)
theorem dX4_next_2_7 : decode cX4_next_2 7 = .ok (.invokevirtual 381, 3) := dk_182 1 125 (dk_at dksX4_next_2_0 7 rfl rfl)
theorem dX4_next_2_10 : decode cX4_next_2 10 = .ok (.ifCond .ne 5, 3) := dk_154 0 5 (dk_at dksX4_next_2_0 10 rfl rfl)
theorem dX4_next_2_13 : decode cX4_next_2 13 = .ok (.iconst (-1), 1) := dk_2 (dk_at dksX4_next_2_0 13 rfl rfl)
theorem dX4_next_2_14 : decode cX4_next_2 14 = .ok (.ireturn, 1) := dk_172 (dk_at dksX4_next_2_0 14 rfl rfl)
theorem dX4_next_2_15 : decode cX4_next_2 15 = .ok (.aload_n 0, 1) := dk_42 (dk_at dksX4_next_2_0 15 rfl rfl)
theorem dX4_next_2_16 : decode cX4_next_2 16 = .ok (.aload_n 0, 1) := dk_42 (dk_at dksX4_next_2_0 16 rfl rfl)
theorem dX4_next_2_17 : decode cX4_next_2 17 = .ok (.iload_n 1, 1) := dk_27 (dk_at dksX4_next_2_0 17 rfl rfl)
theorem dX4_next_2_18 : decode cX4_next_2 18 = .ok (.iconst 2, 1) := dk_5 (dk_at dksX4_next_2_0 18 rfl rfl)
theorem dX4_next_2_19 : decode cX4_next_2 19 = .ok (.invokevirtual 363, 3) := dk_182 1 107 (dk_at dksX4_next_2_0 19 rfl rfl)
theorem dX4_next_2_22 : decode cX4_next_2 22 = .ok (.invokevirtual 167, 3) := dk_182 0 167 (dk_at dksX4_next_2_1 0 rfl rfl)
theorem dX4_next_2_25 : decode cX4_next_2 25 = .ok (.istore_n 3, 1) := dk_62 (dk_at dksX4_next_2_1 3 rfl rfl)
theorem dX4_next_2_26 : decode cX4_next_2 26 = .ok (.iload_n 3, 1) := dk_29 (dk_at dksX4_next_2_1 4 rfl rfl)
theorem dX4_next_2_27 : decode cX4_next_2 27 = .ok (.ifCond .eq 32, 3) := dk_153 0 32 (dk_at dksX4_next_2_1 5 rfl rfl)
theorem dX4_next_2_30 : decode cX4_next_2 30 = .ok (.aload_n 0, 1) := dk_42 (dk_at dksX4_next_2_1 8 rfl rfl)
theorem dX4_next_2_31 : decode cX4_next_2 31 = .ok (.iconst 0, 1) := dk_3 (dk_at dksX4_next_2_1 9 rfl rfl)
theorem dX4_next_2_32 : decode cX4_next_2 32 = .ok (.aload_n 0, 1) := dk_42 (dk_at dksX4_next_2_1 10 rfl rfl)
theorem dX4_next_2_33 : decode cX4_next_2 33 = .ok (.iload_n 1, 1) := dk_27 (dk_at dksX4_next_2_1 11 rfl rfl)
theorem dX4_next_2_34 : decode cX4_next_2 34 = .ok (.iconst 2, 1) := dk_5 (dk_at dksX4_next_2_1 12 rfl rfl)
theorem dX4_next_2_35 : decode cX4_next_2 35 = .ok (.invokevirtual 363, 3) := dk_182 1 107 (dk_at dksX4_next_2_1 13 rfl rfl)
theorem dX4_next_2_38 : decode cX4_next_2 38 = .ok (.aload_n 0, 1) := dk_42 (dk_at dksX4_next_2_1 16 rfl rfl)
theorem dX4_next_2_39 : decode cX4_next_2 39 = .ok (.iload_n 1, 1) := dk_27 (dk_at dksX4_next_2_1 17 rfl rfl)
theorem dX4_next_2_40 : decode cX4_next_2 40 = .ok (.iconst 3, 1) := dk_6 (dk_at dksX4_next_2_1 18 rfl rfl)
theorem dX4_next_2_41 : decode cX4_next_2 41 = .ok (.invokevirtual 363, 3) := dk_182 1 107 (dk_at dksX4_next_2_1 19 rfl rfl)
theorem dX4_next_2_44 : decode cX4_next_2 44 = .ok (.aload_n 0, 1) := dk_42 (dk_at dksX4_next_2_1 22 rfl rfl)
theorem dX4_next_2_45 : decode cX4_next_2 45 = .ok (.iload_n 1, 1) := dk_27 (dk_at dksX4_next_2_1 23 rfl rfl)
theorem dX4_next_2_46 : decode cX4_next_2 46 = .ok (.iconst 4, 1) := dk_7 (dk_at dksX4_next_2_2 0 rfl rfl)
theorem dX4_next_2_47 : decode cX4_next_2 47 = .ok (.invokevirtual 363, 3) := dk_182 1 107 (dk_at dksX4_next_2_2 1 rfl rfl)
theorem dX4_next_2_50 : decode cX4_next_2 50 = .ok (.aload_n 0, 1) := dk_42 (dk_at dksX4_next_2_2 4 rfl rfl)
theorem dX4_next_2_51 : decode cX4_next_2 51 = .ok (.iload_n 1, 1) := dk_27 (dk_at dksX4_next_2_2 5 rfl rfl)
theorem dX4_next_2_52 : decode cX4_next_2 52 = .ok (.iconst 5, 1) := dk_8 (dk_at dksX4_next_2_2 6 rfl rfl)
theorem dX4_next_2_53 : decode cX4_next_2 53 = .ok (.invokevirtual 363, 3) := dk_182 1 107 (dk_at dksX4_next_2_2 7 rfl rfl)
theorem dX4_next_2_56 : decode cX4_next_2 56 = .ok (.invokevirtual 436, 3) := dk_182 1 180 (dk_at dksX4_next_2_2 10 rfl rfl)
theorem dX4_next_2_59 : decode cX4_next_2 59 = .ok (.iconst (-1), 1) := dk_2 (dk_at dksX4_next_2_2 13 rfl rfl)
theorem dX4_next_2_60 : decode cX4_next_2 60 = .ok (.istore 4, 2) := dk_54 4 (dk_at dksX4_next_2_2 14 rfl rfl)
theorem dX4_next_2_62 : decode cX4_next_2 62 = .ok (.iconst (-1), 1) := dk_2 (dk_at dksX4_next_2_2 16 rfl rfl)
theorem dX4_next_2_63 : decode cX4_next_2 63 = .ok (.istore 5, 2) := dk_54 5 (dk_at dksX4_next_2_2 17 rfl rfl)
theorem dX4_next_2_65 : decode cX4_next_2 65 = .ok (.iconst 0, 1) := dk_3 (dk_at dksX4_next_2_2 19 rfl rfl)
theorem dX4_next_2_66 : decode cX4_next_2 66 = .ok (.istore 6, 2) := dk_54 6 (dk_at dksX4_next_2_2 20 rfl rfl)
theorem dX4_next_2_68 : decode cX4_next_2 68 = .ok (.iload 6, 2) := dk_21 6 (dk_at dksX4_next_2_2 22 rfl rfl)
theorem dX4_next_2_70 : decode cX4_next_2 70 = .ok (.aload_n 0, 1) := dk_42 (dk_at dksX4_next_2_3 0 rfl rfl)
theorem dX4_next_2_71 : decode cX4_next_2 71 = .ok (.getfield 122, 3) := dk_180 0 122 (dk_at dksX4_next_2_3 1 rfl rfl)
theorem dX4_next_2_74 : decode cX4_next_2 74 = .ok (.if_icmp .ge 152, 3) := dk_162 0 152 (dk_at dksX4_next_2_3 4 rfl rfl)
theorem dX4_next_2_77 : decode cX4_next_2 77 = .ok (.aload_n 0, 1) := dk_42 (dk_at dksX4_next_2_3 7 rfl rfl)
theorem dX4_next_2_78 : decode cX4_next_2 78 = .ok (.getfield 100, 3) := dk_180 0 100 (dk_at dksX4_next_2_3 8 rfl rfl)
theorem dX4_next_2_81 : decode cX4_next_2 81 = .ok (.iload 6, 2) := dk_21 6 (dk_at dksX4_next_2_3 11 rfl rfl)
theorem dX4_next_2_83 : decode cX4_next_2 83 = .ok (.iaload, 1) := dk_46 (dk_at dksX4_next_2_3 13 rfl rfl)
theorem dX4_next_2_84 : decode cX4_next_2 84 = .ok (.iload_n 2, 1) := dk_28 (dk_at dksX4_next_2_3 14 rfl rfl)
theorem dX4_next_2_85 : decode cX4_next_2 85 = .ok (.if_icmp .le 6, 3) := dk_164 0 6 (dk_at dksX4_next_2_3 15 rfl rfl)
theorem dX4_next_2_88 : decode cX4_next_2 88 = .ok (.goto 132, 3) := dk_167 0 132 (dk_at dksX4_next_2_3 18 rfl rfl)
theorem dX4_next_2_91 : decode cX4_next_2 91 = .ok (.aload_n 0, 1) := dk_42 (dk_at dksX4_next_2_3 21 rfl rfl)
theorem dX4_next_2_92 : decode cX4_next_2 92 = .ok (.iconst 1, 1) := dk_4 (dk_at dksX4_next_2_3 22 rfl rfl)
theorem dX4_next_2_93 : decode cX4_next_2 93 = .ok (.iload 6, 2) := dk_21 6 (dk_at dksX4_next_2_4 0 rfl rfl)
theorem dX4_next_2_95 : decode cX4_next_2 95 = .ok (.ishl, 1) := dk_120 (dk_at dksX4_next_2_4 2 rfl rfl)
theorem dX4_next_2_96 : decode cX4_next_2 96 = .ok (.invokevirtual 170, 3) := dk_182 0 170 (dk_at dksX4_next_2_4 3 rfl rfl)
theorem dX4_next_2_99 : decode cX4_next_2 99 = .ok (.iconst 0, 1) := dk_3 (dk_at dksX4_next_2_4 6 rfl rfl)
theorem dX4_next_2_100 : decode cX4_next_2 100 = .ok (.istore 7, 2) := dk_54 7 (dk_at dksX4_next_2_4 7 rfl rfl)
theorem dX4_next_2_102 : decode cX4_next_2 102 = .ok (.iconst 0, 1) := dk_3 (dk_at dksX4_next_2_4 9 rfl rfl)
theorem dX4_next_2_103 : decode cX4_next_2 103 = .ok (.istore 8, 2) := dk_54 8 (dk_at dksX4_next_2_4 10 rfl rfl)
theorem dX4_next_2_105 : decode cX4_next_2 105 = .ok (.iconst 0, 1) := dk_3 (dk_at dksX4_next_2_4 12 rfl rfl)
theorem dX4_next_2_106 : decode cX4_next_2 106 = .ok (.istore 9, 2) := dk_54 9 (dk_at dksX4_next_2_4 13 rfl rfl)
theorem dX4_next_2_108 : decode cX4_next_2 108 = .ok (.iload 9, 2) := dk_21 9 (dk_at dksX4_next_2_4 15 rfl rfl)
theorem dX4_next_2_110 : decode cX4_next_2 110 = .ok (.aload_n 0, 1) := dk_42 (dk_at dksX4_next_2_4 17 rfl rfl)
theorem dX4_next_2_111 : decode cX4_next_2 111 = .ok (.getfield 297, 3) := dk_180 1 41 (dk_at dksX4_next_2_4 18 rfl rfl)
theorem dX4_next_2_114 : decode cX4_next_2 114 = .ok (.if_icmp .ge 72, 3) := dk_162 0 72 (dk_at dksX4_next_2_4 21 rfl rfl)
theorem dX4_next_2_117 : decode cX4_next_2 117 = .ok (.iload_n 3, 1) := dk_29 (dk_at dksX4_next_2_5 0 rfl rfl)
theorem dX4_next_2_118 : decode cX4_next_2 118 = .ok (.ifCond .eq 68, 3) := dk_153 0 68 (dk_at dksX4_next_2_5 1 rfl rfl)
theorem dX4_next_2_121 : decode cX4_next_2 121 = .ok (.iconst 0, 1) := dk_3 (dk_at dksX4_next_2_5 4 rfl rfl)
theorem dX4_next_2_122 : decode cX4_next_2 122 = .ok (.istore 10, 2) := dk_54 10 (dk_at dksX4_next_2_5 5 rfl rfl)
theorem dX4_next_2_124 : decode cX4_next_2 124 = .ok (.iload 10, 2) := dk_21 10 (dk_at dksX4_next_2_5 7 rfl rfl)
theorem dX4_next_2_126 : decode cX4_next_2 126 = .ok (.aload_n 0, 1) := dk_42 (dk_at dksX4_next_2_5 9 rfl rfl)
theorem dX4_next_2_127 : decode cX4_next_2 127 = .ok (.getfield 24, 3) := dk_180 0 24 (dk_at dksX4_next_2_5 10 rfl rfl)
theorem dX4_next_2_130 : decode cX4_next_2 130 = .ok (.if_icmp .ge 50, 3) := dk_162 0 50 (dk_at dksX4_next_2_5 13 rfl rfl)
theorem dX4_next_2_133 : decode cX4_next_2 133 = .ok (.aload_n 0, 1) := dk_42 (dk_at dksX4_next_2_5 16 rfl rfl)
theorem dX4_next_2_134 : decode cX4_next_2 134 = .ok (.getfield 103, 3) := dk_180 0 103 (dk_at dksX4_next_2_5 17 rfl rfl)
theorem dX4_next_2_137 : decode cX4_next_2 137 = .ok (.bipush 8, 2) := dk_16 8 (dk_at dksX4_next_2_5 20 rfl rfl)
theorem dX4_next_2_139 : decode cX4_next_2 139 = .ok (.iload 10, 2) := dk_21 10 (dk_at dksX4_next_2_5 22 rfl rfl)
theorem dX4_next_2_141 : decode cX4_next_2 141 = .ok (.imul, 1) := dk_104 (dk_at dksX4_next_2_6 0 rfl rfl)
theorem dX4_next_2_142 : decode cX4_next_2 142 = .ok (.iload 9, 2) := dk_21 9 (dk_at dksX4_next_2_6 1 rfl rfl)
theorem dX4_next_2_144 : decode cX4_next_2 144 = .ok (.iadd, 1) := dk_96 (dk_at dksX4_next_2_6 3 rfl rfl)
theorem dX4_next_2_145 : decode cX4_next_2 145 = .ok (.baload, 1) := dk_51 (dk_at dksX4_next_2_6 4 rfl rfl)
theorem dX4_next_2_146 : decode cX4_next_2 146 = .ok (.ifCond .ne 6, 3) := dk_154 0 6 (dk_at dksX4_next_2_6 5 rfl rfl)
theorem dX4_next_2_149 : decode cX4_next_2 149 = .ok (.goto 25, 3) := dk_167 0 25 (dk_at dksX4_next_2_6 8 rfl rfl)
theorem dX4_next_2_152 : decode cX4_next_2 152 = .ok (.aload_n 0, 1) := dk_42 (dk_at dksX4_next_2_6 11 rfl rfl)
theorem dX4_next_2_153 : decode cX4_next_2 153 = .ok (.iload_n 1, 1) := dk_27 (dk_at dksX4_next_2_6 12 rfl rfl)
theorem dX4_next_2_154 : decode cX4_next_2 154 = .ok (.iload 9, 2) := dk_21 9 (dk_at dksX4_next_2_6 13 rfl rfl)
theorem dX4_next_2_156 : decode cX4_next_2 156 = .ok (.iload 10, 2) := dk_21 10 (dk_at dksX4_next_2_6 15 rfl rfl)
theorem dX4_next_2_158 : decode cX4_next_2 158 = .ok (.iconst 0, 1) := dk_3 (dk_at dksX4_next_2_6 17 rfl rfl)
theorem dX4_next_2_159 : decode cX4_next_2 159 = .ok (.invokevirtual 378, 3) := dk_182 1 122 (dk_at dksX4_next_2_6 18 rfl rfl)
theorem dX4_next_2_162 : decode cX4_next_2 162 = .ok (.ifCond .eq 9, 3) := dk_153 0 9 (dk_at dksX4_next_2_6 21 rfl rfl)
theorem dX4_next_2_165 : decode cX4_next_2 165 = .ok (.iinc 7 1, 3) := dk_132 7 1 (dk_at dksX4_next_2_7 0 rfl rfl)
theorem dX4_next_2_168 : decode cX4_next_2 168 = .ok (.goto 6, 3) := dk_167 0 6 (dk_at dksX4_next_2_7 3 rfl rfl)
theorem dX4_next_2_171 : decode cX4_next_2 171 = .ok (.iinc 8 1, 3) := dk_132 8 1 (dk_at dksX4_next_2_7 6 rfl rfl)
theorem dX4_next_2_174 : decode cX4_next_2 174 = .ok (.iinc 10 1, 3) := dk_132 10 1 (dk_at dksX4_next_2_7 9 rfl rfl)
theorem dX4_next_2_177 : decode cX4_next_2 177 = .ok (.goto (-53), 3) := dk_167 255 203 (dk_at dksX4_next_2_7 12 rfl rfl)
theorem dX4_next_2_180 : decode cX4_next_2 180 = .ok (.iinc 9 1, 3) := dk_132 9 1 (dk_at dksX4_next_2_7 15 rfl rfl)
theorem dX4_next_2_183 : decode cX4_next_2 183 = .ok (.goto (-75), 3) := dk_167 255 181 (dk_at dksX4_next_2_7 18 rfl rfl)
theorem dX4_next_2_186 : decode cX4_next_2 186 = .ok (.iload 7, 2) := dk_21 7 (dk_at dksX4_next_2_7 21 rfl rfl)
theorem dX4_next_2_188 : decode cX4_next_2 188 = .ok (.iload 8, 2) := dk_21 8 (dk_at dksX4_next_2_8 0 rfl rfl)
theorem dX4_next_2_190 : decode cX4_next_2 190 = .ok (.if_icmp .ge 8, 3) := dk_162 0 8 (dk_at dksX4_next_2_8 2 rfl rfl)
theorem dX4_next_2_193 : decode cX4_next_2 193 = .ok (.iload 7, 2) := dk_21 7 (dk_at dksX4_next_2_8 5 rfl rfl)
theorem dX4_next_2_195 : decode cX4_next_2 195 = .ok (.goto 5, 3) := dk_167 0 5 (dk_at dksX4_next_2_8 7 rfl rfl)
theorem dX4_next_2_198 : decode cX4_next_2 198 = .ok (.iload 8, 2) := dk_21 8 (dk_at dksX4_next_2_8 10 rfl rfl)
theorem dX4_next_2_200 : decode cX4_next_2 200 = .ok (.istore 9, 2) := dk_54 9 (dk_at dksX4_next_2_8 12 rfl rfl)
theorem dX4_next_2_202 : decode cX4_next_2 202 = .ok (.iload 9, 2) := dk_21 9 (dk_at dksX4_next_2_8 14 rfl rfl)
theorem dX4_next_2_204 : decode cX4_next_2 204 = .ok (.iload 5, 2) := dk_21 5 (dk_at dksX4_next_2_8 16 rfl rfl)
theorem dX4_next_2_206 : decode cX4_next_2 206 = .ok (.if_icmp .gt 6, 3) := dk_163 0 6 (dk_at dksX4_next_2_8 18 rfl rfl)
theorem dX4_next_2_209 : decode cX4_next_2 209 = .ok (.goto 11, 3) := dk_167 0 11 (dk_at dksX4_next_2_8 21 rfl rfl)
theorem dX4_next_2_212 : decode cX4_next_2 212 = .ok (.iload 9, 2) := dk_21 9 (dk_at dksX4_next_2_9 0 rfl rfl)
theorem dX4_next_2_214 : decode cX4_next_2 214 = .ok (.istore 5, 2) := dk_54 5 (dk_at dksX4_next_2_9 2 rfl rfl)
theorem dX4_next_2_216 : decode cX4_next_2 216 = .ok (.iload 6, 2) := dk_21 6 (dk_at dksX4_next_2_9 4 rfl rfl)
theorem dX4_next_2_218 : decode cX4_next_2 218 = .ok (.istore 4, 2) := dk_54 4 (dk_at dksX4_next_2_9 6 rfl rfl)
theorem dX4_next_2_220 : decode cX4_next_2 220 = .ok (.iinc 6 1, 3) := dk_132 6 1 (dk_at dksX4_next_2_9 8 rfl rfl)
theorem dX4_next_2_223 : decode cX4_next_2 223 = .ok (.goto (-155), 3) := dk_167 255 101 (dk_at dksX4_next_2_9 11 rfl rfl)
theorem dX4_next_2_226 : decode cX4_next_2 226 = .ok (.iload 4, 2) := dk_21 4 (dk_at dksX4_next_2_9 14 rfl rfl)
theorem dX4_next_2_228 : decode cX4_next_2 228 = .ok (.ireturn, 1) := dk_172 (dk_at dksX4_next_2_9 16 rfl rfl)
abbrev cX4_trial : ByteArray := prog_26_method_102_code
def yX4_trial : MethodName := ⟨RX4, "trial", "(II)I"⟩
def dkwX4_trial_3 : List UInt8 := [79, 42, 89, 180, 0, 125, 4, 96, 181, 0, 125, 42, 180, 0, 125, 4, 100, 172]
abbrev dktX4_trial_3 : List UInt8 := dkwX4_trial_3 ++ []
def dkwX4_trial_2 : List UInt8 := [6, 182, 0, 156, 172, 42, 180, 0, 106, 42, 180, 0, 125, 27, 79, 42, 180, 0, 109, 42, 180, 0, 125, 28]
abbrev dktX4_trial_2 : List UInt8 := dkwX4_trial_2 ++ dktX4_trial_3
def dkwX4_trial_1 : List UInt8 := [100, 133, 184, 0, 140, 154, 0, 9, 42, 5, 182, 0, 156, 172, 42, 180, 0, 125, 16, 9, 160, 0, 9, 42]
abbrev dktX4_trial_1 : List UInt8 := dkwX4_trial_1 ++ dktX4_trial_2
def dkwX4_trial_0 : List UInt8 := [42, 3, 181, 0, 1, 27, 133, 20, 0, 200, 20, 1, 184, 184, 0, 140, 153, 0, 16, 28, 133, 10, 27, 4]
abbrev dktX4_trial_0 : List UInt8 := dkwX4_trial_0 ++ dktX4_trial_1
theorem dksX4_trial_0 : cX4_trial.data.toList.drop 0 = dktX4_trial_0 := by decide +kernel
theorem dksX4_trial_1 : cX4_trial.data.toList.drop 24 = dktX4_trial_1 := dk_seg dksX4_trial_0 24 rfl rfl
theorem dksX4_trial_2 : cX4_trial.data.toList.drop 48 = dktX4_trial_2 := dk_seg dksX4_trial_1 24 rfl rfl
theorem dksX4_trial_3 : cX4_trial.data.toList.drop 72 = dktX4_trial_3 := dk_seg dksX4_trial_2 24 rfl rfl
theorem dX4_trial_0 : decode cX4_trial 0 = .ok (.aload_n 0, 1) := dk_42 (dk_at dksX4_trial_0 0 rfl rfl)
theorem dX4_trial_1 : decode cX4_trial 1 = .ok (.iconst 0, 1) := dk_3 (dk_at dksX4_trial_0 1 rfl rfl)
theorem dX4_trial_2 : decode cX4_trial 2 = .ok (.putfield 1, 3) := dk_181 0 1 (dk_at dksX4_trial_0 2 rfl rfl)
theorem dX4_trial_5 : decode cX4_trial 5 = .ok (.iload_n 1, 1) := dk_27 (dk_at dksX4_trial_0 5 rfl rfl)
theorem dX4_trial_6 : decode cX4_trial 6 = .ok (.i2l, 1) := dk_133 (dk_at dksX4_trial_0 6 rfl rfl)
theorem dX4_trial_7 : decode cX4_trial 7 = .ok (.ldc2_w 200, 3) := dk_20 0 200 (dk_at dksX4_trial_0 7 rfl rfl)
theorem dX4_trial_10 : decode cX4_trial 10 = .ok (.ldc2_w 440, 3) := dk_20 1 184 (dk_at dksX4_trial_0 10 rfl rfl)
theorem dX4_trial_13 : decode cX4_trial 13 = .ok (.invokestatic 140, 3) := dk_184 0 140 (dk_at dksX4_trial_0 13 rfl rfl)
theorem dX4_trial_16 : decode cX4_trial 16 = .ok (.ifCond .eq 16, 3) := dk_153 0 16 (dk_at dksX4_trial_0 16 rfl rfl)
theorem dX4_trial_19 : decode cX4_trial 19 = .ok (.iload_n 2, 1) := dk_28 (dk_at dksX4_trial_0 19 rfl rfl)
theorem dX4_trial_20 : decode cX4_trial 20 = .ok (.i2l, 1) := dk_133 (dk_at dksX4_trial_0 20 rfl rfl)
theorem dX4_trial_21 : decode cX4_trial 21 = .ok (.lconst 1, 1) := dk_10 (dk_at dksX4_trial_0 21 rfl rfl)
theorem dX4_trial_22 : decode cX4_trial 22 = .ok (.iload_n 1, 1) := dk_27 (dk_at dksX4_trial_0 22 rfl rfl)
theorem dX4_trial_23 : decode cX4_trial 23 = .ok (.iconst 1, 1) := dk_4 (dk_at dksX4_trial_0 23 rfl rfl)
theorem dX4_trial_24 : decode cX4_trial 24 = .ok (.isub, 1) := dk_100 (dk_at dksX4_trial_1 0 rfl rfl)
theorem dX4_trial_25 : decode cX4_trial 25 = .ok (.i2l, 1) := dk_133 (dk_at dksX4_trial_1 1 rfl rfl)
theorem dX4_trial_26 : decode cX4_trial 26 = .ok (.invokestatic 140, 3) := dk_184 0 140 (dk_at dksX4_trial_1 2 rfl rfl)
theorem dX4_trial_29 : decode cX4_trial 29 = .ok (.ifCond .ne 9, 3) := dk_154 0 9 (dk_at dksX4_trial_1 5 rfl rfl)
theorem dX4_trial_32 : decode cX4_trial 32 = .ok (.aload_n 0, 1) := dk_42 (dk_at dksX4_trial_1 8 rfl rfl)
theorem dX4_trial_33 : decode cX4_trial 33 = .ok (.iconst 2, 1) := dk_5 (dk_at dksX4_trial_1 9 rfl rfl)
theorem dX4_trial_34 : decode cX4_trial 34 = .ok (.invokevirtual 156, 3) := dk_182 0 156 (dk_at dksX4_trial_1 10 rfl rfl)
theorem dX4_trial_37 : decode cX4_trial 37 = .ok (.ireturn, 1) := dk_172 (dk_at dksX4_trial_1 13 rfl rfl)
theorem dX4_trial_38 : decode cX4_trial 38 = .ok (.aload_n 0, 1) := dk_42 (dk_at dksX4_trial_1 14 rfl rfl)
theorem dX4_trial_39 : decode cX4_trial 39 = .ok (.getfield 125, 3) := dk_180 0 125 (dk_at dksX4_trial_1 15 rfl rfl)
theorem dX4_trial_42 : decode cX4_trial 42 = .ok (.bipush 9, 2) := dk_16 9 (dk_at dksX4_trial_1 18 rfl rfl)
theorem dX4_trial_44 : decode cX4_trial 44 = .ok (.if_icmp .ne 9, 3) := dk_160 0 9 (dk_at dksX4_trial_1 20 rfl rfl)
theorem dX4_trial_47 : decode cX4_trial 47 = .ok (.aload_n 0, 1) := dk_42 (dk_at dksX4_trial_1 23 rfl rfl)
theorem dX4_trial_48 : decode cX4_trial 48 = .ok (.iconst 3, 1) := dk_6 (dk_at dksX4_trial_2 0 rfl rfl)
theorem dX4_trial_49 : decode cX4_trial 49 = .ok (.invokevirtual 156, 3) := dk_182 0 156 (dk_at dksX4_trial_2 1 rfl rfl)
theorem dX4_trial_52 : decode cX4_trial 52 = .ok (.ireturn, 1) := dk_172 (dk_at dksX4_trial_2 4 rfl rfl)
theorem dX4_trial_53 : decode cX4_trial 53 = .ok (.aload_n 0, 1) := dk_42 (dk_at dksX4_trial_2 5 rfl rfl)
theorem dX4_trial_54 : decode cX4_trial 54 = .ok (.getfield 106, 3) := dk_180 0 106 (dk_at dksX4_trial_2 6 rfl rfl)
theorem dX4_trial_57 : decode cX4_trial 57 = .ok (.aload_n 0, 1) := dk_42 (dk_at dksX4_trial_2 9 rfl rfl)
theorem dX4_trial_58 : decode cX4_trial 58 = .ok (.getfield 125, 3) := dk_180 0 125 (dk_at dksX4_trial_2 10 rfl rfl)
theorem dX4_trial_61 : decode cX4_trial 61 = .ok (.iload_n 1, 1) := dk_27 (dk_at dksX4_trial_2 13 rfl rfl)
theorem dX4_trial_62 : decode cX4_trial 62 = .ok (.iastore, 1) := dk_79 (dk_at dksX4_trial_2 14 rfl rfl)
theorem dX4_trial_63 : decode cX4_trial 63 = .ok (.aload_n 0, 1) := dk_42 (dk_at dksX4_trial_2 15 rfl rfl)
theorem dX4_trial_64 : decode cX4_trial 64 = .ok (.getfield 109, 3) := dk_180 0 109 (dk_at dksX4_trial_2 16 rfl rfl)
theorem dX4_trial_67 : decode cX4_trial 67 = .ok (.aload_n 0, 1) := dk_42 (dk_at dksX4_trial_2 19 rfl rfl)
theorem dX4_trial_68 : decode cX4_trial 68 = .ok (.getfield 125, 3) := dk_180 0 125 (dk_at dksX4_trial_2 20 rfl rfl)
theorem dX4_trial_71 : decode cX4_trial 71 = .ok (.iload_n 2, 1) := dk_28 (dk_at dksX4_trial_2 23 rfl rfl)
theorem dX4_trial_72 : decode cX4_trial 72 = .ok (.iastore, 1) := dk_79 (dk_at dksX4_trial_3 0 rfl rfl)
theorem dX4_trial_73 : decode cX4_trial 73 = .ok (.aload_n 0, 1) := dk_42 (dk_at dksX4_trial_3 1 rfl rfl)
theorem dX4_trial_74 : decode cX4_trial 74 = .ok (.dup, 1) := dk_89 (dk_at dksX4_trial_3 2 rfl rfl)
theorem dX4_trial_75 : decode cX4_trial 75 = .ok (.getfield 125, 3) := dk_180 0 125 (dk_at dksX4_trial_3 3 rfl rfl)
theorem dX4_trial_78 : decode cX4_trial 78 = .ok (.iconst 1, 1) := dk_4 (dk_at dksX4_trial_3 6 rfl rfl)
theorem dX4_trial_79 : decode cX4_trial 79 = .ok (.iadd, 1) := dk_96 (dk_at dksX4_trial_3 7 rfl rfl)
theorem dX4_trial_80 : decode cX4_trial 80 = .ok (.putfield 125, 3) := dk_181 0 125 (dk_at dksX4_trial_3 8 rfl rfl)
theorem dX4_trial_83 : decode cX4_trial 83 = .ok (.aload_n 0, 1) := dk_42 (dk_at dksX4_trial_3 11 rfl rfl)
theorem dX4_trial_84 : decode cX4_trial 84 = .ok (.getfield 125, 3) := dk_180 0 125 (dk_at dksX4_trial_3 12 rfl rfl)
theorem dX4_trial_87 : decode cX4_trial 87 = .ok (.iconst 1, 1) := dk_4 (dk_at dksX4_trial_3 15 rfl rfl)
theorem dX4_trial_88 : decode cX4_trial 88 = .ok (.isub, 1) := dk_100 (dk_at dksX4_trial_3 16 rfl rfl)
theorem dX4_trial_89 : decode cX4_trial 89 = .ok (.ireturn, 1) := dk_172 (dk_at dksX4_trial_3 17 rfl rfl)
abbrev cX4_luck : ByteArray := prog_26_method_104_code
def yX4_luck : MethodName := ⟨RX4, "luck", "(I)J"⟩
def dkwX4_luck_0 : List UInt8 := [42, 3, 181, 0, 1, 27, 2, 162, 0, 9, 20, 1, 186, 167, 0, 8, 42, 27, 182, 1, 188, 173]
abbrev dktX4_luck_0 : List UInt8 := dkwX4_luck_0 ++ []
theorem dksX4_luck_0 : cX4_luck.data.toList.drop 0 = dktX4_luck_0 := by decide +kernel
theorem dX4_luck_0 : decode cX4_luck 0 = .ok (.aload_n 0, 1) := dk_42 (dk_at dksX4_luck_0 0 rfl rfl)
theorem dX4_luck_1 : decode cX4_luck 1 = .ok (.iconst 0, 1) := dk_3 (dk_at dksX4_luck_0 1 rfl rfl)
theorem dX4_luck_2 : decode cX4_luck 2 = .ok (.putfield 1, 3) := dk_181 0 1 (dk_at dksX4_luck_0 2 rfl rfl)
theorem dX4_luck_5 : decode cX4_luck 5 = .ok (.iload_n 1, 1) := dk_27 (dk_at dksX4_luck_0 5 rfl rfl)
theorem dX4_luck_6 : decode cX4_luck 6 = .ok (.iconst (-1), 1) := dk_2 (dk_at dksX4_luck_0 6 rfl rfl)
theorem dX4_luck_7 : decode cX4_luck 7 = .ok (.if_icmp .ge 9, 3) := dk_162 0 9 (dk_at dksX4_luck_0 7 rfl rfl)
theorem dX4_luck_10 : decode cX4_luck 10 = .ok (.ldc2_w 442, 3) := dk_20 1 186 (dk_at dksX4_luck_0 10 rfl rfl)
theorem dX4_luck_13 : decode cX4_luck 13 = .ok (.goto 8, 3) := dk_167 0 8 (dk_at dksX4_luck_0 13 rfl rfl)
theorem dX4_luck_16 : decode cX4_luck 16 = .ok (.aload_n 0, 1) := dk_42 (dk_at dksX4_luck_0 16 rfl rfl)
theorem dX4_luck_17 : decode cX4_luck 17 = .ok (.iload_n 1, 1) := dk_27 (dk_at dksX4_luck_0 17 rfl rfl)
theorem dX4_luck_18 : decode cX4_luck 18 = .ok (.invokevirtual 444, 3) := dk_182 1 188 (dk_at dksX4_luck_0 18 rfl rfl)
theorem dX4_luck_21 : decode cX4_luck 21 = .ok (.lreturn, 1) := dk_173 (dk_at dksX4_luck_0 21 rfl rfl)
abbrev cX4_rowsWith : ByteArray := prog_26_method_103_code
def yX4_rowsWith : MethodName := ⟨RX4, "rowsWith", "(I)J"⟩
def dkwX4_rowsWith_6 : List UInt8 := [97, 65, 132, 4, 1, 167, 255, 234, 32, 173]
abbrev dktX4_rowsWith_6 : List UInt8 := dkwX4_rowsWith_6 ++ []
def dkwX4_rowsWith_5 : List UInt8 := [3, 167, 0, 4, 27, 54, 4, 21, 4, 42, 180, 0, 125, 163, 0, 19, 32, 42, 180, 0, 112, 21, 4, 47]
abbrev dktX4_rowsWith_5 : List UInt8 := dkwX4_rowsWith_5 ++ dktX4_rowsWith_6
def dkwX4_rowsWith_4 : List UInt8 := [167, 0, 4, 9, 97, 80, 132, 3, 255, 167, 255, 197, 132, 2, 1, 167, 255, 179, 9, 65, 27, 156, 0, 7]
abbrev dktX4_rowsWith_4 : List UInt8 := dkwX4_rowsWith_4 ++ dktX4_rowsWith_5
def dkwX4_rowsWith_3 : List UInt8 := [133, 105, 29, 158, 0, 22, 42, 180, 0, 112, 29, 4, 100, 47, 42, 180, 0, 109, 28, 46, 133, 105]
abbrev dktX4_rowsWith_3 : List UInt8 := dkwX4_rowsWith_3 ++ dktX4_rowsWith_4
def dkwX4_rowsWith_2 : List UInt8 := [42, 180, 0, 112, 29, 42, 180, 0, 112, 29, 47, 42, 180, 0, 106, 28, 46, 42, 180, 0, 109, 28, 46, 100]
abbrev dktX4_rowsWith_2 : List UInt8 := dkwX4_rowsWith_2 ++ dktX4_rowsWith_3
def dkwX4_rowsWith_1 : List UInt8 := [132, 2, 1, 167, 255, 240, 3, 61, 28, 42, 180, 0, 125, 162, 0, 75, 28, 4, 96, 62, 29, 155, 0, 61]
abbrev dktX4_rowsWith_1 : List UInt8 := dkwX4_rowsWith_1 ++ dktX4_rowsWith_2
def dkwX4_rowsWith_0 : List UInt8 := [42, 180, 0, 112, 3, 10, 80, 4, 61, 28, 16, 9, 163, 0, 16, 42, 180, 0, 112, 28, 9, 80]
abbrev dktX4_rowsWith_0 : List UInt8 := dkwX4_rowsWith_0 ++ dktX4_rowsWith_1
theorem dksX4_rowsWith_0 : cX4_rowsWith.data.toList.drop 0 = dktX4_rowsWith_0 := by decide +kernel
theorem dksX4_rowsWith_1 : cX4_rowsWith.data.toList.drop 22 = dktX4_rowsWith_1 := dk_seg dksX4_rowsWith_0 22 rfl rfl
theorem dksX4_rowsWith_2 : cX4_rowsWith.data.toList.drop 46 = dktX4_rowsWith_2 := dk_seg dksX4_rowsWith_1 24 rfl rfl
theorem dksX4_rowsWith_3 : cX4_rowsWith.data.toList.drop 70 = dktX4_rowsWith_3 := dk_seg dksX4_rowsWith_2 24 rfl rfl
theorem dksX4_rowsWith_4 : cX4_rowsWith.data.toList.drop 92 = dktX4_rowsWith_4 := dk_seg dksX4_rowsWith_3 22 rfl rfl
theorem dksX4_rowsWith_5 : cX4_rowsWith.data.toList.drop 116 = dktX4_rowsWith_5 := dk_seg dksX4_rowsWith_4 24 rfl rfl
theorem dksX4_rowsWith_6 : cX4_rowsWith.data.toList.drop 140 = dktX4_rowsWith_6 := dk_seg dksX4_rowsWith_5 24 rfl rfl
theorem dX4_rowsWith_0 : decode cX4_rowsWith 0 = .ok (.aload_n 0, 1) := dk_42 (dk_at dksX4_rowsWith_0 0 rfl rfl)
theorem dX4_rowsWith_1 : decode cX4_rowsWith 1 = .ok (.getfield 112, 3) := dk_180 0 112 (dk_at dksX4_rowsWith_0 1 rfl rfl)
theorem dX4_rowsWith_4 : decode cX4_rowsWith 4 = .ok (.iconst 0, 1) := dk_3 (dk_at dksX4_rowsWith_0 4 rfl rfl)
theorem dX4_rowsWith_5 : decode cX4_rowsWith 5 = .ok (.lconst 1, 1) := dk_10 (dk_at dksX4_rowsWith_0 5 rfl rfl)
theorem dX4_rowsWith_6 : decode cX4_rowsWith 6 = .ok (.lastore, 1) := dk_80 (dk_at dksX4_rowsWith_0 6 rfl rfl)
theorem dX4_rowsWith_7 : decode cX4_rowsWith 7 = .ok (.iconst 1, 1) := dk_4 (dk_at dksX4_rowsWith_0 7 rfl rfl)
theorem dX4_rowsWith_8 : decode cX4_rowsWith 8 = .ok (.istore_n 2, 1) := dk_61 (dk_at dksX4_rowsWith_0 8 rfl rfl)
theorem dX4_rowsWith_9 : decode cX4_rowsWith 9 = .ok (.iload_n 2, 1) := dk_28 (dk_at dksX4_rowsWith_0 9 rfl rfl)
theorem dX4_rowsWith_10 : decode cX4_rowsWith 10 = .ok (.bipush 9, 2) := dk_16 9 (dk_at dksX4_rowsWith_0 10 rfl rfl)
theorem dX4_rowsWith_12 : decode cX4_rowsWith 12 = .ok (.if_icmp .gt 16, 3) := dk_163 0 16 (dk_at dksX4_rowsWith_0 12 rfl rfl)
theorem dX4_rowsWith_15 : decode cX4_rowsWith 15 = .ok (.aload_n 0, 1) := dk_42 (dk_at dksX4_rowsWith_0 15 rfl rfl)
theorem dX4_rowsWith_16 : decode cX4_rowsWith 16 = .ok (.getfield 112, 3) := dk_180 0 112 (dk_at dksX4_rowsWith_0 16 rfl rfl)
theorem dX4_rowsWith_19 : decode cX4_rowsWith 19 = .ok (.iload_n 2, 1) := dk_28 (dk_at dksX4_rowsWith_0 19 rfl rfl)
theorem dX4_rowsWith_20 : decode cX4_rowsWith 20 = .ok (.lconst 0, 1) := dk_9 (dk_at dksX4_rowsWith_0 20 rfl rfl)
theorem dX4_rowsWith_21 : decode cX4_rowsWith 21 = .ok (.lastore, 1) := dk_80 (dk_at dksX4_rowsWith_0 21 rfl rfl)
theorem dX4_rowsWith_22 : decode cX4_rowsWith 22 = .ok (.iinc 2 1, 3) := dk_132 2 1 (dk_at dksX4_rowsWith_1 0 rfl rfl)
theorem dX4_rowsWith_25 : decode cX4_rowsWith 25 = .ok (.goto (-16), 3) := dk_167 255 240 (dk_at dksX4_rowsWith_1 3 rfl rfl)
theorem dX4_rowsWith_28 : decode cX4_rowsWith 28 = .ok (.iconst 0, 1) := dk_3 (dk_at dksX4_rowsWith_1 6 rfl rfl)
theorem dX4_rowsWith_29 : decode cX4_rowsWith 29 = .ok (.istore_n 2, 1) := dk_61 (dk_at dksX4_rowsWith_1 7 rfl rfl)
theorem dX4_rowsWith_30 : decode cX4_rowsWith 30 = .ok (.iload_n 2, 1) := dk_28 (dk_at dksX4_rowsWith_1 8 rfl rfl)
theorem dX4_rowsWith_31 : decode cX4_rowsWith 31 = .ok (.aload_n 0, 1) := dk_42 (dk_at dksX4_rowsWith_1 9 rfl rfl)
theorem dX4_rowsWith_32 : decode cX4_rowsWith 32 = .ok (.getfield 125, 3) := dk_180 0 125 (dk_at dksX4_rowsWith_1 10 rfl rfl)
theorem dX4_rowsWith_35 : decode cX4_rowsWith 35 = .ok (.if_icmp .ge 75, 3) := dk_162 0 75 (dk_at dksX4_rowsWith_1 13 rfl rfl)
theorem dX4_rowsWith_38 : decode cX4_rowsWith 38 = .ok (.iload_n 2, 1) := dk_28 (dk_at dksX4_rowsWith_1 16 rfl rfl)
theorem dX4_rowsWith_39 : decode cX4_rowsWith 39 = .ok (.iconst 1, 1) := dk_4 (dk_at dksX4_rowsWith_1 17 rfl rfl)
theorem dX4_rowsWith_40 : decode cX4_rowsWith 40 = .ok (.iadd, 1) := dk_96 (dk_at dksX4_rowsWith_1 18 rfl rfl)
theorem dX4_rowsWith_41 : decode cX4_rowsWith 41 = .ok (.istore_n 3, 1) := dk_62 (dk_at dksX4_rowsWith_1 19 rfl rfl)
theorem dX4_rowsWith_42 : decode cX4_rowsWith 42 = .ok (.iload_n 3, 1) := dk_29 (dk_at dksX4_rowsWith_1 20 rfl rfl)
theorem dX4_rowsWith_43 : decode cX4_rowsWith 43 = .ok (.ifCond .lt 61, 3) := dk_155 0 61 (dk_at dksX4_rowsWith_1 21 rfl rfl)
theorem dX4_rowsWith_46 : decode cX4_rowsWith 46 = .ok (.aload_n 0, 1) := dk_42 (dk_at dksX4_rowsWith_2 0 rfl rfl)
theorem dX4_rowsWith_47 : decode cX4_rowsWith 47 = .ok (.getfield 112, 3) := dk_180 0 112 (dk_at dksX4_rowsWith_2 1 rfl rfl)
theorem dX4_rowsWith_50 : decode cX4_rowsWith 50 = .ok (.iload_n 3, 1) := dk_29 (dk_at dksX4_rowsWith_2 4 rfl rfl)
theorem dX4_rowsWith_51 : decode cX4_rowsWith 51 = .ok (.aload_n 0, 1) := dk_42 (dk_at dksX4_rowsWith_2 5 rfl rfl)
theorem dX4_rowsWith_52 : decode cX4_rowsWith 52 = .ok (.getfield 112, 3) := dk_180 0 112 (dk_at dksX4_rowsWith_2 6 rfl rfl)
theorem dX4_rowsWith_55 : decode cX4_rowsWith 55 = .ok (.iload_n 3, 1) := dk_29 (dk_at dksX4_rowsWith_2 9 rfl rfl)
theorem dX4_rowsWith_56 : decode cX4_rowsWith 56 = .ok (.laload, 1) := dk_47 (dk_at dksX4_rowsWith_2 10 rfl rfl)
theorem dX4_rowsWith_57 : decode cX4_rowsWith 57 = .ok (.aload_n 0, 1) := dk_42 (dk_at dksX4_rowsWith_2 11 rfl rfl)
theorem dX4_rowsWith_58 : decode cX4_rowsWith 58 = .ok (.getfield 106, 3) := dk_180 0 106 (dk_at dksX4_rowsWith_2 12 rfl rfl)
theorem dX4_rowsWith_61 : decode cX4_rowsWith 61 = .ok (.iload_n 2, 1) := dk_28 (dk_at dksX4_rowsWith_2 15 rfl rfl)
theorem dX4_rowsWith_62 : decode cX4_rowsWith 62 = .ok (.iaload, 1) := dk_46 (dk_at dksX4_rowsWith_2 16 rfl rfl)
theorem dX4_rowsWith_63 : decode cX4_rowsWith 63 = .ok (.aload_n 0, 1) := dk_42 (dk_at dksX4_rowsWith_2 17 rfl rfl)
theorem dX4_rowsWith_64 : decode cX4_rowsWith 64 = .ok (.getfield 109, 3) := dk_180 0 109 (dk_at dksX4_rowsWith_2 18 rfl rfl)
theorem dX4_rowsWith_67 : decode cX4_rowsWith 67 = .ok (.iload_n 2, 1) := dk_28 (dk_at dksX4_rowsWith_2 21 rfl rfl)
theorem dX4_rowsWith_68 : decode cX4_rowsWith 68 = .ok (.iaload, 1) := dk_46 (dk_at dksX4_rowsWith_2 22 rfl rfl)
theorem dX4_rowsWith_69 : decode cX4_rowsWith 69 = .ok (.isub, 1) := dk_100 (dk_at dksX4_rowsWith_2 23 rfl rfl)
theorem dX4_rowsWith_70 : decode cX4_rowsWith 70 = .ok (.i2l, 1) := dk_133 (dk_at dksX4_rowsWith_3 0 rfl rfl)
theorem dX4_rowsWith_71 : decode cX4_rowsWith 71 = .ok (.lmul, 1) := dk_105 (dk_at dksX4_rowsWith_3 1 rfl rfl)
theorem dX4_rowsWith_72 : decode cX4_rowsWith 72 = .ok (.iload_n 3, 1) := dk_29 (dk_at dksX4_rowsWith_3 2 rfl rfl)
theorem dX4_rowsWith_73 : decode cX4_rowsWith 73 = .ok (.ifCond .le 22, 3) := dk_158 0 22 (dk_at dksX4_rowsWith_3 3 rfl rfl)
theorem dX4_rowsWith_76 : decode cX4_rowsWith 76 = .ok (.aload_n 0, 1) := dk_42 (dk_at dksX4_rowsWith_3 6 rfl rfl)
theorem dX4_rowsWith_77 : decode cX4_rowsWith 77 = .ok (.getfield 112, 3) := dk_180 0 112 (dk_at dksX4_rowsWith_3 7 rfl rfl)
theorem dX4_rowsWith_80 : decode cX4_rowsWith 80 = .ok (.iload_n 3, 1) := dk_29 (dk_at dksX4_rowsWith_3 10 rfl rfl)
theorem dX4_rowsWith_81 : decode cX4_rowsWith 81 = .ok (.iconst 1, 1) := dk_4 (dk_at dksX4_rowsWith_3 11 rfl rfl)
theorem dX4_rowsWith_82 : decode cX4_rowsWith 82 = .ok (.isub, 1) := dk_100 (dk_at dksX4_rowsWith_3 12 rfl rfl)
theorem dX4_rowsWith_83 : decode cX4_rowsWith 83 = .ok (.laload, 1) := dk_47 (dk_at dksX4_rowsWith_3 13 rfl rfl)
theorem dX4_rowsWith_84 : decode cX4_rowsWith 84 = .ok (.aload_n 0, 1) := dk_42 (dk_at dksX4_rowsWith_3 14 rfl rfl)
theorem dX4_rowsWith_85 : decode cX4_rowsWith 85 = .ok (.getfield 109, 3) := dk_180 0 109 (dk_at dksX4_rowsWith_3 15 rfl rfl)
theorem dX4_rowsWith_88 : decode cX4_rowsWith 88 = .ok (.iload_n 2, 1) := dk_28 (dk_at dksX4_rowsWith_3 18 rfl rfl)
theorem dX4_rowsWith_89 : decode cX4_rowsWith 89 = .ok (.iaload, 1) := dk_46 (dk_at dksX4_rowsWith_3 19 rfl rfl)
theorem dX4_rowsWith_90 : decode cX4_rowsWith 90 = .ok (.i2l, 1) := dk_133 (dk_at dksX4_rowsWith_3 20 rfl rfl)
theorem dX4_rowsWith_91 : decode cX4_rowsWith 91 = .ok (.lmul, 1) := dk_105 (dk_at dksX4_rowsWith_3 21 rfl rfl)
theorem dX4_rowsWith_92 : decode cX4_rowsWith 92 = .ok (.goto 4, 3) := dk_167 0 4 (dk_at dksX4_rowsWith_4 0 rfl rfl)
theorem dX4_rowsWith_95 : decode cX4_rowsWith 95 = .ok (.lconst 0, 1) := dk_9 (dk_at dksX4_rowsWith_4 3 rfl rfl)
theorem dX4_rowsWith_96 : decode cX4_rowsWith 96 = .ok (.ladd, 1) := dk_97 (dk_at dksX4_rowsWith_4 4 rfl rfl)
theorem dX4_rowsWith_97 : decode cX4_rowsWith 97 = .ok (.lastore, 1) := dk_80 (dk_at dksX4_rowsWith_4 5 rfl rfl)
theorem dX4_rowsWith_98 : decode cX4_rowsWith 98 = .ok (.iinc 3 (-1), 3) := dk_132 3 255 (dk_at dksX4_rowsWith_4 6 rfl rfl)
theorem dX4_rowsWith_101 : decode cX4_rowsWith 101 = .ok (.goto (-59), 3) := dk_167 255 197 (dk_at dksX4_rowsWith_4 9 rfl rfl)
theorem dX4_rowsWith_104 : decode cX4_rowsWith 104 = .ok (.iinc 2 1, 3) := dk_132 2 1 (dk_at dksX4_rowsWith_4 12 rfl rfl)
theorem dX4_rowsWith_107 : decode cX4_rowsWith 107 = .ok (.goto (-77), 3) := dk_167 255 179 (dk_at dksX4_rowsWith_4 15 rfl rfl)
theorem dX4_rowsWith_110 : decode cX4_rowsWith 110 = .ok (.lconst 0, 1) := dk_9 (dk_at dksX4_rowsWith_4 18 rfl rfl)
theorem dX4_rowsWith_111 : decode cX4_rowsWith 111 = .ok (.lstore_n 2, 1) := dk_65 (dk_at dksX4_rowsWith_4 19 rfl rfl)
theorem dX4_rowsWith_112 : decode cX4_rowsWith 112 = .ok (.iload_n 1, 1) := dk_27 (dk_at dksX4_rowsWith_4 20 rfl rfl)
theorem dX4_rowsWith_113 : decode cX4_rowsWith 113 = .ok (.ifCond .ge 7, 3) := dk_156 0 7 (dk_at dksX4_rowsWith_4 21 rfl rfl)
theorem dX4_rowsWith_116 : decode cX4_rowsWith 116 = .ok (.iconst 0, 1) := dk_3 (dk_at dksX4_rowsWith_5 0 rfl rfl)
theorem dX4_rowsWith_117 : decode cX4_rowsWith 117 = .ok (.goto 4, 3) := dk_167 0 4 (dk_at dksX4_rowsWith_5 1 rfl rfl)
theorem dX4_rowsWith_120 : decode cX4_rowsWith 120 = .ok (.iload_n 1, 1) := dk_27 (dk_at dksX4_rowsWith_5 4 rfl rfl)
theorem dX4_rowsWith_121 : decode cX4_rowsWith 121 = .ok (.istore 4, 2) := dk_54 4 (dk_at dksX4_rowsWith_5 5 rfl rfl)
theorem dX4_rowsWith_123 : decode cX4_rowsWith 123 = .ok (.iload 4, 2) := dk_21 4 (dk_at dksX4_rowsWith_5 7 rfl rfl)
theorem dX4_rowsWith_125 : decode cX4_rowsWith 125 = .ok (.aload_n 0, 1) := dk_42 (dk_at dksX4_rowsWith_5 9 rfl rfl)
theorem dX4_rowsWith_126 : decode cX4_rowsWith 126 = .ok (.getfield 125, 3) := dk_180 0 125 (dk_at dksX4_rowsWith_5 10 rfl rfl)
theorem dX4_rowsWith_129 : decode cX4_rowsWith 129 = .ok (.if_icmp .gt 19, 3) := dk_163 0 19 (dk_at dksX4_rowsWith_5 13 rfl rfl)
theorem dX4_rowsWith_132 : decode cX4_rowsWith 132 = .ok (.lload_n 2, 1) := dk_32 (dk_at dksX4_rowsWith_5 16 rfl rfl)
theorem dX4_rowsWith_133 : decode cX4_rowsWith 133 = .ok (.aload_n 0, 1) := dk_42 (dk_at dksX4_rowsWith_5 17 rfl rfl)
theorem dX4_rowsWith_134 : decode cX4_rowsWith 134 = .ok (.getfield 112, 3) := dk_180 0 112 (dk_at dksX4_rowsWith_5 18 rfl rfl)
theorem dX4_rowsWith_137 : decode cX4_rowsWith 137 = .ok (.iload 4, 2) := dk_21 4 (dk_at dksX4_rowsWith_5 21 rfl rfl)
theorem dX4_rowsWith_139 : decode cX4_rowsWith 139 = .ok (.laload, 1) := dk_47 (dk_at dksX4_rowsWith_5 23 rfl rfl)
theorem dX4_rowsWith_140 : decode cX4_rowsWith 140 = .ok (.ladd, 1) := dk_97 (dk_at dksX4_rowsWith_6 0 rfl rfl)
theorem dX4_rowsWith_141 : decode cX4_rowsWith 141 = .ok (.lstore_n 2, 1) := dk_65 (dk_at dksX4_rowsWith_6 1 rfl rfl)
theorem dX4_rowsWith_142 : decode cX4_rowsWith 142 = .ok (.iinc 4 1, 3) := dk_132 4 1 (dk_at dksX4_rowsWith_6 2 rfl rfl)
theorem dX4_rowsWith_145 : decode cX4_rowsWith 145 = .ok (.goto (-22), 3) := dk_167 255 234 (dk_at dksX4_rowsWith_6 5 rfl rfl)
theorem dX4_rowsWith_148 : decode cX4_rowsWith 148 = .ok (.lload_n 2, 1) := dk_32 (dk_at dksX4_rowsWith_6 8 rfl rfl)
theorem dX4_rowsWith_149 : decode cX4_rowsWith 149 = .ok (.lreturn, 1) := dk_173 (dk_at dksX4_rowsWith_6 9 rfl rfl)
abbrev cX4_chance : ByteArray := prog_26_method_106_code
def yX4_chance : MethodName := ⟨RX4, "chance", "(II)I"⟩
def dkwX4_chance_2 : List UInt8 := [21, 5, 100, 133, 105, 20, 1, 192, 109, 66, 132, 6, 1, 167, 255, 233, 19, 1, 199, 33, 136, 100, 172]
abbrev dktX4_chance_2 : List UInt8 := dkwX4_chance_2 ++ []
def dkwX4_chance_1 : List UInt8 := [20, 1, 192, 66, 42, 27, 182, 1, 196, 54, 5, 3, 54, 6, 21, 6, 28, 162, 0, 23, 33, 19, 1, 199]
abbrev dktX4_chance_1 : List UInt8 := dkwX4_chance_1 ++ dktX4_chance_2
def dkwX4_chance_0 : List UInt8 := [42, 3, 181, 0, 1, 27, 155, 0, 15, 28, 133, 10, 20, 1, 194, 184, 0, 140, 154, 0, 5, 2, 172]
abbrev dktX4_chance_0 : List UInt8 := dkwX4_chance_0 ++ dktX4_chance_1
theorem dksX4_chance_0 : cX4_chance.data.toList.drop 0 = dktX4_chance_0 := by decide +kernel
theorem dksX4_chance_1 : cX4_chance.data.toList.drop 23 = dktX4_chance_1 := dk_seg dksX4_chance_0 23 rfl rfl
theorem dksX4_chance_2 : cX4_chance.data.toList.drop 47 = dktX4_chance_2 := dk_seg dksX4_chance_1 24 rfl rfl
theorem dX4_chance_0 : decode cX4_chance 0 = .ok (.aload_n 0, 1) := dk_42 (dk_at dksX4_chance_0 0 rfl rfl)
theorem dX4_chance_1 : decode cX4_chance 1 = .ok (.iconst 0, 1) := dk_3 (dk_at dksX4_chance_0 1 rfl rfl)
theorem dX4_chance_2 : decode cX4_chance 2 = .ok (.putfield 1, 3) := dk_181 0 1 (dk_at dksX4_chance_0 2 rfl rfl)
theorem dX4_chance_5 : decode cX4_chance 5 = .ok (.iload_n 1, 1) := dk_27 (dk_at dksX4_chance_0 5 rfl rfl)
theorem dX4_chance_6 : decode cX4_chance 6 = .ok (.ifCond .lt 15, 3) := dk_155 0 15 (dk_at dksX4_chance_0 6 rfl rfl)
theorem dX4_chance_9 : decode cX4_chance 9 = .ok (.iload_n 2, 1) := dk_28 (dk_at dksX4_chance_0 9 rfl rfl)
theorem dX4_chance_10 : decode cX4_chance 10 = .ok (.i2l, 1) := dk_133 (dk_at dksX4_chance_0 10 rfl rfl)
theorem dX4_chance_11 : decode cX4_chance 11 = .ok (.lconst 1, 1) := dk_10 (dk_at dksX4_chance_0 11 rfl rfl)
theorem dX4_chance_12 : decode cX4_chance 12 = .ok (.ldc2_w 450, 3) := dk_20 1 194 (dk_at dksX4_chance_0 12 rfl rfl)
theorem dX4_chance_15 : decode cX4_chance 15 = .ok (.invokestatic 140, 3) := dk_184 0 140 (dk_at dksX4_chance_0 15 rfl rfl)
theorem dX4_chance_18 : decode cX4_chance 18 = .ok (.ifCond .ne 5, 3) := dk_154 0 5 (dk_at dksX4_chance_0 18 rfl rfl)
theorem dX4_chance_21 : decode cX4_chance 21 = .ok (.iconst (-1), 1) := dk_2 (dk_at dksX4_chance_0 21 rfl rfl)
theorem dX4_chance_22 : decode cX4_chance 22 = .ok (.ireturn, 1) := dk_172 (dk_at dksX4_chance_0 22 rfl rfl)
theorem dX4_chance_23 : decode cX4_chance 23 = .ok (.ldc2_w 448, 3) := dk_20 1 192 (dk_at dksX4_chance_1 0 rfl rfl)
theorem dX4_chance_26 : decode cX4_chance 26 = .ok (.lstore_n 3, 1) := dk_66 (dk_at dksX4_chance_1 3 rfl rfl)
theorem dX4_chance_27 : decode cX4_chance 27 = .ok (.aload_n 0, 1) := dk_42 (dk_at dksX4_chance_1 4 rfl rfl)
theorem dX4_chance_28 : decode cX4_chance 28 = .ok (.iload_n 1, 1) := dk_27 (dk_at dksX4_chance_1 5 rfl rfl)
theorem dX4_chance_29 : decode cX4_chance 29 = .ok (.invokevirtual 452, 3) := dk_182 1 196 (dk_at dksX4_chance_1 6 rfl rfl)
theorem dX4_chance_32 : decode cX4_chance 32 = .ok (.istore 5, 2) := dk_54 5 (dk_at dksX4_chance_1 9 rfl rfl)
theorem dX4_chance_34 : decode cX4_chance 34 = .ok (.iconst 0, 1) := dk_3 (dk_at dksX4_chance_1 11 rfl rfl)
theorem dX4_chance_35 : decode cX4_chance 35 = .ok (.istore 6, 2) := dk_54 6 (dk_at dksX4_chance_1 12 rfl rfl)
theorem dX4_chance_37 : decode cX4_chance 37 = .ok (.iload 6, 2) := dk_21 6 (dk_at dksX4_chance_1 14 rfl rfl)
theorem dX4_chance_39 : decode cX4_chance 39 = .ok (.iload_n 2, 1) := dk_28 (dk_at dksX4_chance_1 16 rfl rfl)
theorem dX4_chance_40 : decode cX4_chance 40 = .ok (.if_icmp .ge 23, 3) := dk_162 0 23 (dk_at dksX4_chance_1 17 rfl rfl)
theorem dX4_chance_43 : decode cX4_chance 43 = .ok (.lload_n 3, 1) := dk_33 (dk_at dksX4_chance_1 20 rfl rfl)
theorem dX4_chance_44 : decode cX4_chance 44 = .ok (.ldc_w 455, 3) := dk_19 1 199 (dk_at dksX4_chance_1 21 rfl rfl)
theorem dX4_chance_47 : decode cX4_chance 47 = .ok (.iload 5, 2) := dk_21 5 (dk_at dksX4_chance_2 0 rfl rfl)
theorem dX4_chance_49 : decode cX4_chance 49 = .ok (.isub, 1) := dk_100 (dk_at dksX4_chance_2 2 rfl rfl)
theorem dX4_chance_50 : decode cX4_chance 50 = .ok (.i2l, 1) := dk_133 (dk_at dksX4_chance_2 3 rfl rfl)
theorem dX4_chance_51 : decode cX4_chance 51 = .ok (.lmul, 1) := dk_105 (dk_at dksX4_chance_2 4 rfl rfl)
theorem dX4_chance_52 : decode cX4_chance 52 = .ok (.ldc2_w 448, 3) := dk_20 1 192 (dk_at dksX4_chance_2 5 rfl rfl)
theorem dX4_chance_55 : decode cX4_chance 55 = .ok (.ldiv, 1) := dk_109 (dk_at dksX4_chance_2 8 rfl rfl)
theorem dX4_chance_56 : decode cX4_chance 56 = .ok (.lstore_n 3, 1) := dk_66 (dk_at dksX4_chance_2 9 rfl rfl)
theorem dX4_chance_57 : decode cX4_chance 57 = .ok (.iinc 6 1, 3) := dk_132 6 1 (dk_at dksX4_chance_2 10 rfl rfl)
theorem dX4_chance_60 : decode cX4_chance 60 = .ok (.goto (-23), 3) := dk_167 255 233 (dk_at dksX4_chance_2 13 rfl rfl)
theorem dX4_chance_63 : decode cX4_chance 63 = .ok (.ldc_w 455, 3) := dk_19 1 199 (dk_at dksX4_chance_2 16 rfl rfl)
theorem dX4_chance_66 : decode cX4_chance 66 = .ok (.lload_n 3, 1) := dk_33 (dk_at dksX4_chance_2 19 rfl rfl)
theorem dX4_chance_67 : decode cX4_chance 67 = .ok (.l2i, 1) := dk_136 (dk_at dksX4_chance_2 20 rfl rfl)
theorem dX4_chance_68 : decode cX4_chance 68 = .ok (.isub, 1) := dk_100 (dk_at dksX4_chance_2 21 rfl rfl)
theorem dX4_chance_69 : decode cX4_chance 69 = .ok (.ireturn, 1) := dk_172 (dk_at dksX4_chance_2 22 rfl rfl)
abbrev cX4_chanceOf : ByteArray := prog_26_method_105_code
def yX4_chanceOf : MethodName := ⟨RX4, "chanceOf", "(I)I"⟩
def dkwX4_chanceOf_0 : List UInt8 := [42, 27, 182, 1, 188, 65, 20, 1, 192, 32, 105, 42, 2, 182, 1, 188, 109, 136, 172]
abbrev dktX4_chanceOf_0 : List UInt8 := dkwX4_chanceOf_0 ++ []
theorem dksX4_chanceOf_0 : cX4_chanceOf.data.toList.drop 0 = dktX4_chanceOf_0 := by decide +kernel
theorem dX4_chanceOf_0 : decode cX4_chanceOf 0 = .ok (.aload_n 0, 1) := dk_42 (dk_at dksX4_chanceOf_0 0 rfl rfl)
theorem dX4_chanceOf_1 : decode cX4_chanceOf 1 = .ok (.iload_n 1, 1) := dk_27 (dk_at dksX4_chanceOf_0 1 rfl rfl)
theorem dX4_chanceOf_2 : decode cX4_chanceOf 2 = .ok (.invokevirtual 444, 3) := dk_182 1 188 (dk_at dksX4_chanceOf_0 2 rfl rfl)
theorem dX4_chanceOf_5 : decode cX4_chanceOf 5 = .ok (.lstore_n 2, 1) := dk_65 (dk_at dksX4_chanceOf_0 5 rfl rfl)
theorem dX4_chanceOf_6 : decode cX4_chanceOf 6 = .ok (.ldc2_w 448, 3) := dk_20 1 192 (dk_at dksX4_chanceOf_0 6 rfl rfl)
theorem dX4_chanceOf_9 : decode cX4_chanceOf 9 = .ok (.lload_n 2, 1) := dk_32 (dk_at dksX4_chanceOf_0 9 rfl rfl)
theorem dX4_chanceOf_10 : decode cX4_chanceOf 10 = .ok (.lmul, 1) := dk_105 (dk_at dksX4_chanceOf_0 10 rfl rfl)
theorem dX4_chanceOf_11 : decode cX4_chanceOf 11 = .ok (.aload_n 0, 1) := dk_42 (dk_at dksX4_chanceOf_0 11 rfl rfl)
theorem dX4_chanceOf_12 : decode cX4_chanceOf 12 = .ok (.iconst (-1), 1) := dk_2 (dk_at dksX4_chanceOf_0 12 rfl rfl)
theorem dX4_chanceOf_13 : decode cX4_chanceOf 13 = .ok (.invokevirtual 444, 3) := dk_182 1 188 (dk_at dksX4_chanceOf_0 13 rfl rfl)
theorem dX4_chanceOf_16 : decode cX4_chanceOf 16 = .ok (.ldiv, 1) := dk_109 (dk_at dksX4_chanceOf_0 16 rfl rfl)
theorem dX4_chanceOf_17 : decode cX4_chanceOf 17 = .ok (.l2i, 1) := dk_136 (dk_at dksX4_chanceOf_0 17 rfl rfl)
theorem dX4_chanceOf_18 : decode cX4_chanceOf 18 = .ok (.ireturn, 1) := dk_172 (dk_at dksX4_chanceOf_0 18 rfl rfl)
abbrev cX4_ease : ByteArray := prog_26_method_108_code
def yX4_ease : MethodName := ⟨RX4, "ease", "(II)I"⟩
def dkwX4_ease_2 : List UInt8 := [3, 28, 182, 1, 206, 28, 2, 160, 0, 10, 42, 180, 1, 200, 167, 0, 7, 42, 180, 1, 203, 172]
abbrev dktX4_ease_2 : List UInt8 := dkwX4_ease_2 ++ []
def dkwX4_ease_1 : List UInt8 := [2, 162, 0, 5, 2, 172, 42, 3, 181, 1, 200, 42, 2, 181, 1, 203, 42, 27, 42, 180, 0, 24, 4, 100]
abbrev dktX4_ease_1 : List UInt8 := dkwX4_ease_1 ++ dktX4_ease_2
def dkwX4_ease_0 : List UInt8 := [42, 3, 181, 0, 1, 27, 133, 9, 4, 42, 180, 0, 24, 120, 4, 100, 133, 184, 0, 140, 153, 0, 8, 28]
abbrev dktX4_ease_0 : List UInt8 := dkwX4_ease_0 ++ dktX4_ease_1
theorem dksX4_ease_0 : cX4_ease.data.toList.drop 0 = dktX4_ease_0 := by decide +kernel
theorem dksX4_ease_1 : cX4_ease.data.toList.drop 24 = dktX4_ease_1 := dk_seg dksX4_ease_0 24 rfl rfl
theorem dksX4_ease_2 : cX4_ease.data.toList.drop 48 = dktX4_ease_2 := dk_seg dksX4_ease_1 24 rfl rfl
theorem dX4_ease_0 : decode cX4_ease 0 = .ok (.aload_n 0, 1) := dk_42 (dk_at dksX4_ease_0 0 rfl rfl)
theorem dX4_ease_1 : decode cX4_ease 1 = .ok (.iconst 0, 1) := dk_3 (dk_at dksX4_ease_0 1 rfl rfl)
theorem dX4_ease_2 : decode cX4_ease 2 = .ok (.putfield 1, 3) := dk_181 0 1 (dk_at dksX4_ease_0 2 rfl rfl)
theorem dX4_ease_5 : decode cX4_ease 5 = .ok (.iload_n 1, 1) := dk_27 (dk_at dksX4_ease_0 5 rfl rfl)
theorem dX4_ease_6 : decode cX4_ease 6 = .ok (.i2l, 1) := dk_133 (dk_at dksX4_ease_0 6 rfl rfl)
theorem dX4_ease_7 : decode cX4_ease 7 = .ok (.lconst 0, 1) := dk_9 (dk_at dksX4_ease_0 7 rfl rfl)
theorem dX4_ease_8 : decode cX4_ease 8 = .ok (.iconst 1, 1) := dk_4 (dk_at dksX4_ease_0 8 rfl rfl)
theorem dX4_ease_9 : decode cX4_ease 9 = .ok (.aload_n 0, 1) := dk_42 (dk_at dksX4_ease_0 9 rfl rfl)
theorem dX4_ease_10 : decode cX4_ease 10 = .ok (.getfield 24, 3) := dk_180 0 24 (dk_at dksX4_ease_0 10 rfl rfl)
theorem dX4_ease_13 : decode cX4_ease 13 = .ok (.ishl, 1) := dk_120 (dk_at dksX4_ease_0 13 rfl rfl)
theorem dX4_ease_14 : decode cX4_ease 14 = .ok (.iconst 1, 1) := dk_4 (dk_at dksX4_ease_0 14 rfl rfl)
theorem dX4_ease_15 : decode cX4_ease 15 = .ok (.isub, 1) := dk_100 (dk_at dksX4_ease_0 15 rfl rfl)
theorem dX4_ease_16 : decode cX4_ease 16 = .ok (.i2l, 1) := dk_133 (dk_at dksX4_ease_0 16 rfl rfl)
theorem dX4_ease_17 : decode cX4_ease 17 = .ok (.invokestatic 140, 3) := dk_184 0 140 (dk_at dksX4_ease_0 17 rfl rfl)
theorem dX4_ease_20 : decode cX4_ease 20 = .ok (.ifCond .eq 8, 3) := dk_153 0 8 (dk_at dksX4_ease_0 20 rfl rfl)
theorem dX4_ease_23 : decode cX4_ease 23 = .ok (.iload_n 2, 1) := dk_28 (dk_at dksX4_ease_0 23 rfl rfl)
theorem dX4_ease_24 : decode cX4_ease 24 = .ok (.iconst (-1), 1) := dk_2 (dk_at dksX4_ease_1 0 rfl rfl)
theorem dX4_ease_25 : decode cX4_ease 25 = .ok (.if_icmp .ge 5, 3) := dk_162 0 5 (dk_at dksX4_ease_1 1 rfl rfl)
theorem dX4_ease_28 : decode cX4_ease 28 = .ok (.iconst (-1), 1) := dk_2 (dk_at dksX4_ease_1 4 rfl rfl)
theorem dX4_ease_29 : decode cX4_ease 29 = .ok (.ireturn, 1) := dk_172 (dk_at dksX4_ease_1 5 rfl rfl)
theorem dX4_ease_30 : decode cX4_ease 30 = .ok (.aload_n 0, 1) := dk_42 (dk_at dksX4_ease_1 6 rfl rfl)
theorem dX4_ease_31 : decode cX4_ease 31 = .ok (.iconst 0, 1) := dk_3 (dk_at dksX4_ease_1 7 rfl rfl)
theorem dX4_ease_32 : decode cX4_ease 32 = .ok (.putfield 456, 3) := dk_181 1 200 (dk_at dksX4_ease_1 8 rfl rfl)
theorem dX4_ease_35 : decode cX4_ease 35 = .ok (.aload_n 0, 1) := dk_42 (dk_at dksX4_ease_1 11 rfl rfl)
theorem dX4_ease_36 : decode cX4_ease 36 = .ok (.iconst (-1), 1) := dk_2 (dk_at dksX4_ease_1 12 rfl rfl)
theorem dX4_ease_37 : decode cX4_ease 37 = .ok (.putfield 459, 3) := dk_181 1 203 (dk_at dksX4_ease_1 13 rfl rfl)
theorem dX4_ease_40 : decode cX4_ease 40 = .ok (.aload_n 0, 1) := dk_42 (dk_at dksX4_ease_1 16 rfl rfl)
theorem dX4_ease_41 : decode cX4_ease 41 = .ok (.iload_n 1, 1) := dk_27 (dk_at dksX4_ease_1 17 rfl rfl)
theorem dX4_ease_42 : decode cX4_ease 42 = .ok (.aload_n 0, 1) := dk_42 (dk_at dksX4_ease_1 18 rfl rfl)
theorem dX4_ease_43 : decode cX4_ease 43 = .ok (.getfield 24, 3) := dk_180 0 24 (dk_at dksX4_ease_1 19 rfl rfl)
theorem dX4_ease_46 : decode cX4_ease 46 = .ok (.iconst 1, 1) := dk_4 (dk_at dksX4_ease_1 22 rfl rfl)
theorem dX4_ease_47 : decode cX4_ease 47 = .ok (.isub, 1) := dk_100 (dk_at dksX4_ease_1 23 rfl rfl)
theorem dX4_ease_48 : decode cX4_ease 48 = .ok (.iconst 0, 1) := dk_3 (dk_at dksX4_ease_2 0 rfl rfl)
theorem dX4_ease_49 : decode cX4_ease 49 = .ok (.iload_n 2, 1) := dk_28 (dk_at dksX4_ease_2 1 rfl rfl)
theorem dX4_ease_50 : decode cX4_ease 50 = .ok (.invokevirtual 462, 3) := dk_182 1 206 (dk_at dksX4_ease_2 2 rfl rfl)
theorem dX4_ease_53 : decode cX4_ease 53 = .ok (.iload_n 2, 1) := dk_28 (dk_at dksX4_ease_2 5 rfl rfl)
theorem dX4_ease_54 : decode cX4_ease 54 = .ok (.iconst (-1), 1) := dk_2 (dk_at dksX4_ease_2 6 rfl rfl)
theorem dX4_ease_55 : decode cX4_ease 55 = .ok (.if_icmp .ne 10, 3) := dk_160 0 10 (dk_at dksX4_ease_2 7 rfl rfl)
theorem dX4_ease_58 : decode cX4_ease 58 = .ok (.aload_n 0, 1) := dk_42 (dk_at dksX4_ease_2 10 rfl rfl)
theorem dX4_ease_59 : decode cX4_ease 59 = .ok (.getfield 456, 3) := dk_180 1 200 (dk_at dksX4_ease_2 11 rfl rfl)
theorem dX4_ease_62 : decode cX4_ease 62 = .ok (.goto 7, 3) := dk_167 0 7 (dk_at dksX4_ease_2 14 rfl rfl)
theorem dX4_ease_65 : decode cX4_ease 65 = .ok (.aload_n 0, 1) := dk_42 (dk_at dksX4_ease_2 17 rfl rfl)
theorem dX4_ease_66 : decode cX4_ease 66 = .ok (.getfield 459, 3) := dk_180 1 203 (dk_at dksX4_ease_2 18 rfl rfl)
theorem dX4_ease_69 : decode cX4_ease 69 = .ok (.ireturn, 1) := dk_172 (dk_at dksX4_ease_2 21 rfl rfl)
abbrev cX4_eases : ByteArray := prog_26_method_107_code
def yX4_eases : MethodName := ⟨RX4, "eases", "(IIII)V"⟩
def dkwX4_eases_5 : List UInt8 := [21, 4, 182, 1, 206, 42, 27, 28, 4, 100, 29, 5, 5, 28, 104, 120, 128, 21, 4, 182, 1, 206, 177]
abbrev dktX4_eases_5 : List UInt8 := dkwX4_eases_5 ++ []
def dkwX4_eases_4 : List UInt8 := [132, 6, 1, 167, 255, 211, 21, 5, 154, 0, 4, 177, 42, 27, 28, 4, 100, 29, 4, 5, 28, 104, 120, 128]
abbrev dktX4_eases_4 : List UInt8 := dkwX4_eases_4 ++ dktX4_eases_5
def dkwX4_eases_3 : List UInt8 := [182, 0, 132, 153, 0, 14, 29, 5, 21, 6, 104, 122, 6, 126, 154, 0, 7, 4, 167, 0, 4, 3, 54, 5]
abbrev dktX4_eases_3 : List UInt8 := dkwX4_eases_3 ++ dktX4_eases_4
def dkwX4_eases_2 : List UInt8 := [4, 96, 54, 6, 21, 6, 42, 180, 0, 24, 162, 0, 42, 21, 5, 153, 0, 28, 42, 28, 21, 6]
abbrev dktX4_eases_2 : List UInt8 := dkwX4_eases_2 ++ dktX4_eases_3
def dkwX4_eases_1 : List UInt8 := [96, 181, 1, 200, 177, 42, 27, 28, 4, 100, 29, 21, 4, 182, 1, 206, 27, 28, 184, 0, 179, 54, 5, 28]
abbrev dktX4_eases_1 : List UInt8 := dkwX4_eases_1 ++ dktX4_eases_2
def dkwX4_eases_0 : List UInt8 := [28, 156, 0, 28, 42, 180, 1, 200, 21, 4, 160, 0, 8, 42, 29, 181, 1, 203, 42, 89, 180, 1, 200, 4]
abbrev dktX4_eases_0 : List UInt8 := dkwX4_eases_0 ++ dktX4_eases_1
theorem dksX4_eases_0 : cX4_eases.data.toList.drop 0 = dktX4_eases_0 := by decide +kernel
theorem dksX4_eases_1 : cX4_eases.data.toList.drop 24 = dktX4_eases_1 := dk_seg dksX4_eases_0 24 rfl rfl
theorem dksX4_eases_2 : cX4_eases.data.toList.drop 48 = dktX4_eases_2 := dk_seg dksX4_eases_1 24 rfl rfl
theorem dksX4_eases_3 : cX4_eases.data.toList.drop 70 = dktX4_eases_3 := dk_seg dksX4_eases_2 22 rfl rfl
theorem dksX4_eases_4 : cX4_eases.data.toList.drop 94 = dktX4_eases_4 := dk_seg dksX4_eases_3 24 rfl rfl
theorem dksX4_eases_5 : cX4_eases.data.toList.drop 118 = dktX4_eases_5 := dk_seg dksX4_eases_4 24 rfl rfl
theorem dX4_eases_0 : decode cX4_eases 0 = .ok (.iload_n 2, 1) := dk_28 (dk_at dksX4_eases_0 0 rfl rfl)
theorem dX4_eases_1 : decode cX4_eases 1 = .ok (.ifCond .ge 28, 3) := dk_156 0 28 (dk_at dksX4_eases_0 1 rfl rfl)
theorem dX4_eases_4 : decode cX4_eases 4 = .ok (.aload_n 0, 1) := dk_42 (dk_at dksX4_eases_0 4 rfl rfl)
theorem dX4_eases_5 : decode cX4_eases 5 = .ok (.getfield 456, 3) := dk_180 1 200 (dk_at dksX4_eases_0 5 rfl rfl)
theorem dX4_eases_8 : decode cX4_eases 8 = .ok (.iload 4, 2) := dk_21 4 (dk_at dksX4_eases_0 8 rfl rfl)
theorem dX4_eases_10 : decode cX4_eases 10 = .ok (.if_icmp .ne 8, 3) := dk_160 0 8 (dk_at dksX4_eases_0 10 rfl rfl)
theorem dX4_eases_13 : decode cX4_eases 13 = .ok (.aload_n 0, 1) := dk_42 (dk_at dksX4_eases_0 13 rfl rfl)
theorem dX4_eases_14 : decode cX4_eases 14 = .ok (.iload_n 3, 1) := dk_29 (dk_at dksX4_eases_0 14 rfl rfl)
theorem dX4_eases_15 : decode cX4_eases 15 = .ok (.putfield 459, 3) := dk_181 1 203 (dk_at dksX4_eases_0 15 rfl rfl)
theorem dX4_eases_18 : decode cX4_eases 18 = .ok (.aload_n 0, 1) := dk_42 (dk_at dksX4_eases_0 18 rfl rfl)
theorem dX4_eases_19 : decode cX4_eases 19 = .ok (.dup, 1) := dk_89 (dk_at dksX4_eases_0 19 rfl rfl)
theorem dX4_eases_20 : decode cX4_eases 20 = .ok (.getfield 456, 3) := dk_180 1 200 (dk_at dksX4_eases_0 20 rfl rfl)
theorem dX4_eases_23 : decode cX4_eases 23 = .ok (.iconst 1, 1) := dk_4 (dk_at dksX4_eases_0 23 rfl rfl)
theorem dX4_eases_24 : decode cX4_eases 24 = .ok (.iadd, 1) := dk_96 (dk_at dksX4_eases_1 0 rfl rfl)
theorem dX4_eases_25 : decode cX4_eases 25 = .ok (.putfield 456, 3) := dk_181 1 200 (dk_at dksX4_eases_1 1 rfl rfl)
theorem dX4_eases_28 : decode cX4_eases 28 = .ok (.return_, 1) := dk_177 (dk_at dksX4_eases_1 4 rfl rfl)
theorem dX4_eases_29 : decode cX4_eases 29 = .ok (.aload_n 0, 1) := dk_42 (dk_at dksX4_eases_1 5 rfl rfl)
theorem dX4_eases_30 : decode cX4_eases 30 = .ok (.iload_n 1, 1) := dk_27 (dk_at dksX4_eases_1 6 rfl rfl)
theorem dX4_eases_31 : decode cX4_eases 31 = .ok (.iload_n 2, 1) := dk_28 (dk_at dksX4_eases_1 7 rfl rfl)
theorem dX4_eases_32 : decode cX4_eases 32 = .ok (.iconst 1, 1) := dk_4 (dk_at dksX4_eases_1 8 rfl rfl)
theorem dX4_eases_33 : decode cX4_eases 33 = .ok (.isub, 1) := dk_100 (dk_at dksX4_eases_1 9 rfl rfl)
theorem dX4_eases_34 : decode cX4_eases 34 = .ok (.iload_n 3, 1) := dk_29 (dk_at dksX4_eases_1 10 rfl rfl)
theorem dX4_eases_35 : decode cX4_eases 35 = .ok (.iload 4, 2) := dk_21 4 (dk_at dksX4_eases_1 11 rfl rfl)
theorem dX4_eases_37 : decode cX4_eases 37 = .ok (.invokevirtual 462, 3) := dk_182 1 206 (dk_at dksX4_eases_1 13 rfl rfl)
theorem dX4_eases_40 : decode cX4_eases 40 = .ok (.iload_n 1, 1) := dk_27 (dk_at dksX4_eases_1 16 rfl rfl)
theorem dX4_eases_41 : decode cX4_eases 41 = .ok (.iload_n 2, 1) := dk_28 (dk_at dksX4_eases_1 17 rfl rfl)
theorem dX4_eases_42 : decode cX4_eases 42 = .ok (.invokestatic 179, 3) := dk_184 0 179 (dk_at dksX4_eases_1 18 rfl rfl)
theorem dX4_eases_45 : decode cX4_eases 45 = .ok (.istore 5, 2) := dk_54 5 (dk_at dksX4_eases_1 21 rfl rfl)
theorem dX4_eases_47 : decode cX4_eases 47 = .ok (.iload_n 2, 1) := dk_28 (dk_at dksX4_eases_1 23 rfl rfl)
theorem dX4_eases_48 : decode cX4_eases 48 = .ok (.iconst 1, 1) := dk_4 (dk_at dksX4_eases_2 0 rfl rfl)
theorem dX4_eases_49 : decode cX4_eases 49 = .ok (.iadd, 1) := dk_96 (dk_at dksX4_eases_2 1 rfl rfl)
theorem dX4_eases_50 : decode cX4_eases 50 = .ok (.istore 6, 2) := dk_54 6 (dk_at dksX4_eases_2 2 rfl rfl)
theorem dX4_eases_52 : decode cX4_eases 52 = .ok (.iload 6, 2) := dk_21 6 (dk_at dksX4_eases_2 4 rfl rfl)
theorem dX4_eases_54 : decode cX4_eases 54 = .ok (.aload_n 0, 1) := dk_42 (dk_at dksX4_eases_2 6 rfl rfl)
theorem dX4_eases_55 : decode cX4_eases 55 = .ok (.getfield 24, 3) := dk_180 0 24 (dk_at dksX4_eases_2 7 rfl rfl)
theorem dX4_eases_58 : decode cX4_eases 58 = .ok (.if_icmp .ge 42, 3) := dk_162 0 42 (dk_at dksX4_eases_2 10 rfl rfl)
theorem dX4_eases_61 : decode cX4_eases 61 = .ok (.iload 5, 2) := dk_21 5 (dk_at dksX4_eases_2 13 rfl rfl)
theorem dX4_eases_63 : decode cX4_eases 63 = .ok (.ifCond .eq 28, 3) := dk_153 0 28 (dk_at dksX4_eases_2 15 rfl rfl)
theorem dX4_eases_66 : decode cX4_eases 66 = .ok (.aload_n 0, 1) := dk_42 (dk_at dksX4_eases_2 18 rfl rfl)
theorem dX4_eases_67 : decode cX4_eases 67 = .ok (.iload_n 2, 1) := dk_28 (dk_at dksX4_eases_2 19 rfl rfl)
theorem dX4_eases_68 : decode cX4_eases 68 = .ok (.iload 6, 2) := dk_21 6 (dk_at dksX4_eases_2 20 rfl rfl)
theorem dX4_eases_70 : decode cX4_eases 70 = .ok (.invokevirtual 132, 3) := dk_182 0 132 (dk_at dksX4_eases_3 0 rfl rfl)
theorem dX4_eases_73 : decode cX4_eases 73 = .ok (.ifCond .eq 14, 3) := dk_153 0 14 (dk_at dksX4_eases_3 3 rfl rfl)
theorem dX4_eases_76 : decode cX4_eases 76 = .ok (.iload_n 3, 1) := dk_29 (dk_at dksX4_eases_3 6 rfl rfl)
theorem dX4_eases_77 : decode cX4_eases 77 = .ok (.iconst 2, 1) := dk_5 (dk_at dksX4_eases_3 7 rfl rfl)
theorem dX4_eases_78 : decode cX4_eases 78 = .ok (.iload 6, 2) := dk_21 6 (dk_at dksX4_eases_3 8 rfl rfl)
theorem dX4_eases_80 : decode cX4_eases 80 = .ok (.imul, 1) := dk_104 (dk_at dksX4_eases_3 10 rfl rfl)
theorem dX4_eases_81 : decode cX4_eases 81 = .ok (.ishr, 1) := dk_122 (dk_at dksX4_eases_3 11 rfl rfl)
theorem dX4_eases_82 : decode cX4_eases 82 = .ok (.iconst 3, 1) := dk_6 (dk_at dksX4_eases_3 12 rfl rfl)
theorem dX4_eases_83 : decode cX4_eases 83 = .ok (.iand, 1) := dk_126 (dk_at dksX4_eases_3 13 rfl rfl)
theorem dX4_eases_84 : decode cX4_eases 84 = .ok (.ifCond .ne 7, 3) := dk_154 0 7 (dk_at dksX4_eases_3 14 rfl rfl)
theorem dX4_eases_87 : decode cX4_eases 87 = .ok (.iconst 1, 1) := dk_4 (dk_at dksX4_eases_3 17 rfl rfl)
theorem dX4_eases_88 : decode cX4_eases 88 = .ok (.goto 4, 3) := dk_167 0 4 (dk_at dksX4_eases_3 18 rfl rfl)
theorem dX4_eases_91 : decode cX4_eases 91 = .ok (.iconst 0, 1) := dk_3 (dk_at dksX4_eases_3 21 rfl rfl)
theorem dX4_eases_92 : decode cX4_eases 92 = .ok (.istore 5, 2) := dk_54 5 (dk_at dksX4_eases_3 22 rfl rfl)
theorem dX4_eases_94 : decode cX4_eases 94 = .ok (.iinc 6 1, 3) := dk_132 6 1 (dk_at dksX4_eases_4 0 rfl rfl)
theorem dX4_eases_97 : decode cX4_eases 97 = .ok (.goto (-45), 3) := dk_167 255 211 (dk_at dksX4_eases_4 3 rfl rfl)
theorem dX4_eases_100 : decode cX4_eases 100 = .ok (.iload 5, 2) := dk_21 5 (dk_at dksX4_eases_4 6 rfl rfl)
theorem dX4_eases_102 : decode cX4_eases 102 = .ok (.ifCond .ne 4, 3) := dk_154 0 4 (dk_at dksX4_eases_4 8 rfl rfl)
theorem dX4_eases_105 : decode cX4_eases 105 = .ok (.return_, 1) := dk_177 (dk_at dksX4_eases_4 11 rfl rfl)
theorem dX4_eases_106 : decode cX4_eases 106 = .ok (.aload_n 0, 1) := dk_42 (dk_at dksX4_eases_4 12 rfl rfl)
theorem dX4_eases_107 : decode cX4_eases 107 = .ok (.iload_n 1, 1) := dk_27 (dk_at dksX4_eases_4 13 rfl rfl)
theorem dX4_eases_108 : decode cX4_eases 108 = .ok (.iload_n 2, 1) := dk_28 (dk_at dksX4_eases_4 14 rfl rfl)
theorem dX4_eases_109 : decode cX4_eases 109 = .ok (.iconst 1, 1) := dk_4 (dk_at dksX4_eases_4 15 rfl rfl)
theorem dX4_eases_110 : decode cX4_eases 110 = .ok (.isub, 1) := dk_100 (dk_at dksX4_eases_4 16 rfl rfl)
theorem dX4_eases_111 : decode cX4_eases 111 = .ok (.iload_n 3, 1) := dk_29 (dk_at dksX4_eases_4 17 rfl rfl)
theorem dX4_eases_112 : decode cX4_eases 112 = .ok (.iconst 1, 1) := dk_4 (dk_at dksX4_eases_4 18 rfl rfl)
theorem dX4_eases_113 : decode cX4_eases 113 = .ok (.iconst 2, 1) := dk_5 (dk_at dksX4_eases_4 19 rfl rfl)
theorem dX4_eases_114 : decode cX4_eases 114 = .ok (.iload_n 2, 1) := dk_28 (dk_at dksX4_eases_4 20 rfl rfl)
theorem dX4_eases_115 : decode cX4_eases 115 = .ok (.imul, 1) := dk_104 (dk_at dksX4_eases_4 21 rfl rfl)
theorem dX4_eases_116 : decode cX4_eases 116 = .ok (.ishl, 1) := dk_120 (dk_at dksX4_eases_4 22 rfl rfl)
theorem dX4_eases_117 : decode cX4_eases 117 = .ok (.ior, 1) := dk_128 (dk_at dksX4_eases_4 23 rfl rfl)
theorem dX4_eases_118 : decode cX4_eases 118 = .ok (.iload 4, 2) := dk_21 4 (dk_at dksX4_eases_5 0 rfl rfl)
theorem dX4_eases_120 : decode cX4_eases 120 = .ok (.invokevirtual 462, 3) := dk_182 1 206 (dk_at dksX4_eases_5 2 rfl rfl)
theorem dX4_eases_123 : decode cX4_eases 123 = .ok (.aload_n 0, 1) := dk_42 (dk_at dksX4_eases_5 5 rfl rfl)
theorem dX4_eases_124 : decode cX4_eases 124 = .ok (.iload_n 1, 1) := dk_27 (dk_at dksX4_eases_5 6 rfl rfl)
theorem dX4_eases_125 : decode cX4_eases 125 = .ok (.iload_n 2, 1) := dk_28 (dk_at dksX4_eases_5 7 rfl rfl)
theorem dX4_eases_126 : decode cX4_eases 126 = .ok (.iconst 1, 1) := dk_4 (dk_at dksX4_eases_5 8 rfl rfl)
theorem dX4_eases_127 : decode cX4_eases 127 = .ok (.isub, 1) := dk_100 (dk_at dksX4_eases_5 9 rfl rfl)
theorem dX4_eases_128 : decode cX4_eases 128 = .ok (.iload_n 3, 1) := dk_29 (dk_at dksX4_eases_5 10 rfl rfl)
theorem dX4_eases_129 : decode cX4_eases 129 = .ok (.iconst 2, 1) := dk_5 (dk_at dksX4_eases_5 11 rfl rfl)
theorem dX4_eases_130 : decode cX4_eases 130 = .ok (.iconst 2, 1) := dk_5 (dk_at dksX4_eases_5 12 rfl rfl)
theorem dX4_eases_131 : decode cX4_eases 131 = .ok (.iload_n 2, 1) := dk_28 (dk_at dksX4_eases_5 13 rfl rfl)
theorem dX4_eases_132 : decode cX4_eases 132 = .ok (.imul, 1) := dk_104 (dk_at dksX4_eases_5 14 rfl rfl)
theorem dX4_eases_133 : decode cX4_eases 133 = .ok (.ishl, 1) := dk_120 (dk_at dksX4_eases_5 15 rfl rfl)
theorem dX4_eases_134 : decode cX4_eases 134 = .ok (.ior, 1) := dk_128 (dk_at dksX4_eases_5 16 rfl rfl)
theorem dX4_eases_135 : decode cX4_eases 135 = .ok (.iload 4, 2) := dk_21 4 (dk_at dksX4_eases_5 17 rfl rfl)
theorem dX4_eases_137 : decode cX4_eases 137 = .ok (.invokevirtual 462, 3) := dk_182 1 206 (dk_at dksX4_eases_5 19 rfl rfl)
theorem dX4_eases_140 : decode cX4_eases 140 = .ok (.return_, 1) := dk_177 (dk_at dksX4_eases_5 22 rfl rfl)
abbrev cX4_fair : ByteArray := prog_26_method_109_code
def yX4_fair : MethodName := ⟨RX4, "fair", "(IIIIIII)I"⟩
def dkwX4_fair_4 : List UInt8 := [172]
abbrev dktX4_fair_4 : List UInt8 := dkwX4_fair_4 ++ []
def dkwX4_fair_3 : List UInt8 := [182, 1, 196, 29, 164, 0, 7, 5, 167, 0, 16, 42, 180, 0, 125, 28, 162, 0, 7, 6, 167, 0, 4, 3]
abbrev dktX4_fair_3 : List UInt8 := dkwX4_fair_3 ++ dktX4_fair_4
def dkwX4_fair_2 : List UInt8 := [42, 27, 21, 4, 21, 5, 21, 6, 21, 7, 182, 1, 177, 154, 0, 7, 4, 167, 0, 29, 42, 28]
abbrev dktX4_fair_2 : List UInt8 := dkwX4_fair_2 ++ dktX4_fair_3
def dkwX4_fair_1 : List UInt8 := [182, 1, 95, 153, 0, 19, 28, 155, 0, 15, 29, 133, 9, 20, 1, 192, 184, 0, 140, 154, 0, 5, 2, 172]
abbrev dktX4_fair_1 : List UInt8 := dkwX4_fair_1 ++ dktX4_fair_2
def dkwX4_fair_0 : List UInt8 := [42, 3, 181, 0, 1, 42, 27, 182, 1, 174, 153, 0, 34, 42, 21, 4, 21, 5, 21, 6, 21, 7]
abbrev dktX4_fair_0 : List UInt8 := dkwX4_fair_0 ++ dktX4_fair_1
theorem dksX4_fair_0 : cX4_fair.data.toList.drop 0 = dktX4_fair_0 := by decide +kernel
theorem dksX4_fair_1 : cX4_fair.data.toList.drop 22 = dktX4_fair_1 := dk_seg dksX4_fair_0 22 rfl rfl
theorem dksX4_fair_2 : cX4_fair.data.toList.drop 46 = dktX4_fair_2 := dk_seg dksX4_fair_1 24 rfl rfl
theorem dksX4_fair_3 : cX4_fair.data.toList.drop 68 = dktX4_fair_3 := dk_seg dksX4_fair_2 22 rfl rfl
theorem dksX4_fair_4 : cX4_fair.data.toList.drop 92 = dktX4_fair_4 := dk_seg dksX4_fair_3 24 rfl rfl
theorem dX4_fair_0 : decode cX4_fair 0 = .ok (.aload_n 0, 1) := dk_42 (dk_at dksX4_fair_0 0 rfl rfl)
theorem dX4_fair_1 : decode cX4_fair 1 = .ok (.iconst 0, 1) := dk_3 (dk_at dksX4_fair_0 1 rfl rfl)
theorem dX4_fair_2 : decode cX4_fair 2 = .ok (.putfield 1, 3) := dk_181 0 1 (dk_at dksX4_fair_0 2 rfl rfl)
theorem dX4_fair_5 : decode cX4_fair 5 = .ok (.aload_n 0, 1) := dk_42 (dk_at dksX4_fair_0 5 rfl rfl)
theorem dX4_fair_6 : decode cX4_fair 6 = .ok (.iload_n 1, 1) := dk_27 (dk_at dksX4_fair_0 6 rfl rfl)
theorem dX4_fair_7 : decode cX4_fair 7 = .ok (.invokevirtual 430, 3) := dk_182 1 174 (dk_at dksX4_fair_0 7 rfl rfl)
theorem dX4_fair_10 : decode cX4_fair 10 = .ok (.ifCond .eq 34, 3) := dk_153 0 34 (dk_at dksX4_fair_0 10 rfl rfl)
theorem dX4_fair_13 : decode cX4_fair 13 = .ok (.aload_n 0, 1) := dk_42 (dk_at dksX4_fair_0 13 rfl rfl)
theorem dX4_fair_14 : decode cX4_fair 14 = .ok (.iload 4, 2) := dk_21 4 (dk_at dksX4_fair_0 14 rfl rfl)
theorem dX4_fair_16 : decode cX4_fair 16 = .ok (.iload 5, 2) := dk_21 5 (dk_at dksX4_fair_0 16 rfl rfl)
theorem dX4_fair_18 : decode cX4_fair 18 = .ok (.iload 6, 2) := dk_21 6 (dk_at dksX4_fair_0 18 rfl rfl)
theorem dX4_fair_20 : decode cX4_fair 20 = .ok (.iload 7, 2) := dk_21 7 (dk_at dksX4_fair_0 20 rfl rfl)
theorem dX4_fair_22 : decode cX4_fair 22 = .ok (.invokevirtual 351, 3) := dk_182 1 95 (dk_at dksX4_fair_1 0 rfl rfl)
theorem dX4_fair_25 : decode cX4_fair 25 = .ok (.ifCond .eq 19, 3) := dk_153 0 19 (dk_at dksX4_fair_1 3 rfl rfl)
theorem dX4_fair_28 : decode cX4_fair 28 = .ok (.iload_n 2, 1) := dk_28 (dk_at dksX4_fair_1 6 rfl rfl)
theorem dX4_fair_29 : decode cX4_fair 29 = .ok (.ifCond .lt 15, 3) := dk_155 0 15 (dk_at dksX4_fair_1 7 rfl rfl)
theorem dX4_fair_32 : decode cX4_fair 32 = .ok (.iload_n 3, 1) := dk_29 (dk_at dksX4_fair_1 10 rfl rfl)
theorem dX4_fair_33 : decode cX4_fair 33 = .ok (.i2l, 1) := dk_133 (dk_at dksX4_fair_1 11 rfl rfl)
theorem dX4_fair_34 : decode cX4_fair 34 = .ok (.lconst 0, 1) := dk_9 (dk_at dksX4_fair_1 12 rfl rfl)
theorem dX4_fair_35 : decode cX4_fair 35 = .ok (.ldc2_w 448, 3) := dk_20 1 192 (dk_at dksX4_fair_1 13 rfl rfl)
theorem dX4_fair_38 : decode cX4_fair 38 = .ok (.invokestatic 140, 3) := dk_184 0 140 (dk_at dksX4_fair_1 16 rfl rfl)
theorem dX4_fair_41 : decode cX4_fair 41 = .ok (.ifCond .ne 5, 3) := dk_154 0 5 (dk_at dksX4_fair_1 19 rfl rfl)
theorem dX4_fair_44 : decode cX4_fair 44 = .ok (.iconst (-1), 1) := dk_2 (dk_at dksX4_fair_1 22 rfl rfl)
theorem dX4_fair_45 : decode cX4_fair 45 = .ok (.ireturn, 1) := dk_172 (dk_at dksX4_fair_1 23 rfl rfl)
theorem dX4_fair_46 : decode cX4_fair 46 = .ok (.aload_n 0, 1) := dk_42 (dk_at dksX4_fair_2 0 rfl rfl)
theorem dX4_fair_47 : decode cX4_fair 47 = .ok (.iload_n 1, 1) := dk_27 (dk_at dksX4_fair_2 1 rfl rfl)
theorem dX4_fair_48 : decode cX4_fair 48 = .ok (.iload 4, 2) := dk_21 4 (dk_at dksX4_fair_2 2 rfl rfl)
theorem dX4_fair_50 : decode cX4_fair 50 = .ok (.iload 5, 2) := dk_21 5 (dk_at dksX4_fair_2 4 rfl rfl)
theorem dX4_fair_52 : decode cX4_fair 52 = .ok (.iload 6, 2) := dk_21 6 (dk_at dksX4_fair_2 6 rfl rfl)
theorem dX4_fair_54 : decode cX4_fair 54 = .ok (.iload 7, 2) := dk_21 7 (dk_at dksX4_fair_2 8 rfl rfl)
theorem dX4_fair_56 : decode cX4_fair 56 = .ok (.invokevirtual 433, 3) := dk_182 1 177 (dk_at dksX4_fair_2 10 rfl rfl)
theorem dX4_fair_59 : decode cX4_fair 59 = .ok (.ifCond .ne 7, 3) := dk_154 0 7 (dk_at dksX4_fair_2 13 rfl rfl)
theorem dX4_fair_62 : decode cX4_fair 62 = .ok (.iconst 1, 1) := dk_4 (dk_at dksX4_fair_2 16 rfl rfl)
theorem dX4_fair_63 : decode cX4_fair 63 = .ok (.goto 29, 3) := dk_167 0 29 (dk_at dksX4_fair_2 17 rfl rfl)
theorem dX4_fair_66 : decode cX4_fair 66 = .ok (.aload_n 0, 1) := dk_42 (dk_at dksX4_fair_2 20 rfl rfl)
theorem dX4_fair_67 : decode cX4_fair 67 = .ok (.iload_n 2, 1) := dk_28 (dk_at dksX4_fair_2 21 rfl rfl)
theorem dX4_fair_68 : decode cX4_fair 68 = .ok (.invokevirtual 452, 3) := dk_182 1 196 (dk_at dksX4_fair_3 0 rfl rfl)
theorem dX4_fair_71 : decode cX4_fair 71 = .ok (.iload_n 3, 1) := dk_29 (dk_at dksX4_fair_3 3 rfl rfl)
theorem dX4_fair_72 : decode cX4_fair 72 = .ok (.if_icmp .le 7, 3) := dk_164 0 7 (dk_at dksX4_fair_3 4 rfl rfl)
theorem dX4_fair_75 : decode cX4_fair 75 = .ok (.iconst 2, 1) := dk_5 (dk_at dksX4_fair_3 7 rfl rfl)
theorem dX4_fair_76 : decode cX4_fair 76 = .ok (.goto 16, 3) := dk_167 0 16 (dk_at dksX4_fair_3 8 rfl rfl)
theorem dX4_fair_79 : decode cX4_fair 79 = .ok (.aload_n 0, 1) := dk_42 (dk_at dksX4_fair_3 11 rfl rfl)
theorem dX4_fair_80 : decode cX4_fair 80 = .ok (.getfield 125, 3) := dk_180 0 125 (dk_at dksX4_fair_3 12 rfl rfl)
theorem dX4_fair_83 : decode cX4_fair 83 = .ok (.iload_n 2, 1) := dk_28 (dk_at dksX4_fair_3 15 rfl rfl)
theorem dX4_fair_84 : decode cX4_fair 84 = .ok (.if_icmp .ge 7, 3) := dk_162 0 7 (dk_at dksX4_fair_3 16 rfl rfl)
theorem dX4_fair_87 : decode cX4_fair 87 = .ok (.iconst 3, 1) := dk_6 (dk_at dksX4_fair_3 19 rfl rfl)
theorem dX4_fair_88 : decode cX4_fair 88 = .ok (.goto 4, 3) := dk_167 0 4 (dk_at dksX4_fair_3 20 rfl rfl)
theorem dX4_fair_91 : decode cX4_fair 91 = .ok (.iconst 0, 1) := dk_3 (dk_at dksX4_fair_3 23 rfl rfl)
theorem dX4_fair_92 : decode cX4_fair 92 = .ok (.ireturn, 1) := dk_172 (dk_at dksX4_fair_4 0 rfl rfl)
abbrev cX4_status : ByteArray := prog_26_method_110_code
def yX4_status : MethodName := ⟨RX4, "status", "(I)I"⟩
def dkwX4_status_1 : List UInt8 := [167, 0, 4, 2, 172]
abbrev dktX4_status_1 : List UInt8 := dkwX4_status_1 ++ []
def dkwX4_status_0 : List UInt8 := [42, 3, 181, 0, 1, 27, 133, 10, 20, 0, 195, 184, 0, 140, 153, 0, 12, 42, 180, 0, 7, 27, 46]
abbrev dktX4_status_0 : List UInt8 := dkwX4_status_0 ++ dktX4_status_1
theorem dksX4_status_0 : cX4_status.data.toList.drop 0 = dktX4_status_0 := by decide +kernel
theorem dksX4_status_1 : cX4_status.data.toList.drop 23 = dktX4_status_1 := dk_seg dksX4_status_0 23 rfl rfl
theorem dX4_status_0 : decode cX4_status 0 = .ok (.aload_n 0, 1) := dk_42 (dk_at dksX4_status_0 0 rfl rfl)
theorem dX4_status_1 : decode cX4_status 1 = .ok (.iconst 0, 1) := dk_3 (dk_at dksX4_status_0 1 rfl rfl)
theorem dX4_status_2 : decode cX4_status 2 = .ok (.putfield 1, 3) := dk_181 0 1 (dk_at dksX4_status_0 2 rfl rfl)
theorem dX4_status_5 : decode cX4_status 5 = .ok (.iload_n 1, 1) := dk_27 (dk_at dksX4_status_0 5 rfl rfl)
theorem dX4_status_6 : decode cX4_status 6 = .ok (.i2l, 1) := dk_133 (dk_at dksX4_status_0 6 rfl rfl)
theorem dX4_status_7 : decode cX4_status 7 = .ok (.lconst 1, 1) := dk_10 (dk_at dksX4_status_0 7 rfl rfl)
theorem dX4_status_8 : decode cX4_status 8 = .ok (.ldc2_w 195, 3) := dk_20 0 195 (dk_at dksX4_status_0 8 rfl rfl)
theorem dX4_status_11 : decode cX4_status 11 = .ok (.invokestatic 140, 3) := dk_184 0 140 (dk_at dksX4_status_0 11 rfl rfl)
theorem dX4_status_14 : decode cX4_status 14 = .ok (.ifCond .eq 12, 3) := dk_153 0 12 (dk_at dksX4_status_0 14 rfl rfl)
theorem dX4_status_17 : decode cX4_status 17 = .ok (.aload_n 0, 1) := dk_42 (dk_at dksX4_status_0 17 rfl rfl)
theorem dX4_status_18 : decode cX4_status 18 = .ok (.getfield 7, 3) := dk_180 0 7 (dk_at dksX4_status_0 18 rfl rfl)
theorem dX4_status_21 : decode cX4_status 21 = .ok (.iload_n 1, 1) := dk_27 (dk_at dksX4_status_0 21 rfl rfl)
theorem dX4_status_22 : decode cX4_status 22 = .ok (.iaload, 1) := dk_46 (dk_at dksX4_status_0 22 rfl rfl)
theorem dX4_status_23 : decode cX4_status 23 = .ok (.goto 4, 3) := dk_167 0 4 (dk_at dksX4_status_1 0 rfl rfl)
theorem dX4_status_26 : decode cX4_status 26 = .ok (.iconst (-1), 1) := dk_2 (dk_at dksX4_status_1 3 rfl rfl)
theorem dX4_status_27 : decode cX4_status 27 = .ok (.ireturn, 1) := dk_172 (dk_at dksX4_status_1 4 rfl rfl)
abbrev cX4_count : ByteArray := prog_26_method_111_code
def yX4_count : MethodName := ⟨RX4, "count", "(I)I"⟩
def dkwX4_count_4 : List UInt8 := [180, 0, 119, 172, 42, 180, 0, 122, 172, 42, 180, 0, 125, 172, 42, 180, 0, 202, 172, 2, 172]
abbrev dktX4_count_4 : List UInt8 := dkwX4_count_4 ++ []
def dkwX4_count_3 : List UInt8 := [180, 0, 17, 17, 19, 18, 46, 172, 42, 180, 1, 41, 172, 42, 180, 1, 44, 172, 42, 180, 1, 47, 172, 42]
abbrev dktX4_count_3 : List UInt8 := dkwX4_count_3 ++ dktX4_count_4
def dkwX4_count_2 : List UInt8 := [42, 180, 0, 24, 172, 42, 180, 0, 17, 17, 19, 16, 46, 172, 42, 180, 0, 17, 17, 19, 17, 46, 172, 42]
abbrev dktX4_count_2 : List UInt8 := dkwX4_count_2 ++ dktX4_count_3
def dkwX4_count_1 : List UInt8 := [170, 0, 0, 0, 0, 125, 0, 0, 0, 0, 0, 0, 0, 10, 0, 0, 0, 58, 0, 0, 0, 63, 0, 0, 0, 72, 0, 0, 0, 81, 0, 0, 0, 90, 0, 0, 0, 95, 0, 0, 0, 100, 0, 0, 0, 105, 0, 0, 0, 110, 0, 0, 0, 115, 0, 0, 0, 120]
abbrev dktX4_count_1 : List UInt8 := dkwX4_count_1 ++ dktX4_count_2
def dkwX4_count_0 : List UInt8 := [42, 3, 181, 0, 1, 27]
abbrev dktX4_count_0 : List UInt8 := dkwX4_count_0 ++ dktX4_count_1
theorem dksX4_count_0 : cX4_count.data.toList.drop 0 = dktX4_count_0 := by decide +kernel
theorem dksX4_count_1 : cX4_count.data.toList.drop 6 = dktX4_count_1 := dk_seg dksX4_count_0 6 rfl rfl
theorem dksX4_count_2 : cX4_count.data.toList.drop 64 = dktX4_count_2 := dk_seg dksX4_count_1 58 rfl rfl
theorem dksX4_count_3 : cX4_count.data.toList.drop 88 = dktX4_count_3 := dk_seg dksX4_count_2 24 rfl rfl
theorem dksX4_count_4 : cX4_count.data.toList.drop 112 = dktX4_count_4 := dk_seg dksX4_count_3 24 rfl rfl
theorem dX4_count_0 : decode cX4_count 0 = .ok (.aload_n 0, 1) := dk_42 (dk_at dksX4_count_0 0 rfl rfl)
theorem dX4_count_1 : decode cX4_count 1 = .ok (.iconst 0, 1) := dk_3 (dk_at dksX4_count_0 1 rfl rfl)
theorem dX4_count_2 : decode cX4_count 2 = .ok (.putfield 1, 3) := dk_181 0 1 (dk_at dksX4_count_0 2 rfl rfl)
theorem dX4_count_5 : decode cX4_count 5 = .ok (.iload_n 1, 1) := dk_27 (dk_at dksX4_count_0 5 rfl rfl)
theorem dX4_count_6 : decode cX4_count 6 = .ok (.tableswitch 125 0 10 #[58, 63, 72, 81, 90, 95, 100, 105, 110, 115, 120], 58) := by decide +kernel
theorem dX4_count_64 : decode cX4_count 64 = .ok (.aload_n 0, 1) := dk_42 (dk_at dksX4_count_2 0 rfl rfl)
theorem dX4_count_65 : decode cX4_count 65 = .ok (.getfield 24, 3) := dk_180 0 24 (dk_at dksX4_count_2 1 rfl rfl)
theorem dX4_count_68 : decode cX4_count 68 = .ok (.ireturn, 1) := dk_172 (dk_at dksX4_count_2 4 rfl rfl)
theorem dX4_count_69 : decode cX4_count 69 = .ok (.aload_n 0, 1) := dk_42 (dk_at dksX4_count_2 5 rfl rfl)
theorem dX4_count_70 : decode cX4_count 70 = .ok (.getfield 17, 3) := dk_180 0 17 (dk_at dksX4_count_2 6 rfl rfl)
theorem dX4_count_73 : decode cX4_count 73 = .ok (.sipush 4880, 3) := dk_17 19 16 (dk_at dksX4_count_2 9 rfl rfl)
theorem dX4_count_76 : decode cX4_count 76 = .ok (.iaload, 1) := dk_46 (dk_at dksX4_count_2 12 rfl rfl)
theorem dX4_count_77 : decode cX4_count 77 = .ok (.ireturn, 1) := dk_172 (dk_at dksX4_count_2 13 rfl rfl)
theorem dX4_count_78 : decode cX4_count 78 = .ok (.aload_n 0, 1) := dk_42 (dk_at dksX4_count_2 14 rfl rfl)
theorem dX4_count_79 : decode cX4_count 79 = .ok (.getfield 17, 3) := dk_180 0 17 (dk_at dksX4_count_2 15 rfl rfl)
theorem dX4_count_82 : decode cX4_count 82 = .ok (.sipush 4881, 3) := dk_17 19 17 (dk_at dksX4_count_2 18 rfl rfl)
theorem dX4_count_85 : decode cX4_count 85 = .ok (.iaload, 1) := dk_46 (dk_at dksX4_count_2 21 rfl rfl)
theorem dX4_count_86 : decode cX4_count 86 = .ok (.ireturn, 1) := dk_172 (dk_at dksX4_count_2 22 rfl rfl)
theorem dX4_count_87 : decode cX4_count 87 = .ok (.aload_n 0, 1) := dk_42 (dk_at dksX4_count_2 23 rfl rfl)
theorem dX4_count_88 : decode cX4_count 88 = .ok (.getfield 17, 3) := dk_180 0 17 (dk_at dksX4_count_3 0 rfl rfl)
theorem dX4_count_91 : decode cX4_count 91 = .ok (.sipush 4882, 3) := dk_17 19 18 (dk_at dksX4_count_3 3 rfl rfl)
theorem dX4_count_94 : decode cX4_count 94 = .ok (.iaload, 1) := dk_46 (dk_at dksX4_count_3 6 rfl rfl)
theorem dX4_count_95 : decode cX4_count 95 = .ok (.ireturn, 1) := dk_172 (dk_at dksX4_count_3 7 rfl rfl)
theorem dX4_count_96 : decode cX4_count 96 = .ok (.aload_n 0, 1) := dk_42 (dk_at dksX4_count_3 8 rfl rfl)
theorem dX4_count_97 : decode cX4_count 97 = .ok (.getfield 297, 3) := dk_180 1 41 (dk_at dksX4_count_3 9 rfl rfl)
theorem dX4_count_100 : decode cX4_count 100 = .ok (.ireturn, 1) := dk_172 (dk_at dksX4_count_3 12 rfl rfl)
theorem dX4_count_101 : decode cX4_count 101 = .ok (.aload_n 0, 1) := dk_42 (dk_at dksX4_count_3 13 rfl rfl)
theorem dX4_count_102 : decode cX4_count 102 = .ok (.getfield 300, 3) := dk_180 1 44 (dk_at dksX4_count_3 14 rfl rfl)
theorem dX4_count_105 : decode cX4_count 105 = .ok (.ireturn, 1) := dk_172 (dk_at dksX4_count_3 17 rfl rfl)
theorem dX4_count_106 : decode cX4_count 106 = .ok (.aload_n 0, 1) := dk_42 (dk_at dksX4_count_3 18 rfl rfl)
theorem dX4_count_107 : decode cX4_count 107 = .ok (.getfield 303, 3) := dk_180 1 47 (dk_at dksX4_count_3 19 rfl rfl)
theorem dX4_count_110 : decode cX4_count 110 = .ok (.ireturn, 1) := dk_172 (dk_at dksX4_count_3 22 rfl rfl)
theorem dX4_count_111 : decode cX4_count 111 = .ok (.aload_n 0, 1) := dk_42 (dk_at dksX4_count_3 23 rfl rfl)
theorem dX4_count_112 : decode cX4_count 112 = .ok (.getfield 119, 3) := dk_180 0 119 (dk_at dksX4_count_4 0 rfl rfl)
theorem dX4_count_115 : decode cX4_count 115 = .ok (.ireturn, 1) := dk_172 (dk_at dksX4_count_4 3 rfl rfl)
theorem dX4_count_116 : decode cX4_count 116 = .ok (.aload_n 0, 1) := dk_42 (dk_at dksX4_count_4 4 rfl rfl)
theorem dX4_count_117 : decode cX4_count 117 = .ok (.getfield 122, 3) := dk_180 0 122 (dk_at dksX4_count_4 5 rfl rfl)
theorem dX4_count_120 : decode cX4_count 120 = .ok (.ireturn, 1) := dk_172 (dk_at dksX4_count_4 8 rfl rfl)
theorem dX4_count_121 : decode cX4_count 121 = .ok (.aload_n 0, 1) := dk_42 (dk_at dksX4_count_4 9 rfl rfl)
theorem dX4_count_122 : decode cX4_count 122 = .ok (.getfield 125, 3) := dk_180 0 125 (dk_at dksX4_count_4 10 rfl rfl)
theorem dX4_count_125 : decode cX4_count 125 = .ok (.ireturn, 1) := dk_172 (dk_at dksX4_count_4 13 rfl rfl)
theorem dX4_count_126 : decode cX4_count 126 = .ok (.aload_n 0, 1) := dk_42 (dk_at dksX4_count_4 14 rfl rfl)
theorem dX4_count_127 : decode cX4_count 127 = .ok (.getfield 202, 3) := dk_180 0 202 (dk_at dksX4_count_4 15 rfl rfl)
theorem dX4_count_130 : decode cX4_count 130 = .ok (.ireturn, 1) := dk_172 (dk_at dksX4_count_4 18 rfl rfl)
theorem dX4_count_131 : decode cX4_count 131 = .ok (.iconst (-1), 1) := dk_2 (dk_at dksX4_count_4 19 rfl rfl)
theorem dX4_count_132 : decode cX4_count 132 = .ok (.ireturn, 1) := dk_172 (dk_at dksX4_count_4 20 rfl rfl)
