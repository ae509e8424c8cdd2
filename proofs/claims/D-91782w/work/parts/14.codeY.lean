set_option maxRecDepth 100000
abbrev cX1_init : ByteArray := prog_18_method_1_code
def yX1_init : MethodName := ⟨RX1, "<init>", "()V"⟩
def dkwX1_init_8 : List UInt8 := [167, 255, 218, 132, 1, 1, 167, 255, 204, 177]
abbrev dktX1_init_8 : List UInt8 := dkwX1_init_8 ++ []
def dkwX1_init_7 : List UInt8 := [79, 42, 180, 0, 29, 27, 50, 28, 2, 79, 42, 180, 0, 23, 27, 5, 108, 50, 28, 2, 79, 132, 2, 1]
abbrev dktX1_init_7 : List UInt8 := dkwX1_init_7 ++ dktX1_init_8
def dkwX1_init_6 : List UInt8 := [3, 60, 27, 16, 18, 162, 0, 52, 3, 61, 28, 16, 100, 162, 0, 38, 42, 180, 0, 26, 27, 50, 28, 2]
abbrev dktX1_init_6 : List UInt8 := dkwX1_init_6 ++ dktX1_init_7
def dkwX1_init_5 : List UInt8 := [167, 255, 239, 3, 60, 27, 16, 9, 162, 0, 16, 42, 180, 0, 15, 27, 8, 79, 132, 1, 1, 167, 255, 240]
abbrev dktX1_init_5 : List UInt8 := dkwX1_init_5 ++ dktX1_init_6
def dkwX1_init_4 : List UInt8 := [181, 0, 44, 3, 60, 27, 16, 100, 162, 0, 17, 42, 180, 0, 9, 27, 16, 9, 79, 132, 1, 1]
abbrev dktX1_init_4 : List UInt8 := dkwX1_init_4 ++ dktX1_init_5
def dkwX1_init_3 : List UInt8 := [4, 183, 0, 34, 181, 0, 37, 42, 187, 0, 32, 89, 4, 183, 0, 34, 181, 0, 41, 42, 16, 8, 188, 10]
abbrev dktX1_init_3 : List UInt8 := dkwX1_init_3 ++ dktX1_init_4
def dkwX1_init_2 : List UInt8 := [197, 0, 21, 2, 181, 0, 26, 42, 16, 18, 16, 100, 197, 0, 21, 2, 181, 0, 29, 42, 187, 0, 32, 89]
abbrev dktX1_init_2 : List UInt8 := dkwX1_init_2 ++ dktX1_init_3
def dkwX1_init_1 : List UInt8 := [188, 10, 181, 0, 18, 42, 16, 9, 16, 100, 197, 0, 21, 2, 181, 0, 23, 42, 16, 18, 16, 100]
abbrev dktX1_init_1 : List UInt8 := dkwX1_init_1 ++ dktX1_init_2
def dkwX1_init_0 : List UInt8 := [42, 183, 0, 3, 42, 16, 100, 188, 10, 181, 0, 9, 42, 16, 9, 188, 10, 181, 0, 15, 42, 16, 9]
abbrev dktX1_init_0 : List UInt8 := dkwX1_init_0 ++ dktX1_init_1
theorem dksX1_init_0 : cX1_init.data.toList.drop 0 = dktX1_init_0 := by decide +kernel
theorem dksX1_init_1 : cX1_init.data.toList.drop 23 = dktX1_init_1 := dk_seg dksX1_init_0 23 rfl rfl
theorem dksX1_init_2 : cX1_init.data.toList.drop 45 = dktX1_init_2 := dk_seg dksX1_init_1 22 rfl rfl
theorem dksX1_init_3 : cX1_init.data.toList.drop 69 = dktX1_init_3 := dk_seg dksX1_init_2 24 rfl rfl
theorem dksX1_init_4 : cX1_init.data.toList.drop 93 = dktX1_init_4 := dk_seg dksX1_init_3 24 rfl rfl
theorem dksX1_init_5 : cX1_init.data.toList.drop 115 = dktX1_init_5 := dk_seg dksX1_init_4 22 rfl rfl
theorem dksX1_init_6 : cX1_init.data.toList.drop 139 = dktX1_init_6 := dk_seg dksX1_init_5 24 rfl rfl
theorem dksX1_init_7 : cX1_init.data.toList.drop 163 = dktX1_init_7 := dk_seg dksX1_init_6 24 rfl rfl
theorem dksX1_init_8 : cX1_init.data.toList.drop 187 = dktX1_init_8 := dk_seg dksX1_init_7 24 rfl rfl
theorem dX1_init_0 : decode cX1_init 0 = .ok (.aload_n 0, 1) := dk_42 (dk_at dksX1_init_0 0 rfl rfl)
theorem dX1_init_1 : decode cX1_init 1 = .ok (.invokespecial 3, 3) := dk_183 0 3 (dk_at dksX1_init_0 1 rfl rfl)
theorem dX1_init_4 : decode cX1_init 4 = .ok (.aload_n 0, 1) := dk_42 (dk_at dksX1_init_0 4 rfl rfl)
theorem dX1_init_5 : decode cX1_init 5 = .ok (.bipush 100, 2) := dk_16 100 (dk_at dksX1_init_0 5 rfl rfl)
theorem dX1_init_7 : decode cX1_init 7 = .ok (.newarray .int, 2) := dk_188_10 (dk_at dksX1_init_0 7 rfl rfl)
theorem dX1_init_9 : decode cX1_init 9 = .ok (.putfield 9, 3) := dk_181 0 9 (dk_at dksX1_init_0 9 rfl rfl)
theorem dX1_init_12 : decode cX1_init 12 = .ok (.aload_n 0, 1) := dk_42 (dk_at dksX1_init_0 12 rfl rfl)
theorem dX1_init_13 : decode cX1_init 13 = .ok (.bipush 9, 2) := dk_16 9 (dk_at dksX1_init_0 13 rfl rfl)
theorem dX1_init_15 : decode cX1_init 15 = .ok (.newarray .int, 2) := dk_188_10 (dk_at dksX1_init_0 15 rfl rfl)
theorem dX1_init_17 : decode cX1_init 17 = .ok (.putfield 15, 3) := dk_181 0 15 (dk_at dksX1_init_0 17 rfl rfl)
theorem dX1_init_20 : decode cX1_init 20 = .ok (.aload_n 0, 1) := dk_42 (dk_at dksX1_init_0 20 rfl rfl)
theorem dX1_init_21 : decode cX1_init 21 = .ok (.bipush 9, 2) := dk_16 9 (dk_at dksX1_init_0 21 rfl rfl)
theorem dX1_init_23 : decode cX1_init 23 = .ok (.newarray .int, 2) := dk_188_10 (dk_at dksX1_init_1 0 rfl rfl)
theorem dX1_init_25 : decode cX1_init 25 = .ok (.putfield 18, 3) := dk_181 0 18 (dk_at dksX1_init_1 2 rfl rfl)
theorem dX1_init_28 : decode cX1_init 28 = .ok (.aload_n 0, 1) := dk_42 (dk_at dksX1_init_1 5 rfl rfl)
theorem dX1_init_29 : decode cX1_init 29 = .ok (.bipush 9, 2) := dk_16 9 (dk_at dksX1_init_1 6 rfl rfl)
theorem dX1_init_31 : decode cX1_init 31 = .ok (.bipush 100, 2) := dk_16 100 (dk_at dksX1_init_1 8 rfl rfl)
theorem dX1_init_33 : decode cX1_init 33 = .ok (.multianewarray 21 2, 4) := by decide +kernel
theorem dX1_init_37 : decode cX1_init 37 = .ok (.putfield 23, 3) := dk_181 0 23 (dk_at dksX1_init_1 14 rfl rfl)
theorem dX1_init_40 : decode cX1_init 40 = .ok (.aload_n 0, 1) := dk_42 (dk_at dksX1_init_1 17 rfl rfl)
theorem dX1_init_41 : decode cX1_init 41 = .ok (.bipush 18, 2) := dk_16 18 (dk_at dksX1_init_1 18 rfl rfl)
theorem dX1_init_43 : decode cX1_init 43 = .ok (.bipush 100, 2) := dk_16 100 (dk_at dksX1_init_1 20 rfl rfl)
theorem dX1_init_45 : decode cX1_init 45 = .ok (.multianewarray 21 2, 4) := by decide +kernel
theorem dX1_init_49 : decode cX1_init 49 = .ok (.putfield 26, 3) := dk_181 0 26 (dk_at dksX1_init_2 4 rfl rfl)
theorem dX1_init_52 : decode cX1_init 52 = .ok (.aload_n 0, 1) := dk_42 (dk_at dksX1_init_2 7 rfl rfl)
theorem dX1_init_53 : decode cX1_init 53 = .ok (.bipush 18, 2) := dk_16 18 (dk_at dksX1_init_2 8 rfl rfl)
theorem dX1_init_55 : decode cX1_init 55 = .ok (.bipush 100, 2) := dk_16 100 (dk_at dksX1_init_2 10 rfl rfl)
theorem dX1_init_57 : decode cX1_init 57 = .ok (.multianewarray 21 2, 4) := by decide +kernel
theorem dX1_init_61 : decode cX1_init 61 = .ok (.putfield 29, 3) := dk_181 0 29 (dk_at dksX1_init_2 16 rfl rfl)
theorem dX1_init_64 : decode cX1_init 64 = .ok (.aload_n 0, 1) := dk_42 (dk_at dksX1_init_2 19 rfl rfl)
theorem dX1_init_65 : decode cX1_init 65 = .ok (.new 32, 3) := dk_187 0 32 (dk_at dksX1_init_2 20 rfl rfl)
theorem dX1_init_68 : decode cX1_init 68 = .ok (.dup, 1) := dk_89 (dk_at dksX1_init_2 23 rfl rfl)
theorem dX1_init_69 : decode cX1_init 69 = .ok (.iconst 1, 1) := dk_4 (dk_at dksX1_init_3 0 rfl rfl)
theorem dX1_init_70 : decode cX1_init 70 = .ok (.invokespecial 34, 3) := dk_183 0 34 (dk_at dksX1_init_3 1 rfl rfl)
theorem dX1_init_73 : decode cX1_init 73 = .ok (.putfield 37, 3) := dk_181 0 37 (dk_at dksX1_init_3 4 rfl rfl)
theorem dX1_init_76 : decode cX1_init 76 = .ok (.aload_n 0, 1) := dk_42 (dk_at dksX1_init_3 7 rfl rfl)
theorem dX1_init_77 : decode cX1_init 77 = .ok (.new 32, 3) := dk_187 0 32 (dk_at dksX1_init_3 8 rfl rfl)
theorem dX1_init_80 : decode cX1_init 80 = .ok (.dup, 1) := dk_89 (dk_at dksX1_init_3 11 rfl rfl)
theorem dX1_init_81 : decode cX1_init 81 = .ok (.iconst 1, 1) := dk_4 (dk_at dksX1_init_3 12 rfl rfl)
theorem dX1_init_82 : decode cX1_init 82 = .ok (.invokespecial 34, 3) := dk_183 0 34 (dk_at dksX1_init_3 13 rfl rfl)
theorem dX1_init_85 : decode cX1_init 85 = .ok (.putfield 41, 3) := dk_181 0 41 (dk_at dksX1_init_3 16 rfl rfl)
theorem dX1_init_88 : decode cX1_init 88 = .ok (.aload_n 0, 1) := dk_42 (dk_at dksX1_init_3 19 rfl rfl)
theorem dX1_init_89 : decode cX1_init 89 = .ok (.bipush 8, 2) := dk_16 8 (dk_at dksX1_init_3 20 rfl rfl)
theorem dX1_init_91 : decode cX1_init 91 = .ok (.newarray .int, 2) := dk_188_10 (dk_at dksX1_init_3 22 rfl rfl)
theorem dX1_init_93 : decode cX1_init 93 = .ok (.putfield 44, 3) := dk_181 0 44 (dk_at dksX1_init_4 0 rfl rfl)
theorem dX1_init_96 : decode cX1_init 96 = .ok (.iconst 0, 1) := dk_3 (dk_at dksX1_init_4 3 rfl rfl)
theorem dX1_init_97 : decode cX1_init 97 = .ok (.istore_n 1, 1) := dk_60 (dk_at dksX1_init_4 4 rfl rfl)
theorem dX1_init_98 : decode cX1_init 98 = .ok (.iload_n 1, 1) := dk_27 (dk_at dksX1_init_4 5 rfl rfl)
theorem dX1_init_99 : decode cX1_init 99 = .ok (.bipush 100, 2) := dk_16 100 (dk_at dksX1_init_4 6 rfl rfl)
theorem dX1_init_101 : decode cX1_init 101 = .ok (.if_icmp .ge 17, 3) := dk_162 0 17 (dk_at dksX1_init_4 8 rfl rfl)
theorem dX1_init_104 : decode cX1_init 104 = .ok (.aload_n 0, 1) := dk_42 (dk_at dksX1_init_4 11 rfl rfl)
theorem dX1_init_105 : decode cX1_init 105 = .ok (.getfield 9, 3) := dk_180 0 9 (dk_at dksX1_init_4 12 rfl rfl)
theorem dX1_init_108 : decode cX1_init 108 = .ok (.iload_n 1, 1) := dk_27 (dk_at dksX1_init_4 15 rfl rfl)
theorem dX1_init_109 : decode cX1_init 109 = .ok (.bipush 9, 2) := dk_16 9 (dk_at dksX1_init_4 16 rfl rfl)
theorem dX1_init_111 : decode cX1_init 111 = .ok (.iastore, 1) := dk_79 (dk_at dksX1_init_4 18 rfl rfl)
theorem dX1_init_112 : decode cX1_init 112 = .ok (.iinc 1 1, 3) := dk_132 1 1 (dk_at dksX1_init_4 19 rfl rfl)
theorem dX1_init_115 : decode cX1_init 115 = .ok (.goto (-17), 3) := dk_167 255 239 (dk_at dksX1_init_5 0 rfl rfl)
theorem dX1_init_118 : decode cX1_init 118 = .ok (.iconst 0, 1) := dk_3 (dk_at dksX1_init_5 3 rfl rfl)
theorem dX1_init_119 : decode cX1_init 119 = .ok (.istore_n 1, 1) := dk_60 (dk_at dksX1_init_5 4 rfl rfl)
theorem dX1_init_120 : decode cX1_init 120 = .ok (.iload_n 1, 1) := dk_27 (dk_at dksX1_init_5 5 rfl rfl)
theorem dX1_init_121 : decode cX1_init 121 = .ok (.bipush 9, 2) := dk_16 9 (dk_at dksX1_init_5 6 rfl rfl)
theorem dX1_init_123 : decode cX1_init 123 = .ok (.if_icmp .ge 16, 3) := dk_162 0 16 (dk_at dksX1_init_5 8 rfl rfl)
theorem dX1_init_126 : decode cX1_init 126 = .ok (.aload_n 0, 1) := dk_42 (dk_at dksX1_init_5 11 rfl rfl)
theorem dX1_init_127 : decode cX1_init 127 = .ok (.getfield 15, 3) := dk_180 0 15 (dk_at dksX1_init_5 12 rfl rfl)
theorem dX1_init_130 : decode cX1_init 130 = .ok (.iload_n 1, 1) := dk_27 (dk_at dksX1_init_5 15 rfl rfl)
theorem dX1_init_131 : decode cX1_init 131 = .ok (.iconst 5, 1) := dk_8 (dk_at dksX1_init_5 16 rfl rfl)
theorem dX1_init_132 : decode cX1_init 132 = .ok (.iastore, 1) := dk_79 (dk_at dksX1_init_5 17 rfl rfl)
theorem dX1_init_133 : decode cX1_init 133 = .ok (.iinc 1 1, 3) := dk_132 1 1 (dk_at dksX1_init_5 18 rfl rfl)
theorem dX1_init_136 : decode cX1_init 136 = .ok (.goto (-16), 3) := dk_167 255 240 (dk_at dksX1_init_5 21 rfl rfl)
theorem dX1_init_139 : decode cX1_init 139 = .ok (.iconst 0, 1) := dk_3 (dk_at dksX1_init_6 0 rfl rfl)
theorem dX1_init_140 : decode cX1_init 140 = .ok (.istore_n 1, 1) := dk_60 (dk_at dksX1_init_6 1 rfl rfl)
theorem dX1_init_141 : decode cX1_init 141 = .ok (.iload_n 1, 1) := dk_27 (dk_at dksX1_init_6 2 rfl rfl)
theorem dX1_init_142 : decode cX1_init 142 = .ok (.bipush 18, 2) := dk_16 18 (dk_at dksX1_init_6 3 rfl rfl)
theorem dX1_init_144 : decode cX1_init 144 = .ok (.if_icmp .ge 52, 3) := dk_162 0 52 (dk_at dksX1_init_6 5 rfl rfl)
theorem dX1_init_147 : decode cX1_init 147 = .ok (.iconst 0, 1) := dk_3 (dk_at dksX1_init_6 8 rfl rfl)
theorem dX1_init_148 : decode cX1_init 148 = .ok (.istore_n 2, 1) := dk_61 (dk_at dksX1_init_6 9 rfl rfl)
theorem dX1_init_149 : decode cX1_init 149 = .ok (.iload_n 2, 1) := dk_28 (dk_at dksX1_init_6 10 rfl rfl)
theorem dX1_init_150 : decode cX1_init 150 = .ok (.bipush 100, 2) := dk_16 100 (dk_at dksX1_init_6 11 rfl rfl)
theorem dX1_init_152 : decode cX1_init 152 = .ok (.if_icmp .ge 38, 3) := dk_162 0 38 (dk_at dksX1_init_6 13 rfl rfl)
theorem dX1_init_155 : decode cX1_init 155 = .ok (.aload_n 0, 1) := dk_42 (dk_at dksX1_init_6 16 rfl rfl)
theorem dX1_init_156 : decode cX1_init 156 = .ok (.getfield 26, 3) := dk_180 0 26 (dk_at dksX1_init_6 17 rfl rfl)
theorem dX1_init_159 : decode cX1_init 159 = .ok (.iload_n 1, 1) := dk_27 (dk_at dksX1_init_6 20 rfl rfl)
theorem dX1_init_160 : decode cX1_init 160 = .ok (.aaload, 1) := dk_50 (dk_at dksX1_init_6 21 rfl rfl)
theorem dX1_init_161 : decode cX1_init 161 = .ok (.iload_n 2, 1) := dk_28 (dk_at dksX1_init_6 22 rfl rfl)
theorem dX1_init_162 : decode cX1_init 162 = .ok (.iconst (-1), 1) := dk_2 (dk_at dksX1_init_6 23 rfl rfl)
theorem dX1_init_163 : decode cX1_init 163 = .ok (.iastore, 1) := dk_79 (dk_at dksX1_init_7 0 rfl rfl)
theorem dX1_init_164 : decode cX1_init 164 = .ok (.aload_n 0, 1) := dk_42 (dk_at dksX1_init_7 1 rfl rfl)
theorem dX1_init_165 : decode cX1_init 165 = .ok (.getfield 29, 3) := dk_180 0 29 (dk_at dksX1_init_7 2 rfl rfl)
theorem dX1_init_168 : decode cX1_init 168 = .ok (.iload_n 1, 1) := dk_27 (dk_at dksX1_init_7 5 rfl rfl)
theorem dX1_init_169 : decode cX1_init 169 = .ok (.aaload, 1) := dk_50 (dk_at dksX1_init_7 6 rfl rfl)
theorem dX1_init_170 : decode cX1_init 170 = .ok (.iload_n 2, 1) := dk_28 (dk_at dksX1_init_7 7 rfl rfl)
theorem dX1_init_171 : decode cX1_init 171 = .ok (.iconst (-1), 1) := dk_2 (dk_at dksX1_init_7 8 rfl rfl)
theorem dX1_init_172 : decode cX1_init 172 = .ok (.iastore, 1) := dk_79 (dk_at dksX1_init_7 9 rfl rfl)
theorem dX1_init_173 : decode cX1_init 173 = .ok (.aload_n 0, 1) := dk_42 (dk_at dksX1_init_7 10 rfl rfl)
theorem dX1_init_174 : decode cX1_init 174 = .ok (.getfield 23, 3) := dk_180 0 23 (dk_at dksX1_init_7 11 rfl rfl)
theorem dX1_init_177 : decode cX1_init 177 = .ok (.iload_n 1, 1) := dk_27 (dk_at dksX1_init_7 14 rfl rfl)
theorem dX1_init_178 : decode cX1_init 178 = .ok (.iconst 2, 1) := dk_5 (dk_at dksX1_init_7 15 rfl rfl)
theorem dX1_init_179 : decode cX1_init 179 = .ok (.idiv, 1) := dk_108 (dk_at dksX1_init_7 16 rfl rfl)
theorem dX1_init_180 : decode cX1_init 180 = .ok (.aaload, 1) := dk_50 (dk_at dksX1_init_7 17 rfl rfl)
theorem dX1_init_181 : decode cX1_init 181 = .ok (.iload_n 2, 1) := dk_28 (dk_at dksX1_init_7 18 rfl rfl)
theorem dX1_init_182 : decode cX1_init 182 = .ok (.iconst (-1), 1) := dk_2 (dk_at dksX1_init_7 19 rfl rfl)
theorem dX1_init_183 : decode cX1_init 183 = .ok (.iastore, 1) := dk_79 (dk_at dksX1_init_7 20 rfl rfl)
theorem dX1_init_184 : decode cX1_init 184 = .ok (.iinc 2 1, 3) := dk_132 2 1 (dk_at dksX1_init_7 21 rfl rfl)
theorem dX1_init_187 : decode cX1_init 187 = .ok (.goto (-38), 3) := dk_167 255 218 (dk_at dksX1_init_8 0 rfl rfl)
theorem dX1_init_190 : decode cX1_init 190 = .ok (.iinc 1 1, 3) := dk_132 1 1 (dk_at dksX1_init_8 3 rfl rfl)
theorem dX1_init_193 : decode cX1_init 193 = .ok (.goto (-52), 3) := dk_167 255 204 (dk_at dksX1_init_8 6 rfl rfl)
theorem dX1_init_196 : decode cX1_init 196 = .ok (.return_, 1) := dk_177 (dk_at dksX1_init_8 9 rfl rfl)
abbrev cX1_where : ByteArray := prog_18_method_3_code
def yX1_where : MethodName := ⟨RX1, "where", "(II)I"⟩
def dkwX1_where_3 : List UInt8 := [192, 0, 68, 180, 0, 80, 62, 132, 4, 1, 167, 255, 187, 29, 172]
abbrev dktX1_where_3 : List UInt8 := dkwX1_where_3 ++ []
def dkwX1_where_2 : List UInt8 := [182, 0, 58, 192, 0, 68, 180, 0, 77, 28, 163, 0, 19, 42, 180, 0, 41, 21, 4, 182, 0, 58]
abbrev dktX1_where_2 : List UInt8 := dkwX1_where_2 ++ dktX1_where_3
def dkwX1_where_1 : List UInt8 := [180, 0, 41, 21, 4, 182, 0, 58, 192, 0, 68, 180, 0, 74, 27, 160, 0, 38, 42, 180, 0, 41, 21, 4]
abbrev dktX1_where_1 : List UInt8 := dkwX1_where_1 ++ dktX1_where_2
def dkwX1_where_0 : List UInt8 := [42, 180, 0, 44, 27, 46, 62, 3, 54, 4, 21, 4, 42, 180, 0, 41, 182, 0, 54, 162, 0, 63, 42]
abbrev dktX1_where_0 : List UInt8 := dkwX1_where_0 ++ dktX1_where_1
theorem dksX1_where_0 : cX1_where.data.toList.drop 0 = dktX1_where_0 := by decide +kernel
theorem dksX1_where_1 : cX1_where.data.toList.drop 23 = dktX1_where_1 := dk_seg dksX1_where_0 23 rfl rfl
theorem dksX1_where_2 : cX1_where.data.toList.drop 47 = dktX1_where_2 := dk_seg dksX1_where_1 24 rfl rfl
theorem dksX1_where_3 : cX1_where.data.toList.drop 69 = dktX1_where_3 := dk_seg dksX1_where_2 22 rfl rfl
theorem dX1_where_0 : decode cX1_where 0 = .ok (.aload_n 0, 1) := dk_42 (dk_at dksX1_where_0 0 rfl rfl)
theorem dX1_where_1 : decode cX1_where 1 = .ok (.getfield 44, 3) := dk_180 0 44 (dk_at dksX1_where_0 1 rfl rfl)
theorem dX1_where_4 : decode cX1_where 4 = .ok (.iload_n 1, 1) := dk_27 (dk_at dksX1_where_0 4 rfl rfl)
theorem dX1_where_5 : decode cX1_where 5 = .ok (.iaload, 1) := dk_46 (dk_at dksX1_where_0 5 rfl rfl)
theorem dX1_where_6 : decode cX1_where 6 = .ok (.istore_n 3, 1) := dk_62 (dk_at dksX1_where_0 6 rfl rfl)
theorem dX1_where_7 : decode cX1_where 7 = .ok (.iconst 0, 1) := dk_3 (dk_at dksX1_where_0 7 rfl rfl)
theorem dX1_where_8 : decode cX1_where 8 = .ok (.istore 4, 2) := dk_54 4 (dk_at dksX1_where_0 8 rfl rfl)
theorem dX1_where_10 : decode cX1_where 10 = .ok (.iload 4, 2) := dk_21 4 (dk_at dksX1_where_0 10 rfl rfl)
theorem dX1_where_12 : decode cX1_where 12 = .ok (.aload_n 0, 1) := dk_42 (dk_at dksX1_where_0 12 rfl rfl)
theorem dX1_where_13 : decode cX1_where 13 = .ok (.getfield 41, 3) := dk_180 0 41 (dk_at dksX1_where_0 13 rfl rfl)
theorem dX1_where_16 : decode cX1_where 16 = .ok (.invokevirtual 54, 3) := dk_182 0 54 (dk_at dksX1_where_0 16 rfl rfl)
theorem dX1_where_19 : decode cX1_where 19 = .ok (.if_icmp .ge 63, 3) := dk_162 0 63 (dk_at dksX1_where_0 19 rfl rfl)
theorem dX1_where_22 : decode cX1_where 22 = .ok (.aload_n 0, 1) := dk_42 (dk_at dksX1_where_0 22 rfl rfl)
theorem dX1_where_23 : decode cX1_where 23 = .ok (.getfield 41, 3) := dk_180 0 41 (dk_at dksX1_where_1 0 rfl rfl)
theorem dX1_where_26 : decode cX1_where 26 = .ok (.iload 4, 2) := dk_21 4 (dk_at dksX1_where_1 3 rfl rfl)
theorem dX1_where_28 : decode cX1_where 28 = .ok (.invokevirtual 58, 3) := dk_182 0 58 (dk_at dksX1_where_1 5 rfl rfl)
theorem dX1_where_31 : decode cX1_where 31 = .ok (.checkcast 68, 3) := dk_192 0 68 (dk_at dksX1_where_1 8 rfl rfl)
theorem dX1_where_34 : decode cX1_where 34 = .ok (.getfield 74, 3) := dk_180 0 74 (dk_at dksX1_where_1 11 rfl rfl)
theorem dX1_where_37 : decode cX1_where 37 = .ok (.iload_n 1, 1) := dk_27 (dk_at dksX1_where_1 14 rfl rfl)
theorem dX1_where_38 : decode cX1_where 38 = .ok (.if_icmp .ne 38, 3) := dk_160 0 38 (dk_at dksX1_where_1 15 rfl rfl)
theorem dX1_where_41 : decode cX1_where 41 = .ok (.aload_n 0, 1) := dk_42 (dk_at dksX1_where_1 18 rfl rfl)
theorem dX1_where_42 : decode cX1_where 42 = .ok (.getfield 41, 3) := dk_180 0 41 (dk_at dksX1_where_1 19 rfl rfl)
theorem dX1_where_45 : decode cX1_where 45 = .ok (.iload 4, 2) := dk_21 4 (dk_at dksX1_where_1 22 rfl rfl)
theorem dX1_where_47 : decode cX1_where 47 = .ok (.invokevirtual 58, 3) := dk_182 0 58 (dk_at dksX1_where_2 0 rfl rfl)
theorem dX1_where_50 : decode cX1_where 50 = .ok (.checkcast 68, 3) := dk_192 0 68 (dk_at dksX1_where_2 3 rfl rfl)
theorem dX1_where_53 : decode cX1_where 53 = .ok (.getfield 77, 3) := dk_180 0 77 (dk_at dksX1_where_2 6 rfl rfl)
theorem dX1_where_56 : decode cX1_where 56 = .ok (.iload_n 2, 1) := dk_28 (dk_at dksX1_where_2 9 rfl rfl)
theorem dX1_where_57 : decode cX1_where 57 = .ok (.if_icmp .gt 19, 3) := dk_163 0 19 (dk_at dksX1_where_2 10 rfl rfl)
theorem dX1_where_60 : decode cX1_where 60 = .ok (.aload_n 0, 1) := dk_42 (dk_at dksX1_where_2 13 rfl rfl)
theorem dX1_where_61 : decode cX1_where 61 = .ok (.getfield 41, 3) := dk_180 0 41 (dk_at dksX1_where_2 14 rfl rfl)
theorem dX1_where_64 : decode cX1_where 64 = .ok (.iload 4, 2) := dk_21 4 (dk_at dksX1_where_2 17 rfl rfl)
theorem dX1_where_66 : decode cX1_where 66 = .ok (.invokevirtual 58, 3) := dk_182 0 58 (dk_at dksX1_where_2 19 rfl rfl)
theorem dX1_where_69 : decode cX1_where 69 = .ok (.checkcast 68, 3) := dk_192 0 68 (dk_at dksX1_where_3 0 rfl rfl)
theorem dX1_where_72 : decode cX1_where 72 = .ok (.getfield 80, 3) := dk_180 0 80 (dk_at dksX1_where_3 3 rfl rfl)
theorem dX1_where_75 : decode cX1_where 75 = .ok (.istore_n 3, 1) := dk_62 (dk_at dksX1_where_3 6 rfl rfl)
theorem dX1_where_76 : decode cX1_where 76 = .ok (.iinc 4 1, 3) := dk_132 4 1 (dk_at dksX1_where_3 7 rfl rfl)
theorem dX1_where_79 : decode cX1_where 79 = .ok (.goto (-69), 3) := dk_167 255 187 (dk_at dksX1_where_3 10 rfl rfl)
theorem dX1_where_82 : decode cX1_where 82 = .ok (.iload_n 3, 1) := dk_29 (dk_at dksX1_where_3 13 rfl rfl)
theorem dX1_where_83 : decode cX1_where 83 = .ok (.ireturn, 1) := dk_172 (dk_at dksX1_where_3 14 rfl rfl)
abbrev cX1_copy : ByteArray := prog_18_method_2_code
def yX1_copy : MethodName := ⟨RX1, "copy", "()LRapTable$Sitting;"⟩
def dkwX1_copy_9 : List UInt8 := [180, 0, 44, 3, 16, 8, 184, 0, 48, 43, 42, 180, 0, 70, 181, 0, 70, 43, 176]
abbrev dktX1_copy_9 : List UInt8 := dkwX1_copy_9 ++ []
def dkwX1_copy_8 : List UInt8 := [182, 0, 58, 192, 0, 68, 182, 0, 64, 87, 132, 2, 1, 167, 255, 223, 42, 180, 0, 44, 3, 43]
abbrev dktX1_copy_8 : List UInt8 := dkwX1_copy_8 ++ dktX1_copy_9
def dkwX1_copy_7 : List UInt8 := [3, 61, 28, 42, 180, 0, 41, 182, 0, 54, 162, 0, 28, 43, 180, 0, 41, 42, 180, 0, 41, 28]
abbrev dktX1_copy_7 : List UInt8 := dkwX1_copy_7 ++ dktX1_copy_8
def dkwX1_copy_6 : List UInt8 := [180, 0, 37, 42, 180, 0, 37, 28, 182, 0, 58, 192, 0, 62, 182, 0, 64, 87, 132, 2, 1, 167, 255, 223]
abbrev dktX1_copy_6 : List UInt8 := dkwX1_copy_6 ++ dktX1_copy_7
def dkwX1_copy_5 : List UInt8 := [184, 0, 48, 132, 2, 1, 167, 255, 186, 3, 61, 28, 42, 180, 0, 37, 182, 0, 54, 162, 0, 28, 43]
abbrev dktX1_copy_5 : List UInt8 := dkwX1_copy_5 ++ dktX1_copy_6
def dkwX1_copy_4 : List UInt8 := [184, 0, 48, 42, 180, 0, 23, 28, 5, 108, 50, 3, 43, 180, 0, 23, 28, 5, 108, 50, 3, 16, 100]
abbrev dktX1_copy_4 : List UInt8 := dkwX1_copy_4 ++ dktX1_copy_5
def dkwX1_copy_3 : List UInt8 := [28, 50, 3, 16, 100, 184, 0, 48, 42, 180, 0, 29, 28, 50, 3, 43, 180, 0, 29, 28, 50, 3, 16, 100]
abbrev dktX1_copy_3 : List UInt8 := dkwX1_copy_3 ++ dktX1_copy_4
def dkwX1_copy_2 : List UInt8 := [16, 9, 184, 0, 48, 3, 61, 28, 16, 18, 162, 0, 70, 42, 180, 0, 26, 28, 50, 3, 43, 180, 0, 26]
abbrev dktX1_copy_2 : List UInt8 := dkwX1_copy_2 ++ dktX1_copy_3
def dkwX1_copy_1 : List UInt8 := [180, 0, 15, 3, 43, 180, 0, 15, 3, 16, 9, 184, 0, 48, 42, 180, 0, 18, 3, 43, 180, 0, 18, 3]
abbrev dktX1_copy_1 : List UInt8 := dkwX1_copy_1 ++ dktX1_copy_2
def dkwX1_copy_0 : List UInt8 := [187, 0, 10, 89, 183, 0, 47, 76, 42, 180, 0, 9, 3, 43, 180, 0, 9, 3, 16, 100, 184, 0, 48, 42]
abbrev dktX1_copy_0 : List UInt8 := dkwX1_copy_0 ++ dktX1_copy_1
theorem dksX1_copy_0 : cX1_copy.data.toList.drop 0 = dktX1_copy_0 := by decide +kernel
theorem dksX1_copy_1 : cX1_copy.data.toList.drop 24 = dktX1_copy_1 := dk_seg dksX1_copy_0 24 rfl rfl
theorem dksX1_copy_2 : cX1_copy.data.toList.drop 48 = dktX1_copy_2 := dk_seg dksX1_copy_1 24 rfl rfl
theorem dksX1_copy_3 : cX1_copy.data.toList.drop 72 = dktX1_copy_3 := dk_seg dksX1_copy_2 24 rfl rfl
theorem dksX1_copy_4 : cX1_copy.data.toList.drop 96 = dktX1_copy_4 := dk_seg dksX1_copy_3 24 rfl rfl
theorem dksX1_copy_5 : cX1_copy.data.toList.drop 119 = dktX1_copy_5 := dk_seg dksX1_copy_4 23 rfl rfl
theorem dksX1_copy_6 : cX1_copy.data.toList.drop 142 = dktX1_copy_6 := dk_seg dksX1_copy_5 23 rfl rfl
theorem dksX1_copy_7 : cX1_copy.data.toList.drop 166 = dktX1_copy_7 := dk_seg dksX1_copy_6 24 rfl rfl
theorem dksX1_copy_8 : cX1_copy.data.toList.drop 188 = dktX1_copy_8 := dk_seg dksX1_copy_7 22 rfl rfl
theorem dksX1_copy_9 : cX1_copy.data.toList.drop 210 = dktX1_copy_9 := dk_seg dksX1_copy_8 22 rfl rfl
theorem dX1_copy_0 : decode cX1_copy 0 = .ok (.new 10, 3) := dk_187 0 10 (dk_at dksX1_copy_0 0 rfl rfl)
theorem dX1_copy_3 : decode cX1_copy 3 = .ok (.dup, 1) := dk_89 (dk_at dksX1_copy_0 3 rfl rfl)
theorem dX1_copy_4 : decode cX1_copy 4 = .ok (.invokespecial 47, 3) := dk_183 0 47 (dk_at dksX1_copy_0 4 rfl rfl)
theorem dX1_copy_7 : decode cX1_copy 7 = .ok (.astore_n 1, 1) := dk_76 (dk_at dksX1_copy_0 7 rfl rfl)
theorem dX1_copy_8 : decode cX1_copy 8 = .ok (.aload_n 0, 1) := dk_42 (dk_at dksX1_copy_0 8 rfl rfl)
theorem dX1_copy_9 : decode cX1_copy 9 = .ok (.getfield 9, 3) := dk_180 0 9 (dk_at dksX1_copy_0 9 rfl rfl)
theorem dX1_copy_12 : decode cX1_copy 12 = .ok (.iconst 0, 1) := dk_3 (dk_at dksX1_copy_0 12 rfl rfl)
theorem dX1_copy_13 : decode cX1_copy 13 = .ok (.aload_n 1, 1) := dk_43 (dk_at dksX1_copy_0 13 rfl rfl)
theorem dX1_copy_14 : decode cX1_copy 14 = .ok (.getfield 9, 3) := dk_180 0 9 (dk_at dksX1_copy_0 14 rfl rfl)
theorem dX1_copy_17 : decode cX1_copy 17 = .ok (.iconst 0, 1) := dk_3 (dk_at dksX1_copy_0 17 rfl rfl)
theorem dX1_copy_18 : decode cX1_copy 18 = .ok (.bipush 100, 2) := dk_16 100 (dk_at dksX1_copy_0 18 rfl rfl)
theorem dX1_copy_20 : decode cX1_copy 20 = .ok (.invokestatic 48, 3) := dk_184 0 48 (dk_at dksX1_copy_0 20 rfl rfl)
theorem dX1_copy_23 : decode cX1_copy 23 = .ok (.aload_n 0, 1) := dk_42 (dk_at dksX1_copy_0 23 rfl rfl)
theorem dX1_copy_24 : decode cX1_copy 24 = .ok (.getfield 15, 3) := dk_180 0 15 (dk_at dksX1_copy_1 0 rfl rfl)
theorem dX1_copy_27 : decode cX1_copy 27 = .ok (.iconst 0, 1) := dk_3 (dk_at dksX1_copy_1 3 rfl rfl)
theorem dX1_copy_28 : decode cX1_copy 28 = .ok (.aload_n 1, 1) := dk_43 (dk_at dksX1_copy_1 4 rfl rfl)
theorem dX1_copy_29 : decode cX1_copy 29 = .ok (.getfield 15, 3) := dk_180 0 15 (dk_at dksX1_copy_1 5 rfl rfl)
theorem dX1_copy_32 : decode cX1_copy 32 = .ok (.iconst 0, 1) := dk_3 (dk_at dksX1_copy_1 8 rfl rfl)
theorem dX1_copy_33 : decode cX1_copy 33 = .ok (.bipush 9, 2) := dk_16 9 (dk_at dksX1_copy_1 9 rfl rfl)
theorem dX1_copy_35 : decode cX1_copy 35 = .ok (.invokestatic 48, 3) := dk_184 0 48 (dk_at dksX1_copy_1 11 rfl rfl)
theorem dX1_copy_38 : decode cX1_copy 38 = .ok (.aload_n 0, 1) := dk_42 (dk_at dksX1_copy_1 14 rfl rfl)
theorem dX1_copy_39 : decode cX1_copy 39 = .ok (.getfield 18, 3) := dk_180 0 18 (dk_at dksX1_copy_1 15 rfl rfl)
theorem dX1_copy_42 : decode cX1_copy 42 = .ok (.iconst 0, 1) := dk_3 (dk_at dksX1_copy_1 18 rfl rfl)
theorem dX1_copy_43 : decode cX1_copy 43 = .ok (.aload_n 1, 1) := dk_43 (dk_at dksX1_copy_1 19 rfl rfl)
theorem dX1_copy_44 : decode cX1_copy 44 = .ok (.getfield 18, 3) := dk_180 0 18 (dk_at dksX1_copy_1 20 rfl rfl)
theorem dX1_copy_47 : decode cX1_copy 47 = .ok (.iconst 0, 1) := dk_3 (dk_at dksX1_copy_1 23 rfl rfl)
theorem dX1_copy_48 : decode cX1_copy 48 = .ok (.bipush 9, 2) := dk_16 9 (dk_at dksX1_copy_2 0 rfl rfl)
theorem dX1_copy_50 : decode cX1_copy 50 = .ok (.invokestatic 48, 3) := dk_184 0 48 (dk_at dksX1_copy_2 2 rfl rfl)
theorem dX1_copy_53 : decode cX1_copy 53 = .ok (.iconst 0, 1) := dk_3 (dk_at dksX1_copy_2 5 rfl rfl)
theorem dX1_copy_54 : decode cX1_copy 54 = .ok (.istore_n 2, 1) := dk_61 (dk_at dksX1_copy_2 6 rfl rfl)
theorem dX1_copy_55 : decode cX1_copy 55 = .ok (.iload_n 2, 1) := dk_28 (dk_at dksX1_copy_2 7 rfl rfl)
theorem dX1_copy_56 : decode cX1_copy 56 = .ok (.bipush 18, 2) := dk_16 18 (dk_at dksX1_copy_2 8 rfl rfl)
theorem dX1_copy_58 : decode cX1_copy 58 = .ok (.if_icmp .ge 70, 3) := dk_162 0 70 (dk_at dksX1_copy_2 10 rfl rfl)
theorem dX1_copy_61 : decode cX1_copy 61 = .ok (.aload_n 0, 1) := dk_42 (dk_at dksX1_copy_2 13 rfl rfl)
theorem dX1_copy_62 : decode cX1_copy 62 = .ok (.getfield 26, 3) := dk_180 0 26 (dk_at dksX1_copy_2 14 rfl rfl)
theorem dX1_copy_65 : decode cX1_copy 65 = .ok (.iload_n 2, 1) := dk_28 (dk_at dksX1_copy_2 17 rfl rfl)
theorem dX1_copy_66 : decode cX1_copy 66 = .ok (.aaload, 1) := dk_50 (dk_at dksX1_copy_2 18 rfl rfl)
theorem dX1_copy_67 : decode cX1_copy 67 = .ok (.iconst 0, 1) := dk_3 (dk_at dksX1_copy_2 19 rfl rfl)
theorem dX1_copy_68 : decode cX1_copy 68 = .ok (.aload_n 1, 1) := dk_43 (dk_at dksX1_copy_2 20 rfl rfl)
theorem dX1_copy_69 : decode cX1_copy 69 = .ok (.getfield 26, 3) := dk_180 0 26 (dk_at dksX1_copy_2 21 rfl rfl)
theorem dX1_copy_72 : decode cX1_copy 72 = .ok (.iload_n 2, 1) := dk_28 (dk_at dksX1_copy_3 0 rfl rfl)
theorem dX1_copy_73 : decode cX1_copy 73 = .ok (.aaload, 1) := dk_50 (dk_at dksX1_copy_3 1 rfl rfl)
theorem dX1_copy_74 : decode cX1_copy 74 = .ok (.iconst 0, 1) := dk_3 (dk_at dksX1_copy_3 2 rfl rfl)
theorem dX1_copy_75 : decode cX1_copy 75 = .ok (.bipush 100, 2) := dk_16 100 (dk_at dksX1_copy_3 3 rfl rfl)
theorem dX1_copy_77 : decode cX1_copy 77 = .ok (.invokestatic 48, 3) := dk_184 0 48 (dk_at dksX1_copy_3 5 rfl rfl)
theorem dX1_copy_80 : decode cX1_copy 80 = .ok (.aload_n 0, 1) := dk_42 (dk_at dksX1_copy_3 8 rfl rfl)
theorem dX1_copy_81 : decode cX1_copy 81 = .ok (.getfield 29, 3) := dk_180 0 29 (dk_at dksX1_copy_3 9 rfl rfl)
theorem dX1_copy_84 : decode cX1_copy 84 = .ok (.iload_n 2, 1) := dk_28 (dk_at dksX1_copy_3 12 rfl rfl)
theorem dX1_copy_85 : decode cX1_copy 85 = .ok (.aaload, 1) := dk_50 (dk_at dksX1_copy_3 13 rfl rfl)
theorem dX1_copy_86 : decode cX1_copy 86 = .ok (.iconst 0, 1) := dk_3 (dk_at dksX1_copy_3 14 rfl rfl)
theorem dX1_copy_87 : decode cX1_copy 87 = .ok (.aload_n 1, 1) := dk_43 (dk_at dksX1_copy_3 15 rfl rfl)
theorem dX1_copy_88 : decode cX1_copy 88 = .ok (.getfield 29, 3) := dk_180 0 29 (dk_at dksX1_copy_3 16 rfl rfl)
theorem dX1_copy_91 : decode cX1_copy 91 = .ok (.iload_n 2, 1) := dk_28 (dk_at dksX1_copy_3 19 rfl rfl)
theorem dX1_copy_92 : decode cX1_copy 92 = .ok (.aaload, 1) := dk_50 (dk_at dksX1_copy_3 20 rfl rfl)
theorem dX1_copy_93 : decode cX1_copy 93 = .ok (.iconst 0, 1) := dk_3 (dk_at dksX1_copy_3 21 rfl rfl)
theorem dX1_copy_94 : decode cX1_copy 94 = .ok (.bipush 100, 2) := dk_16 100 (dk_at dksX1_copy_3 22 rfl rfl)
theorem dX1_copy_96 : decode cX1_copy 96 = .ok (.invokestatic 48, 3) := dk_184 0 48 (dk_at dksX1_copy_4 0 rfl rfl)
theorem dX1_copy_99 : decode cX1_copy 99 = .ok (.aload_n 0, 1) := dk_42 (dk_at dksX1_copy_4 3 rfl rfl)
theorem dX1_copy_100 : decode cX1_copy 100 = .ok (.getfield 23, 3) := dk_180 0 23 (dk_at dksX1_copy_4 4 rfl rfl)
theorem dX1_copy_103 : decode cX1_copy 103 = .ok (.iload_n 2, 1) := dk_28 (dk_at dksX1_copy_4 7 rfl rfl)
theorem dX1_copy_104 : decode cX1_copy 104 = .ok (.iconst 2, 1) := dk_5 (dk_at dksX1_copy_4 8 rfl rfl)
theorem dX1_copy_105 : decode cX1_copy 105 = .ok (.idiv, 1) := dk_108 (dk_at dksX1_copy_4 9 rfl rfl)
theorem dX1_copy_106 : decode cX1_copy 106 = .ok (.aaload, 1) := dk_50 (dk_at dksX1_copy_4 10 rfl rfl)
theorem dX1_copy_107 : decode cX1_copy 107 = .ok (.iconst 0, 1) := dk_3 (dk_at dksX1_copy_4 11 rfl rfl)
theorem dX1_copy_108 : decode cX1_copy 108 = .ok (.aload_n 1, 1) := dk_43 (dk_at dksX1_copy_4 12 rfl rfl)
theorem dX1_copy_109 : decode cX1_copy 109 = .ok (.getfield 23, 3) := dk_180 0 23 (dk_at dksX1_copy_4 13 rfl rfl)
theorem dX1_copy_112 : decode cX1_copy 112 = .ok (.iload_n 2, 1) := dk_28 (dk_at dksX1_copy_4 16 rfl rfl)
theorem dX1_copy_113 : decode cX1_copy 113 = .ok (.iconst 2, 1) := dk_5 (dk_at dksX1_copy_4 17 rfl rfl)
theorem dX1_copy_114 : decode cX1_copy 114 = .ok (.idiv, 1) := dk_108 (dk_at dksX1_copy_4 18 rfl rfl)
theorem dX1_copy_115 : decode cX1_copy 115 = .ok (.aaload, 1) := dk_50 (dk_at dksX1_copy_4 19 rfl rfl)
theorem dX1_copy_116 : decode cX1_copy 116 = .ok (.iconst 0, 1) := dk_3 (dk_at dksX1_copy_4 20 rfl rfl)
theorem dX1_copy_117 : decode cX1_copy 117 = .ok (.bipush 100, 2) := dk_16 100 (dk_at dksX1_copy_4 21 rfl rfl)
theorem dX1_copy_119 : decode cX1_copy 119 = .ok (.invokestatic 48, 3) := dk_184 0 48 (dk_at dksX1_copy_5 0 rfl rfl)
theorem dX1_copy_122 : decode cX1_copy 122 = .ok (.iinc 2 1, 3) := dk_132 2 1 (dk_at dksX1_copy_5 3 rfl rfl)
theorem dX1_copy_125 : decode cX1_copy 125 = .ok (.goto (-70), 3) := dk_167 255 186 (dk_at dksX1_copy_5 6 rfl rfl)
theorem dX1_copy_128 : decode cX1_copy 128 = .ok (.iconst 0, 1) := dk_3 (dk_at dksX1_copy_5 9 rfl rfl)
theorem dX1_copy_129 : decode cX1_copy 129 = .ok (.istore_n 2, 1) := dk_61 (dk_at dksX1_copy_5 10 rfl rfl)
theorem dX1_copy_130 : decode cX1_copy 130 = .ok (.iload_n 2, 1) := dk_28 (dk_at dksX1_copy_5 11 rfl rfl)
theorem dX1_copy_131 : decode cX1_copy 131 = .ok (.aload_n 0, 1) := dk_42 (dk_at dksX1_copy_5 12 rfl rfl)
theorem dX1_copy_132 : decode cX1_copy 132 = .ok (.getfield 37, 3) := dk_180 0 37 (dk_at dksX1_copy_5 13 rfl rfl)
theorem dX1_copy_135 : decode cX1_copy 135 = .ok (.invokevirtual 54, 3) := dk_182 0 54 (dk_at dksX1_copy_5 16 rfl rfl)
theorem dX1_copy_138 : decode cX1_copy 138 = .ok (.if_icmp .ge 28, 3) := dk_162 0 28 (dk_at dksX1_copy_5 19 rfl rfl)
theorem dX1_copy_141 : decode cX1_copy 141 = .ok (.aload_n 1, 1) := dk_43 (dk_at dksX1_copy_5 22 rfl rfl)
theorem dX1_copy_142 : decode cX1_copy 142 = .ok (.getfield 37, 3) := dk_180 0 37 (dk_at dksX1_copy_6 0 rfl rfl)
theorem dX1_copy_145 : decode cX1_copy 145 = .ok (.aload_n 0, 1) := dk_42 (dk_at dksX1_copy_6 3 rfl rfl)
theorem dX1_copy_146 : decode cX1_copy 146 = .ok (.getfield 37, 3) := dk_180 0 37 (dk_at dksX1_copy_6 4 rfl rfl)
theorem dX1_copy_149 : decode cX1_copy 149 = .ok (.iload_n 2, 1) := dk_28 (dk_at dksX1_copy_6 7 rfl rfl)
theorem dX1_copy_150 : decode cX1_copy 150 = .ok (.invokevirtual 58, 3) := dk_182 0 58 (dk_at dksX1_copy_6 8 rfl rfl)
theorem dX1_copy_153 : decode cX1_copy 153 = .ok (.checkcast 62, 3) := dk_192 0 62 (dk_at dksX1_copy_6 11 rfl rfl)
theorem dX1_copy_156 : decode cX1_copy 156 = .ok (.invokevirtual 64, 3) := dk_182 0 64 (dk_at dksX1_copy_6 14 rfl rfl)
theorem dX1_copy_159 : decode cX1_copy 159 = .ok (.pop, 1) := dk_87 (dk_at dksX1_copy_6 17 rfl rfl)
theorem dX1_copy_160 : decode cX1_copy 160 = .ok (.iinc 2 1, 3) := dk_132 2 1 (dk_at dksX1_copy_6 18 rfl rfl)
theorem dX1_copy_163 : decode cX1_copy 163 = .ok (.goto (-33), 3) := dk_167 255 223 (dk_at dksX1_copy_6 21 rfl rfl)
theorem dX1_copy_166 : decode cX1_copy 166 = .ok (.iconst 0, 1) := dk_3 (dk_at dksX1_copy_7 0 rfl rfl)
theorem dX1_copy_167 : decode cX1_copy 167 = .ok (.istore_n 2, 1) := dk_61 (dk_at dksX1_copy_7 1 rfl rfl)
theorem dX1_copy_168 : decode cX1_copy 168 = .ok (.iload_n 2, 1) := dk_28 (dk_at dksX1_copy_7 2 rfl rfl)
theorem dX1_copy_169 : decode cX1_copy 169 = .ok (.aload_n 0, 1) := dk_42 (dk_at dksX1_copy_7 3 rfl rfl)
theorem dX1_copy_170 : decode cX1_copy 170 = .ok (.getfield 41, 3) := dk_180 0 41 (dk_at dksX1_copy_7 4 rfl rfl)
theorem dX1_copy_173 : decode cX1_copy 173 = .ok (.invokevirtual 54, 3) := dk_182 0 54 (dk_at dksX1_copy_7 7 rfl rfl)
theorem dX1_copy_176 : decode cX1_copy 176 = .ok (.if_icmp .ge 28, 3) := dk_162 0 28 (dk_at dksX1_copy_7 10 rfl rfl)
theorem dX1_copy_179 : decode cX1_copy 179 = .ok (.aload_n 1, 1) := dk_43 (dk_at dksX1_copy_7 13 rfl rfl)
theorem dX1_copy_180 : decode cX1_copy 180 = .ok (.getfield 41, 3) := dk_180 0 41 (dk_at dksX1_copy_7 14 rfl rfl)
theorem dX1_copy_183 : decode cX1_copy 183 = .ok (.aload_n 0, 1) := dk_42 (dk_at dksX1_copy_7 17 rfl rfl)
theorem dX1_copy_184 : decode cX1_copy 184 = .ok (.getfield 41, 3) := dk_180 0 41 (dk_at dksX1_copy_7 18 rfl rfl)
theorem dX1_copy_187 : decode cX1_copy 187 = .ok (.iload_n 2, 1) := dk_28 (dk_at dksX1_copy_7 21 rfl rfl)
theorem dX1_copy_188 : decode cX1_copy 188 = .ok (.invokevirtual 58, 3) := dk_182 0 58 (dk_at dksX1_copy_8 0 rfl rfl)
theorem dX1_copy_191 : decode cX1_copy 191 = .ok (.checkcast 68, 3) := dk_192 0 68 (dk_at dksX1_copy_8 3 rfl rfl)
theorem dX1_copy_194 : decode cX1_copy 194 = .ok (.invokevirtual 64, 3) := dk_182 0 64 (dk_at dksX1_copy_8 6 rfl rfl)
theorem dX1_copy_197 : decode cX1_copy 197 = .ok (.pop, 1) := dk_87 (dk_at dksX1_copy_8 9 rfl rfl)
theorem dX1_copy_198 : decode cX1_copy 198 = .ok (.iinc 2 1, 3) := dk_132 2 1 (dk_at dksX1_copy_8 10 rfl rfl)
theorem dX1_copy_201 : decode cX1_copy 201 = .ok (.goto (-33), 3) := dk_167 255 223 (dk_at dksX1_copy_8 13 rfl rfl)
theorem dX1_copy_204 : decode cX1_copy 204 = .ok (.aload_n 0, 1) := dk_42 (dk_at dksX1_copy_8 16 rfl rfl)
theorem dX1_copy_205 : decode cX1_copy 205 = .ok (.getfield 44, 3) := dk_180 0 44 (dk_at dksX1_copy_8 17 rfl rfl)
theorem dX1_copy_208 : decode cX1_copy 208 = .ok (.iconst 0, 1) := dk_3 (dk_at dksX1_copy_8 20 rfl rfl)
theorem dX1_copy_209 : decode cX1_copy 209 = .ok (.aload_n 1, 1) := dk_43 (dk_at dksX1_copy_8 21 rfl rfl)
theorem dX1_copy_210 : decode cX1_copy 210 = .ok (.getfield 44, 3) := dk_180 0 44 (dk_at dksX1_copy_9 0 rfl rfl)
theorem dX1_copy_213 : decode cX1_copy 213 = .ok (.iconst 0, 1) := dk_3 (dk_at dksX1_copy_9 3 rfl rfl)
theorem dX1_copy_214 : decode cX1_copy 214 = .ok (.bipush 8, 2) := dk_16 8 (dk_at dksX1_copy_9 4 rfl rfl)
theorem dX1_copy_216 : decode cX1_copy 216 = .ok (.invokestatic 48, 3) := dk_184 0 48 (dk_at dksX1_copy_9 6 rfl rfl)
theorem dX1_copy_219 : decode cX1_copy 219 = .ok (.aload_n 1, 1) := dk_43 (dk_at dksX1_copy_9 9 rfl rfl)
theorem dX1_copy_220 : decode cX1_copy 220 = .ok (.aload_n 0, 1) := dk_42 (dk_at dksX1_copy_9 10 rfl rfl)
theorem dX1_copy_221 : decode cX1_copy 221 = .ok (.getfield 70, 3) := dk_180 0 70 (dk_at dksX1_copy_9 11 rfl rfl)
theorem dX1_copy_224 : decode cX1_copy 224 = .ok (.putfield 70, 3) := dk_181 0 70 (dk_at dksX1_copy_9 14 rfl rfl)
theorem dX1_copy_227 : decode cX1_copy 227 = .ok (.aload_n 1, 1) := dk_43 (dk_at dksX1_copy_9 17 rfl rfl)
theorem dX1_copy_228 : decode cX1_copy 228 = .ok (.areturn, 1) := dk_176 (dk_at dksX1_copy_9 18 rfl rfl)
abbrev cX1_led : ByteArray := prog_18_method_4_code
def yX1_led : MethodName := ⟨RX1, "led", "(II)LRapTable$Lead;"⟩
def dkwX1_led_3 : List UInt8 := [25, 5, 78, 132, 4, 1, 167, 255, 185, 45, 176]
abbrev dktX1_led_3 : List UInt8 := dkwX1_led_3 ++ []
def dkwX1_led_2 : List UInt8 := [25, 5, 180, 0, 87, 162, 0, 22, 45, 198, 0, 15, 25, 5, 180, 0, 90, 45, 180, 0, 90, 161, 0, 6]
abbrev dktX1_led_2 : List UInt8 := dkwX1_led_2 ++ dktX1_led_3
def dkwX1_led_1 : List UInt8 := [182, 0, 58, 192, 0, 62, 58, 5, 25, 5, 28, 182, 0, 83, 153, 0, 36, 42, 180, 0, 18, 27, 46]
abbrev dktX1_led_1 : List UInt8 := dkwX1_led_1 ++ dktX1_led_2
def dkwX1_led_0 : List UInt8 := [1, 78, 3, 54, 4, 21, 4, 42, 180, 0, 37, 182, 0, 54, 162, 0, 65, 42, 180, 0, 37, 21, 4]
abbrev dktX1_led_0 : List UInt8 := dkwX1_led_0 ++ dktX1_led_1
theorem dksX1_led_0 : cX1_led.data.toList.drop 0 = dktX1_led_0 := by decide +kernel
theorem dksX1_led_1 : cX1_led.data.toList.drop 23 = dktX1_led_1 := dk_seg dksX1_led_0 23 rfl rfl
theorem dksX1_led_2 : cX1_led.data.toList.drop 46 = dktX1_led_2 := dk_seg dksX1_led_1 23 rfl rfl
theorem dksX1_led_3 : cX1_led.data.toList.drop 70 = dktX1_led_3 := dk_seg dksX1_led_2 24 rfl rfl
theorem dX1_led_0 : decode cX1_led 0 = .ok (.aconst_null, 1) := dk_1 (dk_at dksX1_led_0 0 rfl rfl)
theorem dX1_led_1 : decode cX1_led 1 = .ok (.astore_n 3, 1) := dk_78 (dk_at dksX1_led_0 1 rfl rfl)
theorem dX1_led_2 : decode cX1_led 2 = .ok (.iconst 0, 1) := dk_3 (dk_at dksX1_led_0 2 rfl rfl)
theorem dX1_led_3 : decode cX1_led 3 = .ok (.istore 4, 2) := dk_54 4 (dk_at dksX1_led_0 3 rfl rfl)
theorem dX1_led_5 : decode cX1_led 5 = .ok (.iload 4, 2) := dk_21 4 (dk_at dksX1_led_0 5 rfl rfl)
theorem dX1_led_7 : decode cX1_led 7 = .ok (.aload_n 0, 1) := dk_42 (dk_at dksX1_led_0 7 rfl rfl)
theorem dX1_led_8 : decode cX1_led 8 = .ok (.getfield 37, 3) := dk_180 0 37 (dk_at dksX1_led_0 8 rfl rfl)
theorem dX1_led_11 : decode cX1_led 11 = .ok (.invokevirtual 54, 3) := dk_182 0 54 (dk_at dksX1_led_0 11 rfl rfl)
theorem dX1_led_14 : decode cX1_led 14 = .ok (.if_icmp .ge 65, 3) := dk_162 0 65 (dk_at dksX1_led_0 14 rfl rfl)
theorem dX1_led_17 : decode cX1_led 17 = .ok (.aload_n 0, 1) := dk_42 (dk_at dksX1_led_0 17 rfl rfl)
theorem dX1_led_18 : decode cX1_led 18 = .ok (.getfield 37, 3) := dk_180 0 37 (dk_at dksX1_led_0 18 rfl rfl)
theorem dX1_led_21 : decode cX1_led 21 = .ok (.iload 4, 2) := dk_21 4 (dk_at dksX1_led_0 21 rfl rfl)
theorem dX1_led_23 : decode cX1_led 23 = .ok (.invokevirtual 58, 3) := dk_182 0 58 (dk_at dksX1_led_1 0 rfl rfl)
theorem dX1_led_26 : decode cX1_led 26 = .ok (.checkcast 62, 3) := dk_192 0 62 (dk_at dksX1_led_1 3 rfl rfl)
theorem dX1_led_29 : decode cX1_led 29 = .ok (.astore 5, 2) := dk_58 5 (dk_at dksX1_led_1 6 rfl rfl)
theorem dX1_led_31 : decode cX1_led 31 = .ok (.aload 5, 2) := dk_25 5 (dk_at dksX1_led_1 8 rfl rfl)
theorem dX1_led_33 : decode cX1_led 33 = .ok (.iload_n 2, 1) := dk_28 (dk_at dksX1_led_1 10 rfl rfl)
theorem dX1_led_34 : decode cX1_led 34 = .ok (.invokevirtual 83, 3) := dk_182 0 83 (dk_at dksX1_led_1 11 rfl rfl)
theorem dX1_led_37 : decode cX1_led 37 = .ok (.ifCond .eq 36, 3) := dk_153 0 36 (dk_at dksX1_led_1 14 rfl rfl)
theorem dX1_led_40 : decode cX1_led 40 = .ok (.aload_n 0, 1) := dk_42 (dk_at dksX1_led_1 17 rfl rfl)
theorem dX1_led_41 : decode cX1_led 41 = .ok (.getfield 18, 3) := dk_180 0 18 (dk_at dksX1_led_1 18 rfl rfl)
theorem dX1_led_44 : decode cX1_led 44 = .ok (.iload_n 1, 1) := dk_27 (dk_at dksX1_led_1 21 rfl rfl)
theorem dX1_led_45 : decode cX1_led 45 = .ok (.iaload, 1) := dk_46 (dk_at dksX1_led_1 22 rfl rfl)
theorem dX1_led_46 : decode cX1_led 46 = .ok (.aload 5, 2) := dk_25 5 (dk_at dksX1_led_2 0 rfl rfl)
theorem dX1_led_48 : decode cX1_led 48 = .ok (.getfield 87, 3) := dk_180 0 87 (dk_at dksX1_led_2 2 rfl rfl)
theorem dX1_led_51 : decode cX1_led 51 = .ok (.if_icmp .ge 22, 3) := dk_162 0 22 (dk_at dksX1_led_2 5 rfl rfl)
theorem dX1_led_54 : decode cX1_led 54 = .ok (.aload_n 3, 1) := dk_45 (dk_at dksX1_led_2 8 rfl rfl)
theorem dX1_led_55 : decode cX1_led 55 = .ok (.ifnull 15, 3) := dk_198 0 15 (dk_at dksX1_led_2 9 rfl rfl)
theorem dX1_led_58 : decode cX1_led 58 = .ok (.aload 5, 2) := dk_25 5 (dk_at dksX1_led_2 12 rfl rfl)
theorem dX1_led_60 : decode cX1_led 60 = .ok (.getfield 90, 3) := dk_180 0 90 (dk_at dksX1_led_2 14 rfl rfl)
theorem dX1_led_63 : decode cX1_led 63 = .ok (.aload_n 3, 1) := dk_45 (dk_at dksX1_led_2 17 rfl rfl)
theorem dX1_led_64 : decode cX1_led 64 = .ok (.getfield 90, 3) := dk_180 0 90 (dk_at dksX1_led_2 18 rfl rfl)
theorem dX1_led_67 : decode cX1_led 67 = .ok (.if_icmp .lt 6, 3) := dk_161 0 6 (dk_at dksX1_led_2 21 rfl rfl)
theorem dX1_led_70 : decode cX1_led 70 = .ok (.aload 5, 2) := dk_25 5 (dk_at dksX1_led_3 0 rfl rfl)
theorem dX1_led_72 : decode cX1_led 72 = .ok (.astore_n 3, 1) := dk_78 (dk_at dksX1_led_3 2 rfl rfl)
theorem dX1_led_73 : decode cX1_led 73 = .ok (.iinc 4 1, 3) := dk_132 4 1 (dk_at dksX1_led_3 3 rfl rfl)
theorem dX1_led_76 : decode cX1_led 76 = .ok (.goto (-71), 3) := dk_167 255 185 (dk_at dksX1_led_3 6 rfl rfl)
theorem dX1_led_79 : decode cX1_led 79 = .ok (.aload_n 3, 1) := dk_45 (dk_at dksX1_led_3 9 rfl rfl)
theorem dX1_led_80 : decode cX1_led 80 = .ok (.areturn, 1) := dk_176 (dk_at dksX1_led_3 10 rfl rfl)
abbrev cX10_goes : ByteArray := prog_8_method_2_code
def yX10_goes : MethodName := ⟨RX10, "goes", "(LRapTable;LRapTable$Run;I)Z"⟩
def dkwX10_goes_1 : List UInt8 := [182, 0, 24, 154, 0, 5, 3, 172, 132, 4, 1, 167, 255, 225, 4, 172]
abbrev dktX10_goes_1 : List UInt8 := dkwX10_goes_1 ++ []
def dkwX10_goes_0 : List UInt8 := [29, 54, 4, 21, 4, 29, 44, 180, 0, 13, 184, 0, 18, 163, 0, 24, 44, 42, 180, 0, 7, 21, 4]
abbrev dktX10_goes_0 : List UInt8 := dkwX10_goes_0 ++ dktX10_goes_1
theorem dksX10_goes_0 : cX10_goes.data.toList.drop 0 = dktX10_goes_0 := by decide +kernel
theorem dksX10_goes_1 : cX10_goes.data.toList.drop 23 = dktX10_goes_1 := dk_seg dksX10_goes_0 23 rfl rfl
theorem dX10_goes_0 : decode cX10_goes 0 = .ok (.iload_n 3, 1) := dk_29 (dk_at dksX10_goes_0 0 rfl rfl)
theorem dX10_goes_1 : decode cX10_goes 1 = .ok (.istore 4, 2) := dk_54 4 (dk_at dksX10_goes_0 1 rfl rfl)
theorem dX10_goes_3 : decode cX10_goes 3 = .ok (.iload 4, 2) := dk_21 4 (dk_at dksX10_goes_0 3 rfl rfl)
theorem dX10_goes_5 : decode cX10_goes 5 = .ok (.iload_n 3, 1) := dk_29 (dk_at dksX10_goes_0 5 rfl rfl)
theorem dX10_goes_6 : decode cX10_goes 6 = .ok (.aload_n 2, 1) := dk_44 (dk_at dksX10_goes_0 6 rfl rfl)
theorem dX10_goes_7 : decode cX10_goes 7 = .ok (.getfield 13, 3) := dk_180 0 13 (dk_at dksX10_goes_0 7 rfl rfl)
theorem dX10_goes_10 : decode cX10_goes 10 = .ok (.invokestatic 18, 3) := dk_184 0 18 (dk_at dksX10_goes_0 10 rfl rfl)
theorem dX10_goes_13 : decode cX10_goes 13 = .ok (.if_icmp .gt 24, 3) := dk_163 0 24 (dk_at dksX10_goes_0 13 rfl rfl)
theorem dX10_goes_16 : decode cX10_goes 16 = .ok (.aload_n 2, 1) := dk_44 (dk_at dksX10_goes_0 16 rfl rfl)
theorem dX10_goes_17 : decode cX10_goes 17 = .ok (.aload_n 0, 1) := dk_42 (dk_at dksX10_goes_0 17 rfl rfl)
theorem dX10_goes_18 : decode cX10_goes 18 = .ok (.getfield 7, 3) := dk_180 0 7 (dk_at dksX10_goes_0 18 rfl rfl)
theorem dX10_goes_21 : decode cX10_goes 21 = .ok (.iload 4, 2) := dk_21 4 (dk_at dksX10_goes_0 21 rfl rfl)
theorem dX10_goes_23 : decode cX10_goes 23 = .ok (.invokevirtual 24, 3) := dk_182 0 24 (dk_at dksX10_goes_1 0 rfl rfl)
theorem dX10_goes_26 : decode cX10_goes 26 = .ok (.ifCond .ne 5, 3) := dk_154 0 5 (dk_at dksX10_goes_1 3 rfl rfl)
theorem dX10_goes_29 : decode cX10_goes 29 = .ok (.iconst 0, 1) := dk_3 (dk_at dksX10_goes_1 6 rfl rfl)
theorem dX10_goes_30 : decode cX10_goes 30 = .ok (.ireturn, 1) := dk_172 (dk_at dksX10_goes_1 7 rfl rfl)
theorem dX10_goes_31 : decode cX10_goes 31 = .ok (.iinc 4 1, 3) := dk_132 4 1 (dk_at dksX10_goes_1 8 rfl rfl)
theorem dX10_goes_34 : decode cX10_goes 34 = .ok (.goto (-31), 3) := dk_167 255 225 (dk_at dksX10_goes_1 11 rfl rfl)
theorem dX10_goes_37 : decode cX10_goes 37 = .ok (.iconst 1, 1) := dk_4 (dk_at dksX10_goes_1 14 rfl rfl)
theorem dX10_goes_38 : decode cX10_goes 38 = .ok (.ireturn, 1) := dk_172 (dk_at dksX10_goes_1 15 rfl rfl)
abbrev cX10_init : ByteArray := prog_8_method_1_code
def yX10_init : MethodName := ⟨RX10, "<init>", "(I)V"⟩
def dkwX10_init_0 : List UInt8 := [42, 183, 0, 1, 42, 27, 181, 0, 7, 177]
abbrev dktX10_init_0 : List UInt8 := dkwX10_init_0 ++ []
theorem dksX10_init_0 : cX10_init.data.toList.drop 0 = dktX10_init_0 := by decide +kernel
theorem dX10_init_0 : decode cX10_init 0 = .ok (.aload_n 0, 1) := dk_42 (dk_at dksX10_init_0 0 rfl rfl)
theorem dX10_init_1 : decode cX10_init 1 = .ok (.invokespecial 1, 3) := dk_183 0 1 (dk_at dksX10_init_0 1 rfl rfl)
theorem dX10_init_4 : decode cX10_init 4 = .ok (.aload_n 0, 1) := dk_42 (dk_at dksX10_init_0 4 rfl rfl)
theorem dX10_init_5 : decode cX10_init 5 = .ok (.iload_n 1, 1) := dk_27 (dk_at dksX10_init_0 5 rfl rfl)
theorem dX10_init_6 : decode cX10_init 6 = .ok (.putfield 7, 3) := dk_181 0 7 (dk_at dksX10_init_0 6 rfl rfl)
theorem dX10_init_9 : decode cX10_init 9 = .ok (.return_, 1) := dk_177 (dk_at dksX10_init_0 9 rfl rfl)
abbrev cX11_goes : ByteArray := prog_20_method_2_code
def yX11_goes : MethodName := ⟨RX11, "goes", "(LRapTable;LRapTable$Run;I)Z"⟩
def dkwX11_goes_1 : List UInt8 := [154, 0, 5, 3, 172, 44, 89, 180, 0, 25, 4, 42, 180, 0, 7, 120, 128, 181, 0, 25, 4, 172]
abbrev dktX11_goes_1 : List UInt8 := dkwX11_goes_1 ++ []
def dkwX11_goes_0 : List UInt8 := [44, 4, 42, 180, 0, 7, 100, 29, 182, 0, 13, 153, 0, 15, 44, 44, 180, 0, 19, 29, 182, 0, 22]
abbrev dktX11_goes_0 : List UInt8 := dkwX11_goes_0 ++ dktX11_goes_1
theorem dksX11_goes_0 : cX11_goes.data.toList.drop 0 = dktX11_goes_0 := by decide +kernel
theorem dksX11_goes_1 : cX11_goes.data.toList.drop 23 = dktX11_goes_1 := dk_seg dksX11_goes_0 23 rfl rfl
theorem dX11_goes_0 : decode cX11_goes 0 = .ok (.aload_n 2, 1) := dk_44 (dk_at dksX11_goes_0 0 rfl rfl)
theorem dX11_goes_1 : decode cX11_goes 1 = .ok (.iconst 1, 1) := dk_4 (dk_at dksX11_goes_0 1 rfl rfl)
theorem dX11_goes_2 : decode cX11_goes 2 = .ok (.aload_n 0, 1) := dk_42 (dk_at dksX11_goes_0 2 rfl rfl)
theorem dX11_goes_3 : decode cX11_goes 3 = .ok (.getfield 7, 3) := dk_180 0 7 (dk_at dksX11_goes_0 3 rfl rfl)
theorem dX11_goes_6 : decode cX11_goes 6 = .ok (.isub, 1) := dk_100 (dk_at dksX11_goes_0 6 rfl rfl)
theorem dX11_goes_7 : decode cX11_goes 7 = .ok (.iload_n 3, 1) := dk_29 (dk_at dksX11_goes_0 7 rfl rfl)
theorem dX11_goes_8 : decode cX11_goes 8 = .ok (.invokevirtual 13, 3) := dk_182 0 13 (dk_at dksX11_goes_0 8 rfl rfl)
theorem dX11_goes_11 : decode cX11_goes 11 = .ok (.ifCond .eq 15, 3) := dk_153 0 15 (dk_at dksX11_goes_0 11 rfl rfl)
theorem dX11_goes_14 : decode cX11_goes 14 = .ok (.aload_n 2, 1) := dk_44 (dk_at dksX11_goes_0 14 rfl rfl)
theorem dX11_goes_15 : decode cX11_goes 15 = .ok (.aload_n 2, 1) := dk_44 (dk_at dksX11_goes_0 15 rfl rfl)
theorem dX11_goes_16 : decode cX11_goes 16 = .ok (.getfield 19, 3) := dk_180 0 19 (dk_at dksX11_goes_0 16 rfl rfl)
theorem dX11_goes_19 : decode cX11_goes 19 = .ok (.iload_n 3, 1) := dk_29 (dk_at dksX11_goes_0 19 rfl rfl)
theorem dX11_goes_20 : decode cX11_goes 20 = .ok (.invokevirtual 22, 3) := dk_182 0 22 (dk_at dksX11_goes_0 20 rfl rfl)
theorem dX11_goes_23 : decode cX11_goes 23 = .ok (.ifCond .ne 5, 3) := dk_154 0 5 (dk_at dksX11_goes_1 0 rfl rfl)
theorem dX11_goes_26 : decode cX11_goes 26 = .ok (.iconst 0, 1) := dk_3 (dk_at dksX11_goes_1 3 rfl rfl)
theorem dX11_goes_27 : decode cX11_goes 27 = .ok (.ireturn, 1) := dk_172 (dk_at dksX11_goes_1 4 rfl rfl)
theorem dX11_goes_28 : decode cX11_goes 28 = .ok (.aload_n 2, 1) := dk_44 (dk_at dksX11_goes_1 5 rfl rfl)
theorem dX11_goes_29 : decode cX11_goes 29 = .ok (.dup, 1) := dk_89 (dk_at dksX11_goes_1 6 rfl rfl)
theorem dX11_goes_30 : decode cX11_goes 30 = .ok (.getfield 25, 3) := dk_180 0 25 (dk_at dksX11_goes_1 7 rfl rfl)
theorem dX11_goes_33 : decode cX11_goes 33 = .ok (.iconst 1, 1) := dk_4 (dk_at dksX11_goes_1 10 rfl rfl)
theorem dX11_goes_34 : decode cX11_goes 34 = .ok (.aload_n 0, 1) := dk_42 (dk_at dksX11_goes_1 11 rfl rfl)
theorem dX11_goes_35 : decode cX11_goes 35 = .ok (.getfield 7, 3) := dk_180 0 7 (dk_at dksX11_goes_1 12 rfl rfl)
theorem dX11_goes_38 : decode cX11_goes 38 = .ok (.ishl, 1) := dk_120 (dk_at dksX11_goes_1 15 rfl rfl)
theorem dX11_goes_39 : decode cX11_goes 39 = .ok (.ior, 1) := dk_128 (dk_at dksX11_goes_1 16 rfl rfl)
theorem dX11_goes_40 : decode cX11_goes 40 = .ok (.putfield 25, 3) := dk_181 0 25 (dk_at dksX11_goes_1 17 rfl rfl)
theorem dX11_goes_43 : decode cX11_goes 43 = .ok (.iconst 1, 1) := dk_4 (dk_at dksX11_goes_1 20 rfl rfl)
theorem dX11_goes_44 : decode cX11_goes 44 = .ok (.ireturn, 1) := dk_172 (dk_at dksX11_goes_1 21 rfl rfl)
abbrev cX11_init : ByteArray := prog_20_method_1_code
def yX11_init : MethodName := ⟨RX11, "<init>", "(I)V"⟩
def dkwX11_init_0 : List UInt8 := [42, 183, 0, 1, 42, 27, 181, 0, 7, 177]
abbrev dktX11_init_0 : List UInt8 := dkwX11_init_0 ++ []
theorem dksX11_init_0 : cX11_init.data.toList.drop 0 = dktX11_init_0 := by decide +kernel
theorem dX11_init_0 : decode cX11_init 0 = .ok (.aload_n 0, 1) := dk_42 (dk_at dksX11_init_0 0 rfl rfl)
theorem dX11_init_1 : decode cX11_init 1 = .ok (.invokespecial 1, 3) := dk_183 0 1 (dk_at dksX11_init_0 1 rfl rfl)
theorem dX11_init_4 : decode cX11_init 4 = .ok (.aload_n 0, 1) := dk_42 (dk_at dksX11_init_0 4 rfl rfl)
theorem dX11_init_5 : decode cX11_init 5 = .ok (.iload_n 1, 1) := dk_27 (dk_at dksX11_init_0 5 rfl rfl)
theorem dX11_init_6 : decode cX11_init 6 = .ok (.putfield 7, 3) := dk_181 0 7 (dk_at dksX11_init_0 6 rfl rfl)
theorem dX11_init_9 : decode cX11_init 9 = .ok (.return_, 1) := dk_177 (dk_at dksX11_init_0 9 rfl rfl)
abbrev cX12_seconds : ByteArray := prog_22_method_2_code
def yX12_seconds : MethodName := ⟨RX12, "seconds", "()I"⟩
theorem dX12_seconds_0 : decode cX12_seconds 0 = .ok (.aload_n 0, 1) := by decide +kernel
theorem dX12_seconds_1 : decode cX12_seconds 1 = .ok (.getfield 7, 3) := by decide +kernel
theorem dX12_seconds_4 : decode cX12_seconds 4 = .ok (.ireturn, 1) := by decide +kernel
abbrev cX12_goes : ByteArray := prog_22_method_3_code
def yX12_goes : MethodName := ⟨RX12, "goes", "(LRapTable;LRapTable$Run;I)Z"⟩
theorem dX12_goes_0 : decode cX12_goes 0 = .ok (.iconst 1, 1) := by decide +kernel
theorem dX12_goes_1 : decode cX12_goes 1 = .ok (.ireturn, 1) := by decide +kernel
abbrev cX12_init : ByteArray := prog_22_method_1_code
def yX12_init : MethodName := ⟨RX12, "<init>", "(I)V"⟩
def dkwX12_init_0 : List UInt8 := [42, 183, 0, 1, 42, 27, 181, 0, 7, 177]
abbrev dktX12_init_0 : List UInt8 := dkwX12_init_0 ++ []
theorem dksX12_init_0 : cX12_init.data.toList.drop 0 = dktX12_init_0 := by decide +kernel
theorem dX12_init_0 : decode cX12_init 0 = .ok (.aload_n 0, 1) := dk_42 (dk_at dksX12_init_0 0 rfl rfl)
theorem dX12_init_1 : decode cX12_init 1 = .ok (.invokespecial 1, 3) := dk_183 0 1 (dk_at dksX12_init_0 1 rfl rfl)
theorem dX12_init_4 : decode cX12_init 4 = .ok (.aload_n 0, 1) := dk_42 (dk_at dksX12_init_0 4 rfl rfl)
theorem dX12_init_5 : decode cX12_init 5 = .ok (.iload_n 1, 1) := dk_27 (dk_at dksX12_init_0 5 rfl rfl)
theorem dX12_init_6 : decode cX12_init 6 = .ok (.putfield 7, 3) := dk_181 0 7 (dk_at dksX12_init_0 6 rfl rfl)
theorem dX12_init_9 : decode cX12_init 9 = .ok (.return_, 1) := dk_177 (dk_at dksX12_init_0 9 rfl rfl)
abbrev cX13_goes : ByteArray := prog_6_method_2_code
def yX13_goes : MethodName := ⟨RX13, "goes", "(LRapTable;LRapTable$Run;I)Z"⟩
def dkwX13_goes_0 : List UInt8 := [43, 29, 182, 0, 13, 42, 180, 0, 7, 163, 0, 7, 4, 167, 0, 4, 3, 172]
abbrev dktX13_goes_0 : List UInt8 := dkwX13_goes_0 ++ []
theorem dksX13_goes_0 : cX13_goes.data.toList.drop 0 = dktX13_goes_0 := by decide +kernel
theorem dX13_goes_0 : decode cX13_goes 0 = .ok (.aload_n 1, 1) := dk_43 (dk_at dksX13_goes_0 0 rfl rfl)
theorem dX13_goes_1 : decode cX13_goes 1 = .ok (.iload_n 3, 1) := dk_29 (dk_at dksX13_goes_0 1 rfl rfl)
theorem dX13_goes_2 : decode cX13_goes 2 = .ok (.invokevirtual 13, 3) := dk_182 0 13 (dk_at dksX13_goes_0 2 rfl rfl)
theorem dX13_goes_5 : decode cX13_goes 5 = .ok (.aload_n 0, 1) := dk_42 (dk_at dksX13_goes_0 5 rfl rfl)
theorem dX13_goes_6 : decode cX13_goes 6 = .ok (.getfield 7, 3) := dk_180 0 7 (dk_at dksX13_goes_0 6 rfl rfl)
theorem dX13_goes_9 : decode cX13_goes 9 = .ok (.if_icmp .gt 7, 3) := dk_163 0 7 (dk_at dksX13_goes_0 9 rfl rfl)
theorem dX13_goes_12 : decode cX13_goes 12 = .ok (.iconst 1, 1) := dk_4 (dk_at dksX13_goes_0 12 rfl rfl)
theorem dX13_goes_13 : decode cX13_goes 13 = .ok (.goto 4, 3) := dk_167 0 4 (dk_at dksX13_goes_0 13 rfl rfl)
theorem dX13_goes_16 : decode cX13_goes 16 = .ok (.iconst 0, 1) := dk_3 (dk_at dksX13_goes_0 16 rfl rfl)
theorem dX13_goes_17 : decode cX13_goes 17 = .ok (.ireturn, 1) := dk_172 (dk_at dksX13_goes_0 17 rfl rfl)
abbrev cX13_init : ByteArray := prog_6_method_1_code
def yX13_init : MethodName := ⟨RX13, "<init>", "(I)V"⟩
def dkwX13_init_0 : List UInt8 := [42, 183, 0, 1, 42, 27, 181, 0, 7, 177]
abbrev dktX13_init_0 : List UInt8 := dkwX13_init_0 ++ []
theorem dksX13_init_0 : cX13_init.data.toList.drop 0 = dktX13_init_0 := by decide +kernel
theorem dX13_init_0 : decode cX13_init 0 = .ok (.aload_n 0, 1) := dk_42 (dk_at dksX13_init_0 0 rfl rfl)
theorem dX13_init_1 : decode cX13_init 1 = .ok (.invokespecial 1, 3) := dk_183 0 1 (dk_at dksX13_init_0 1 rfl rfl)
theorem dX13_init_4 : decode cX13_init 4 = .ok (.aload_n 0, 1) := dk_42 (dk_at dksX13_init_0 4 rfl rfl)
theorem dX13_init_5 : decode cX13_init 5 = .ok (.iload_n 1, 1) := dk_27 (dk_at dksX13_init_0 5 rfl rfl)
theorem dX13_init_6 : decode cX13_init 6 = .ok (.putfield 7, 3) := dk_181 0 7 (dk_at dksX13_init_0 6 rfl rfl)
theorem dX13_init_9 : decode cX13_init 9 = .ok (.return_, 1) := dk_177 (dk_at dksX13_init_0 9 rfl rfl)
abbrev cX14_asks : ByteArray := prog_3_method_2_code
def yX14_asks : MethodName := ⟨RX14, "asks", "()Z"⟩
theorem dX14_asks_0 : decode cX14_asks 0 = .ok (.iconst 0, 1) := by decide +kernel
theorem dX14_asks_1 : decode cX14_asks 1 = .ok (.ireturn, 1) := by decide +kernel
abbrev cX14_goes : ByteArray := prog_3_method_3_code
def yX14_goes : MethodName := ⟨RX14, "goes", "(LRapTable;LRapTable$Run;I)Z"⟩
def dkwX14_goes_0 : List UInt8 := [44, 44, 180, 0, 13, 42, 180, 0, 7, 184, 0, 16, 181, 0, 13, 4, 172]
abbrev dktX14_goes_0 : List UInt8 := dkwX14_goes_0 ++ []
theorem dksX14_goes_0 : cX14_goes.data.toList.drop 0 = dktX14_goes_0 := by decide +kernel
theorem dX14_goes_0 : decode cX14_goes 0 = .ok (.aload_n 2, 1) := dk_44 (dk_at dksX14_goes_0 0 rfl rfl)
theorem dX14_goes_1 : decode cX14_goes 1 = .ok (.aload_n 2, 1) := dk_44 (dk_at dksX14_goes_0 1 rfl rfl)
theorem dX14_goes_2 : decode cX14_goes 2 = .ok (.getfield 13, 3) := dk_180 0 13 (dk_at dksX14_goes_0 2 rfl rfl)
theorem dX14_goes_5 : decode cX14_goes 5 = .ok (.aload_n 0, 1) := dk_42 (dk_at dksX14_goes_0 5 rfl rfl)
theorem dX14_goes_6 : decode cX14_goes 6 = .ok (.getfield 7, 3) := dk_180 0 7 (dk_at dksX14_goes_0 6 rfl rfl)
theorem dX14_goes_9 : decode cX14_goes 9 = .ok (.invokestatic 16, 3) := dk_184 0 16 (dk_at dksX14_goes_0 9 rfl rfl)
theorem dX14_goes_12 : decode cX14_goes 12 = .ok (.putfield 13, 3) := dk_181 0 13 (dk_at dksX14_goes_0 12 rfl rfl)
theorem dX14_goes_15 : decode cX14_goes 15 = .ok (.iconst 1, 1) := dk_4 (dk_at dksX14_goes_0 15 rfl rfl)
theorem dX14_goes_16 : decode cX14_goes 16 = .ok (.ireturn, 1) := dk_172 (dk_at dksX14_goes_0 16 rfl rfl)
abbrev cX14_init : ByteArray := prog_3_method_1_code
def yX14_init : MethodName := ⟨RX14, "<init>", "(I)V"⟩
def dkwX14_init_0 : List UInt8 := [42, 183, 0, 1, 42, 27, 181, 0, 7, 177]
abbrev dktX14_init_0 : List UInt8 := dkwX14_init_0 ++ []
theorem dksX14_init_0 : cX14_init.data.toList.drop 0 = dktX14_init_0 := by decide +kernel
theorem dX14_init_0 : decode cX14_init 0 = .ok (.aload_n 0, 1) := dk_42 (dk_at dksX14_init_0 0 rfl rfl)
theorem dX14_init_1 : decode cX14_init 1 = .ok (.invokespecial 1, 3) := dk_183 0 1 (dk_at dksX14_init_0 1 rfl rfl)
theorem dX14_init_4 : decode cX14_init 4 = .ok (.aload_n 0, 1) := dk_42 (dk_at dksX14_init_0 4 rfl rfl)
theorem dX14_init_5 : decode cX14_init 5 = .ok (.iload_n 1, 1) := dk_27 (dk_at dksX14_init_0 5 rfl rfl)
theorem dX14_init_6 : decode cX14_init 6 = .ok (.putfield 7, 3) := dk_181 0 7 (dk_at dksX14_init_0 6 rfl rfl)
theorem dX14_init_9 : decode cX14_init 9 = .ok (.return_, 1) := dk_177 (dk_at dksX14_init_0 9 rfl rfl)
abbrev cX15_goes : ByteArray := prog_2_method_2_code
def yX15_goes : MethodName := ⟨RX15, "goes", "(LRapTable;LRapTable$Run;I)Z"⟩
def dkwX15_goes_0 : List UInt8 := [44, 29, 182, 0, 7, 172]
abbrev dktX15_goes_0 : List UInt8 := dkwX15_goes_0 ++ []
theorem dksX15_goes_0 : cX15_goes.data.toList.drop 0 = dktX15_goes_0 := by decide +kernel
theorem dX15_goes_0 : decode cX15_goes 0 = .ok (.aload_n 2, 1) := dk_44 (dk_at dksX15_goes_0 0 rfl rfl)
theorem dX15_goes_1 : decode cX15_goes 1 = .ok (.iload_n 3, 1) := dk_29 (dk_at dksX15_goes_0 1 rfl rfl)
theorem dX15_goes_2 : decode cX15_goes 2 = .ok (.invokevirtual 7, 3) := dk_182 0 7 (dk_at dksX15_goes_0 2 rfl rfl)
theorem dX15_goes_5 : decode cX15_goes 5 = .ok (.ireturn, 1) := dk_172 (dk_at dksX15_goes_0 5 rfl rfl)
abbrev cX15_init : ByteArray := prog_2_method_1_code
def yX15_init : MethodName := ⟨RX15, "<init>", "()V"⟩
theorem dX15_init_0 : decode cX15_init 0 = .ok (.aload_n 0, 1) := by decide +kernel
theorem dX15_init_1 : decode cX15_init 1 = .ok (.invokespecial 1, 3) := by decide +kernel
theorem dX15_init_4 : decode cX15_init 4 = .ok (.return_, 1) := by decide +kernel
abbrev cX16_goes : ByteArray := prog_7_method_2_code
def yX16_goes : MethodName := ⟨RX16, "goes", "(LRapTable;LRapTable$Run;I)Z"⟩
def dkwX16_goes_1 : List UInt8 := [154, 0, 5, 3, 172, 132, 4, 1, 167, 255, 227, 4, 172]
abbrev dktX16_goes_1 : List UInt8 := dkwX16_goes_1 ++ []
def dkwX16_goes_0 : List UInt8 := [29, 54, 4, 21, 4, 29, 42, 182, 0, 13, 96, 162, 0, 24, 44, 42, 180, 0, 7, 21, 4, 182, 0, 17]
abbrev dktX16_goes_0 : List UInt8 := dkwX16_goes_0 ++ dktX16_goes_1
theorem dksX16_goes_0 : cX16_goes.data.toList.drop 0 = dktX16_goes_0 := by decide +kernel
theorem dksX16_goes_1 : cX16_goes.data.toList.drop 24 = dktX16_goes_1 := dk_seg dksX16_goes_0 24 rfl rfl
theorem dX16_goes_0 : decode cX16_goes 0 = .ok (.iload_n 3, 1) := dk_29 (dk_at dksX16_goes_0 0 rfl rfl)
theorem dX16_goes_1 : decode cX16_goes 1 = .ok (.istore 4, 2) := dk_54 4 (dk_at dksX16_goes_0 1 rfl rfl)
theorem dX16_goes_3 : decode cX16_goes 3 = .ok (.iload 4, 2) := dk_21 4 (dk_at dksX16_goes_0 3 rfl rfl)
theorem dX16_goes_5 : decode cX16_goes 5 = .ok (.iload_n 3, 1) := dk_29 (dk_at dksX16_goes_0 5 rfl rfl)
theorem dX16_goes_6 : decode cX16_goes 6 = .ok (.aload_n 0, 1) := dk_42 (dk_at dksX16_goes_0 6 rfl rfl)
theorem dX16_goes_7 : decode cX16_goes 7 = .ok (.invokevirtual 13, 3) := dk_182 0 13 (dk_at dksX16_goes_0 7 rfl rfl)
theorem dX16_goes_10 : decode cX16_goes 10 = .ok (.iadd, 1) := dk_96 (dk_at dksX16_goes_0 10 rfl rfl)
theorem dX16_goes_11 : decode cX16_goes 11 = .ok (.if_icmp .ge 24, 3) := dk_162 0 24 (dk_at dksX16_goes_0 11 rfl rfl)
theorem dX16_goes_14 : decode cX16_goes 14 = .ok (.aload_n 2, 1) := dk_44 (dk_at dksX16_goes_0 14 rfl rfl)
theorem dX16_goes_15 : decode cX16_goes 15 = .ok (.aload_n 0, 1) := dk_42 (dk_at dksX16_goes_0 15 rfl rfl)
theorem dX16_goes_16 : decode cX16_goes 16 = .ok (.getfield 7, 3) := dk_180 0 7 (dk_at dksX16_goes_0 16 rfl rfl)
theorem dX16_goes_19 : decode cX16_goes 19 = .ok (.iload 4, 2) := dk_21 4 (dk_at dksX16_goes_0 19 rfl rfl)
theorem dX16_goes_21 : decode cX16_goes 21 = .ok (.invokevirtual 17, 3) := dk_182 0 17 (dk_at dksX16_goes_0 21 rfl rfl)
theorem dX16_goes_24 : decode cX16_goes 24 = .ok (.ifCond .ne 5, 3) := dk_154 0 5 (dk_at dksX16_goes_1 0 rfl rfl)
theorem dX16_goes_27 : decode cX16_goes 27 = .ok (.iconst 0, 1) := dk_3 (dk_at dksX16_goes_1 3 rfl rfl)
theorem dX16_goes_28 : decode cX16_goes 28 = .ok (.ireturn, 1) := dk_172 (dk_at dksX16_goes_1 4 rfl rfl)
theorem dX16_goes_29 : decode cX16_goes 29 = .ok (.iinc 4 1, 3) := dk_132 4 1 (dk_at dksX16_goes_1 5 rfl rfl)
theorem dX16_goes_32 : decode cX16_goes 32 = .ok (.goto (-29), 3) := dk_167 255 227 (dk_at dksX16_goes_1 8 rfl rfl)
theorem dX16_goes_35 : decode cX16_goes 35 = .ok (.iconst 1, 1) := dk_4 (dk_at dksX16_goes_1 11 rfl rfl)
theorem dX16_goes_36 : decode cX16_goes 36 = .ok (.ireturn, 1) := dk_172 (dk_at dksX16_goes_1 12 rfl rfl)
abbrev cX16_init : ByteArray := prog_7_method_1_code
def yX16_init : MethodName := ⟨RX16, "<init>", "(II)V"⟩
def dkwX16_init_0 : List UInt8 := [42, 28, 183, 0, 1, 42, 27, 181, 0, 7, 177]
abbrev dktX16_init_0 : List UInt8 := dkwX16_init_0 ++ []
theorem dksX16_init_0 : cX16_init.data.toList.drop 0 = dktX16_init_0 := by decide +kernel
theorem dX16_init_0 : decode cX16_init 0 = .ok (.aload_n 0, 1) := dk_42 (dk_at dksX16_init_0 0 rfl rfl)
theorem dX16_init_1 : decode cX16_init 1 = .ok (.iload_n 2, 1) := dk_28 (dk_at dksX16_init_0 1 rfl rfl)
theorem dX16_init_2 : decode cX16_init 2 = .ok (.invokespecial 1, 3) := dk_183 0 1 (dk_at dksX16_init_0 2 rfl rfl)
theorem dX16_init_5 : decode cX16_init 5 = .ok (.aload_n 0, 1) := dk_42 (dk_at dksX16_init_0 5 rfl rfl)
theorem dX16_init_6 : decode cX16_init 6 = .ok (.iload_n 1, 1) := dk_27 (dk_at dksX16_init_0 6 rfl rfl)
theorem dX16_init_7 : decode cX16_init 7 = .ok (.putfield 7, 3) := dk_181 0 7 (dk_at dksX16_init_0 7 rfl rfl)
theorem dX16_init_10 : decode cX16_init 10 = .ok (.return_, 1) := dk_177 (dk_at dksX16_init_0 10 rfl rfl)
abbrev cX17_asks : ByteArray := prog_15_method_2_code
def yX17_asks : MethodName := ⟨RX17, "asks", "()Z"⟩
theorem dX17_asks_0 : decode cX17_asks 0 = .ok (.iconst 0, 1) := by decide +kernel
theorem dX17_asks_1 : decode cX17_asks 1 = .ok (.ireturn, 1) := by decide +kernel
abbrev cX17_goes : ByteArray := prog_15_method_3_code
def yX17_goes : MethodName := ⟨RX17, "goes", "(LRapTable;LRapTable$Run;I)Z"⟩
def dkwX17_goes_0 : List UInt8 := [44, 42, 180, 0, 7, 42, 180, 0, 13, 182, 0, 16, 172]
abbrev dktX17_goes_0 : List UInt8 := dkwX17_goes_0 ++ []
theorem dksX17_goes_0 : cX17_goes.data.toList.drop 0 = dktX17_goes_0 := by decide +kernel
theorem dX17_goes_0 : decode cX17_goes 0 = .ok (.aload_n 2, 1) := dk_44 (dk_at dksX17_goes_0 0 rfl rfl)
theorem dX17_goes_1 : decode cX17_goes 1 = .ok (.aload_n 0, 1) := dk_42 (dk_at dksX17_goes_0 1 rfl rfl)
theorem dX17_goes_2 : decode cX17_goes 2 = .ok (.getfield 7, 3) := dk_180 0 7 (dk_at dksX17_goes_0 2 rfl rfl)
theorem dX17_goes_5 : decode cX17_goes 5 = .ok (.aload_n 0, 1) := dk_42 (dk_at dksX17_goes_0 5 rfl rfl)
theorem dX17_goes_6 : decode cX17_goes 6 = .ok (.getfield 13, 3) := dk_180 0 13 (dk_at dksX17_goes_0 6 rfl rfl)
theorem dX17_goes_9 : decode cX17_goes 9 = .ok (.invokevirtual 16, 3) := dk_182 0 16 (dk_at dksX17_goes_0 9 rfl rfl)
theorem dX17_goes_12 : decode cX17_goes 12 = .ok (.ireturn, 1) := dk_172 (dk_at dksX17_goes_0 12 rfl rfl)
abbrev cX17_init : ByteArray := prog_15_method_1_code
def yX17_init : MethodName := ⟨RX17, "<init>", "(II)V"⟩
def dkwX17_init_0 : List UInt8 := [42, 183, 0, 1, 42, 27, 181, 0, 7, 42, 28, 181, 0, 13, 177]
abbrev dktX17_init_0 : List UInt8 := dkwX17_init_0 ++ []
theorem dksX17_init_0 : cX17_init.data.toList.drop 0 = dktX17_init_0 := by decide +kernel
theorem dX17_init_0 : decode cX17_init 0 = .ok (.aload_n 0, 1) := dk_42 (dk_at dksX17_init_0 0 rfl rfl)
theorem dX17_init_1 : decode cX17_init 1 = .ok (.invokespecial 1, 3) := dk_183 0 1 (dk_at dksX17_init_0 1 rfl rfl)
theorem dX17_init_4 : decode cX17_init 4 = .ok (.aload_n 0, 1) := dk_42 (dk_at dksX17_init_0 4 rfl rfl)
theorem dX17_init_5 : decode cX17_init 5 = .ok (.iload_n 1, 1) := dk_27 (dk_at dksX17_init_0 5 rfl rfl)
theorem dX17_init_6 : decode cX17_init 6 = .ok (.putfield 7, 3) := dk_181 0 7 (dk_at dksX17_init_0 6 rfl rfl)
theorem dX17_init_9 : decode cX17_init 9 = .ok (.aload_n 0, 1) := dk_42 (dk_at dksX17_init_0 9 rfl rfl)
theorem dX17_init_10 : decode cX17_init 10 = .ok (.iload_n 2, 1) := dk_28 (dk_at dksX17_init_0 10 rfl rfl)
theorem dX17_init_11 : decode cX17_init 11 = .ok (.putfield 13, 3) := dk_181 0 13 (dk_at dksX17_init_0 11 rfl rfl)
theorem dX17_init_14 : decode cX17_init 14 = .ok (.return_, 1) := dk_177 (dk_at dksX17_init_0 14 rfl rfl)
abbrev cX18_init : ByteArray := prog_16_method_1_code
def yX18_init : MethodName := ⟨RX18, "<init>", "(LRapTable;IIII)V"⟩
def dkwX18_init_1 : List UInt8 := [181, 0, 20, 42, 21, 5, 181, 0, 23, 177]
abbrev dktX18_init_1 : List UInt8 := dkwX18_init_1 ++ []
def dkwX18_init_0 : List UInt8 := [42, 43, 181, 0, 1, 42, 183, 0, 7, 42, 28, 181, 0, 13, 42, 29, 181, 0, 17, 42, 21, 4]
abbrev dktX18_init_0 : List UInt8 := dkwX18_init_0 ++ dktX18_init_1
theorem dksX18_init_0 : cX18_init.data.toList.drop 0 = dktX18_init_0 := by decide +kernel
theorem dksX18_init_1 : cX18_init.data.toList.drop 22 = dktX18_init_1 := dk_seg dksX18_init_0 22 rfl rfl
theorem dX18_init_0 : decode cX18_init 0 = .ok (.aload_n 0, 1) := dk_42 (dk_at dksX18_init_0 0 rfl rfl)
theorem dX18_init_1 : decode cX18_init 1 = .ok (.aload_n 1, 1) := dk_43 (dk_at dksX18_init_0 1 rfl rfl)
theorem dX18_init_2 : decode cX18_init 2 = .ok (.putfield 1, 3) := dk_181 0 1 (dk_at dksX18_init_0 2 rfl rfl)
theorem dX18_init_5 : decode cX18_init 5 = .ok (.aload_n 0, 1) := dk_42 (dk_at dksX18_init_0 5 rfl rfl)
theorem dX18_init_6 : decode cX18_init 6 = .ok (.invokespecial 7, 3) := dk_183 0 7 (dk_at dksX18_init_0 6 rfl rfl)
theorem dX18_init_9 : decode cX18_init 9 = .ok (.aload_n 0, 1) := dk_42 (dk_at dksX18_init_0 9 rfl rfl)
theorem dX18_init_10 : decode cX18_init 10 = .ok (.iload_n 2, 1) := dk_28 (dk_at dksX18_init_0 10 rfl rfl)
theorem dX18_init_11 : decode cX18_init 11 = .ok (.putfield 13, 3) := dk_181 0 13 (dk_at dksX18_init_0 11 rfl rfl)
theorem dX18_init_14 : decode cX18_init 14 = .ok (.aload_n 0, 1) := dk_42 (dk_at dksX18_init_0 14 rfl rfl)
theorem dX18_init_15 : decode cX18_init 15 = .ok (.iload_n 3, 1) := dk_29 (dk_at dksX18_init_0 15 rfl rfl)
theorem dX18_init_16 : decode cX18_init 16 = .ok (.putfield 17, 3) := dk_181 0 17 (dk_at dksX18_init_0 16 rfl rfl)
theorem dX18_init_19 : decode cX18_init 19 = .ok (.aload_n 0, 1) := dk_42 (dk_at dksX18_init_0 19 rfl rfl)
theorem dX18_init_20 : decode cX18_init 20 = .ok (.iload 4, 2) := dk_21 4 (dk_at dksX18_init_0 20 rfl rfl)
theorem dX18_init_22 : decode cX18_init 22 = .ok (.putfield 20, 3) := dk_181 0 20 (dk_at dksX18_init_1 0 rfl rfl)
theorem dX18_init_25 : decode cX18_init 25 = .ok (.aload_n 0, 1) := dk_42 (dk_at dksX18_init_1 3 rfl rfl)
theorem dX18_init_26 : decode cX18_init 26 = .ok (.iload 5, 2) := dk_21 5 (dk_at dksX18_init_1 4 rfl rfl)
theorem dX18_init_28 : decode cX18_init 28 = .ok (.putfield 23, 3) := dk_181 0 23 (dk_at dksX18_init_1 6 rfl rfl)
theorem dX18_init_31 : decode cX18_init 31 = .ok (.return_, 1) := dk_177 (dk_at dksX18_init_1 9 rfl rfl)
abbrev cX19_init : ByteArray := prog_4_method_1_code
def yX19_init : MethodName := ⟨RX19, "<init>", "(LRapTable;IIIIII)V"⟩
def dkwX19_init_1 : List UInt8 := [21, 4, 181, 0, 19, 177]
abbrev dktX19_init_1 : List UInt8 := dkwX19_init_1 ++ []
def dkwX19_init_0 : List UInt8 := [42, 43, 181, 0, 3, 42, 43, 28, 21, 5, 21, 6, 21, 7, 183, 0, 9, 42, 29, 181, 0, 15, 42]
abbrev dktX19_init_0 : List UInt8 := dkwX19_init_0 ++ dktX19_init_1
theorem dksX19_init_0 : cX19_init.data.toList.drop 0 = dktX19_init_0 := by decide +kernel
theorem dksX19_init_1 : cX19_init.data.toList.drop 23 = dktX19_init_1 := dk_seg dksX19_init_0 23 rfl rfl
theorem dX19_init_0 : decode cX19_init 0 = .ok (.aload_n 0, 1) := dk_42 (dk_at dksX19_init_0 0 rfl rfl)
theorem dX19_init_1 : decode cX19_init 1 = .ok (.aload_n 1, 1) := dk_43 (dk_at dksX19_init_0 1 rfl rfl)
theorem dX19_init_2 : decode cX19_init 2 = .ok (.putfield 3, 3) := dk_181 0 3 (dk_at dksX19_init_0 2 rfl rfl)
theorem dX19_init_5 : decode cX19_init 5 = .ok (.aload_n 0, 1) := dk_42 (dk_at dksX19_init_0 5 rfl rfl)
theorem dX19_init_6 : decode cX19_init 6 = .ok (.aload_n 1, 1) := dk_43 (dk_at dksX19_init_0 6 rfl rfl)
theorem dX19_init_7 : decode cX19_init 7 = .ok (.iload_n 2, 1) := dk_28 (dk_at dksX19_init_0 7 rfl rfl)
theorem dX19_init_8 : decode cX19_init 8 = .ok (.iload 5, 2) := dk_21 5 (dk_at dksX19_init_0 8 rfl rfl)
theorem dX19_init_10 : decode cX19_init 10 = .ok (.iload 6, 2) := dk_21 6 (dk_at dksX19_init_0 10 rfl rfl)
theorem dX19_init_12 : decode cX19_init 12 = .ok (.iload 7, 2) := dk_21 7 (dk_at dksX19_init_0 12 rfl rfl)
theorem dX19_init_14 : decode cX19_init 14 = .ok (.invokespecial 9, 3) := dk_183 0 9 (dk_at dksX19_init_0 14 rfl rfl)
theorem dX19_init_17 : decode cX19_init 17 = .ok (.aload_n 0, 1) := dk_42 (dk_at dksX19_init_0 17 rfl rfl)
theorem dX19_init_18 : decode cX19_init 18 = .ok (.iload_n 3, 1) := dk_29 (dk_at dksX19_init_0 18 rfl rfl)
theorem dX19_init_19 : decode cX19_init 19 = .ok (.putfield 15, 3) := dk_181 0 15 (dk_at dksX19_init_0 19 rfl rfl)
theorem dX19_init_22 : decode cX19_init 22 = .ok (.aload_n 0, 1) := dk_42 (dk_at dksX19_init_0 22 rfl rfl)
theorem dX19_init_23 : decode cX19_init 23 = .ok (.iload 4, 2) := dk_21 4 (dk_at dksX19_init_1 0 rfl rfl)
theorem dX19_init_25 : decode cX19_init 25 = .ok (.putfield 19, 3) := dk_181 0 19 (dk_at dksX19_init_1 2 rfl rfl)
theorem dX19_init_28 : decode cX19_init 28 = .ok (.return_, 1) := dk_177 (dk_at dksX19_init_1 5 rfl rfl)
abbrev cX19_isRight : ByteArray := prog_4_method_3_code
def yX19_isRight : MethodName := ⟨RX19, "isRight", "()Z"⟩
def dkwX19_isRight_2 : List UInt8 := [132, 1, 1, 167, 255, 209, 3, 172]
abbrev dktX19_isRight_2 : List UInt8 := dkwX19_isRight_2 ++ []
def dkwX19_isRight_1 : List UInt8 := [180, 0, 37, 180, 0, 41, 27, 182, 0, 53, 192, 0, 23, 3, 182, 0, 57, 153, 0, 5, 4, 172]
abbrev dktX19_isRight_1 : List UInt8 := dkwX19_isRight_1 ++ dktX19_isRight_2
def dkwX19_isRight_0 : List UInt8 := [3, 60, 27, 42, 180, 0, 3, 180, 0, 37, 180, 0, 41, 182, 0, 47, 162, 0, 36, 42, 42, 180, 0, 3]
abbrev dktX19_isRight_0 : List UInt8 := dkwX19_isRight_0 ++ dktX19_isRight_1
theorem dksX19_isRight_0 : cX19_isRight.data.toList.drop 0 = dktX19_isRight_0 := by decide +kernel
theorem dksX19_isRight_1 : cX19_isRight.data.toList.drop 24 = dktX19_isRight_1 := dk_seg dksX19_isRight_0 24 rfl rfl
theorem dksX19_isRight_2 : cX19_isRight.data.toList.drop 46 = dktX19_isRight_2 := dk_seg dksX19_isRight_1 22 rfl rfl
theorem dX19_isRight_0 : decode cX19_isRight 0 = .ok (.iconst 0, 1) := dk_3 (dk_at dksX19_isRight_0 0 rfl rfl)
theorem dX19_isRight_1 : decode cX19_isRight 1 = .ok (.istore_n 1, 1) := dk_60 (dk_at dksX19_isRight_0 1 rfl rfl)
theorem dX19_isRight_2 : decode cX19_isRight 2 = .ok (.iload_n 1, 1) := dk_27 (dk_at dksX19_isRight_0 2 rfl rfl)
theorem dX19_isRight_3 : decode cX19_isRight 3 = .ok (.aload_n 0, 1) := dk_42 (dk_at dksX19_isRight_0 3 rfl rfl)
theorem dX19_isRight_4 : decode cX19_isRight 4 = .ok (.getfield 3, 3) := dk_180 0 3 (dk_at dksX19_isRight_0 4 rfl rfl)
theorem dX19_isRight_7 : decode cX19_isRight 7 = .ok (.getfield 37, 3) := dk_180 0 37 (dk_at dksX19_isRight_0 7 rfl rfl)
theorem dX19_isRight_10 : decode cX19_isRight 10 = .ok (.getfield 41, 3) := dk_180 0 41 (dk_at dksX19_isRight_0 10 rfl rfl)
theorem dX19_isRight_13 : decode cX19_isRight 13 = .ok (.invokevirtual 47, 3) := dk_182 0 47 (dk_at dksX19_isRight_0 13 rfl rfl)
theorem dX19_isRight_16 : decode cX19_isRight 16 = .ok (.if_icmp .ge 36, 3) := dk_162 0 36 (dk_at dksX19_isRight_0 16 rfl rfl)
theorem dX19_isRight_19 : decode cX19_isRight 19 = .ok (.aload_n 0, 1) := dk_42 (dk_at dksX19_isRight_0 19 rfl rfl)
theorem dX19_isRight_20 : decode cX19_isRight 20 = .ok (.aload_n 0, 1) := dk_42 (dk_at dksX19_isRight_0 20 rfl rfl)
theorem dX19_isRight_21 : decode cX19_isRight 21 = .ok (.getfield 3, 3) := dk_180 0 3 (dk_at dksX19_isRight_0 21 rfl rfl)
theorem dX19_isRight_24 : decode cX19_isRight 24 = .ok (.getfield 37, 3) := dk_180 0 37 (dk_at dksX19_isRight_1 0 rfl rfl)
theorem dX19_isRight_27 : decode cX19_isRight 27 = .ok (.getfield 41, 3) := dk_180 0 41 (dk_at dksX19_isRight_1 3 rfl rfl)
theorem dX19_isRight_30 : decode cX19_isRight 30 = .ok (.iload_n 1, 1) := dk_27 (dk_at dksX19_isRight_1 6 rfl rfl)
theorem dX19_isRight_31 : decode cX19_isRight 31 = .ok (.invokevirtual 53, 3) := dk_182 0 53 (dk_at dksX19_isRight_1 7 rfl rfl)
theorem dX19_isRight_34 : decode cX19_isRight 34 = .ok (.checkcast 23, 3) := dk_192 0 23 (dk_at dksX19_isRight_1 10 rfl rfl)
theorem dX19_isRight_37 : decode cX19_isRight 37 = .ok (.iconst 0, 1) := dk_3 (dk_at dksX19_isRight_1 13 rfl rfl)
theorem dX19_isRight_38 : decode cX19_isRight 38 = .ok (.invokevirtual 57, 3) := dk_182 0 57 (dk_at dksX19_isRight_1 14 rfl rfl)
theorem dX19_isRight_41 : decode cX19_isRight 41 = .ok (.ifCond .eq 5, 3) := dk_153 0 5 (dk_at dksX19_isRight_1 17 rfl rfl)
theorem dX19_isRight_44 : decode cX19_isRight 44 = .ok (.iconst 1, 1) := dk_4 (dk_at dksX19_isRight_1 20 rfl rfl)
theorem dX19_isRight_45 : decode cX19_isRight 45 = .ok (.ireturn, 1) := dk_172 (dk_at dksX19_isRight_1 21 rfl rfl)
theorem dX19_isRight_46 : decode cX19_isRight 46 = .ok (.iinc 1 1, 3) := dk_132 1 1 (dk_at dksX19_isRight_2 0 rfl rfl)
theorem dX19_isRight_49 : decode cX19_isRight 49 = .ok (.goto (-47), 3) := dk_167 255 209 (dk_at dksX19_isRight_2 3 rfl rfl)
theorem dX19_isRight_52 : decode cX19_isRight 52 = .ok (.iconst 0, 1) := dk_3 (dk_at dksX19_isRight_2 6 rfl rfl)
theorem dX19_isRight_53 : decode cX19_isRight 53 = .ok (.ireturn, 1) := dk_172 (dk_at dksX19_isRight_2 7 rfl rfl)
abbrev cX19_isMove : ByteArray := prog_4_method_2_code
def yX19_isMove : MethodName := ⟨RX19, "isMove", "(LRapTable$Move;I)Z"⟩
def dkwX19_isMove_2 : List UInt8 := [163, 0, 7, 4, 167, 0, 4, 3, 172]
abbrev dktX19_isMove_2 : List UInt8 := dkwX19_isMove_2 ++ []
def dkwX19_isMove_1 : List UInt8 := [180, 0, 28, 42, 180, 0, 31, 28, 100, 161, 0, 20, 43, 180, 0, 28, 42, 180, 0, 34, 28, 96]
abbrev dktX19_isMove_1 : List UInt8 := dkwX19_isMove_1 ++ dktX19_isMove_2
def dkwX19_isMove_0 : List UInt8 := [43, 180, 0, 22, 42, 180, 0, 15, 160, 0, 44, 43, 180, 0, 25, 42, 180, 0, 19, 160, 0, 33, 43]
abbrev dktX19_isMove_0 : List UInt8 := dkwX19_isMove_0 ++ dktX19_isMove_1
theorem dksX19_isMove_0 : cX19_isMove.data.toList.drop 0 = dktX19_isMove_0 := by decide +kernel
theorem dksX19_isMove_1 : cX19_isMove.data.toList.drop 23 = dktX19_isMove_1 := dk_seg dksX19_isMove_0 23 rfl rfl
theorem dksX19_isMove_2 : cX19_isMove.data.toList.drop 45 = dktX19_isMove_2 := dk_seg dksX19_isMove_1 22 rfl rfl
theorem dX19_isMove_0 : decode cX19_isMove 0 = .ok (.aload_n 1, 1) := dk_43 (dk_at dksX19_isMove_0 0 rfl rfl)
theorem dX19_isMove_1 : decode cX19_isMove 1 = .ok (.getfield 22, 3) := dk_180 0 22 (dk_at dksX19_isMove_0 1 rfl rfl)
theorem dX19_isMove_4 : decode cX19_isMove 4 = .ok (.aload_n 0, 1) := dk_42 (dk_at dksX19_isMove_0 4 rfl rfl)
theorem dX19_isMove_5 : decode cX19_isMove 5 = .ok (.getfield 15, 3) := dk_180 0 15 (dk_at dksX19_isMove_0 5 rfl rfl)
theorem dX19_isMove_8 : decode cX19_isMove 8 = .ok (.if_icmp .ne 44, 3) := dk_160 0 44 (dk_at dksX19_isMove_0 8 rfl rfl)
theorem dX19_isMove_11 : decode cX19_isMove 11 = .ok (.aload_n 1, 1) := dk_43 (dk_at dksX19_isMove_0 11 rfl rfl)
theorem dX19_isMove_12 : decode cX19_isMove 12 = .ok (.getfield 25, 3) := dk_180 0 25 (dk_at dksX19_isMove_0 12 rfl rfl)
theorem dX19_isMove_15 : decode cX19_isMove 15 = .ok (.aload_n 0, 1) := dk_42 (dk_at dksX19_isMove_0 15 rfl rfl)
theorem dX19_isMove_16 : decode cX19_isMove 16 = .ok (.getfield 19, 3) := dk_180 0 19 (dk_at dksX19_isMove_0 16 rfl rfl)
theorem dX19_isMove_19 : decode cX19_isMove 19 = .ok (.if_icmp .ne 33, 3) := dk_160 0 33 (dk_at dksX19_isMove_0 19 rfl rfl)
theorem dX19_isMove_22 : decode cX19_isMove 22 = .ok (.aload_n 1, 1) := dk_43 (dk_at dksX19_isMove_0 22 rfl rfl)
theorem dX19_isMove_23 : decode cX19_isMove 23 = .ok (.getfield 28, 3) := dk_180 0 28 (dk_at dksX19_isMove_1 0 rfl rfl)
theorem dX19_isMove_26 : decode cX19_isMove 26 = .ok (.aload_n 0, 1) := dk_42 (dk_at dksX19_isMove_1 3 rfl rfl)
theorem dX19_isMove_27 : decode cX19_isMove 27 = .ok (.getfield 31, 3) := dk_180 0 31 (dk_at dksX19_isMove_1 4 rfl rfl)
theorem dX19_isMove_30 : decode cX19_isMove 30 = .ok (.iload_n 2, 1) := dk_28 (dk_at dksX19_isMove_1 7 rfl rfl)
theorem dX19_isMove_31 : decode cX19_isMove 31 = .ok (.isub, 1) := dk_100 (dk_at dksX19_isMove_1 8 rfl rfl)
theorem dX19_isMove_32 : decode cX19_isMove 32 = .ok (.if_icmp .lt 20, 3) := dk_161 0 20 (dk_at dksX19_isMove_1 9 rfl rfl)
theorem dX19_isMove_35 : decode cX19_isMove 35 = .ok (.aload_n 1, 1) := dk_43 (dk_at dksX19_isMove_1 12 rfl rfl)
theorem dX19_isMove_36 : decode cX19_isMove 36 = .ok (.getfield 28, 3) := dk_180 0 28 (dk_at dksX19_isMove_1 13 rfl rfl)
theorem dX19_isMove_39 : decode cX19_isMove 39 = .ok (.aload_n 0, 1) := dk_42 (dk_at dksX19_isMove_1 16 rfl rfl)
theorem dX19_isMove_40 : decode cX19_isMove 40 = .ok (.getfield 34, 3) := dk_180 0 34 (dk_at dksX19_isMove_1 17 rfl rfl)
theorem dX19_isMove_43 : decode cX19_isMove 43 = .ok (.iload_n 2, 1) := dk_28 (dk_at dksX19_isMove_1 20 rfl rfl)
theorem dX19_isMove_44 : decode cX19_isMove 44 = .ok (.iadd, 1) := dk_96 (dk_at dksX19_isMove_1 21 rfl rfl)
theorem dX19_isMove_45 : decode cX19_isMove 45 = .ok (.if_icmp .gt 7, 3) := dk_163 0 7 (dk_at dksX19_isMove_2 0 rfl rfl)
theorem dX19_isMove_48 : decode cX19_isMove 48 = .ok (.iconst 1, 1) := dk_4 (dk_at dksX19_isMove_2 3 rfl rfl)
theorem dX19_isMove_49 : decode cX19_isMove 49 = .ok (.goto 4, 3) := dk_167 0 4 (dk_at dksX19_isMove_2 4 rfl rfl)
theorem dX19_isMove_52 : decode cX19_isMove 52 = .ok (.iconst 0, 1) := dk_3 (dk_at dksX19_isMove_2 7 rfl rfl)
theorem dX19_isMove_53 : decode cX19_isMove 53 = .ok (.ireturn, 1) := dk_172 (dk_at dksX19_isMove_2 8 rfl rfl)
abbrev cX19_isHonest : ByteArray := prog_4_method_4_code
def yX19_isHonest : MethodName := ⟨RX19, "isHonest", "()Z"⟩
def dkwX19_isHonest_4 : List UInt8 := [3, 172]
abbrev dktX19_isHonest_4 : List UInt8 := dkwX19_isHonest_4 ++ []
def dkwX19_isHonest_3 : List UInt8 := [180, 0, 41, 27, 182, 0, 53, 192, 0, 23, 182, 0, 70, 153, 0, 5, 4, 172, 132, 1, 1, 167, 255, 167]
abbrev dktX19_isHonest_3 : List UInt8 := dkwX19_isHonest_3 ++ dktX19_isHonest_4
def dkwX19_isHonest_2 : List UInt8 := [104, 182, 0, 57, 153, 0, 36, 42, 180, 0, 3, 42, 180, 0, 67, 42, 180, 0, 3, 180, 0, 37]
abbrev dktX19_isHonest_2 : List UInt8 := dkwX19_isHonest_2 ++ dktX19_isHonest_3
def dkwX19_isHonest_1 : List UInt8 := [180, 0, 37, 180, 0, 41, 27, 182, 0, 53, 192, 0, 23, 42, 180, 0, 3, 180, 0, 61, 42, 180, 0, 64]
abbrev dktX19_isHonest_1 : List UInt8 := dkwX19_isHonest_1 ++ dktX19_isHonest_2
def dkwX19_isHonest_0 : List UInt8 := [3, 60, 27, 42, 180, 0, 3, 180, 0, 37, 180, 0, 41, 182, 0, 47, 162, 0, 78, 42, 42, 180, 0, 3]
abbrev dktX19_isHonest_0 : List UInt8 := dkwX19_isHonest_0 ++ dktX19_isHonest_1
theorem dksX19_isHonest_0 : cX19_isHonest.data.toList.drop 0 = dktX19_isHonest_0 := by decide +kernel
theorem dksX19_isHonest_1 : cX19_isHonest.data.toList.drop 24 = dktX19_isHonest_1 := dk_seg dksX19_isHonest_0 24 rfl rfl
theorem dksX19_isHonest_2 : cX19_isHonest.data.toList.drop 48 = dktX19_isHonest_2 := dk_seg dksX19_isHonest_1 24 rfl rfl
theorem dksX19_isHonest_3 : cX19_isHonest.data.toList.drop 70 = dktX19_isHonest_3 := dk_seg dksX19_isHonest_2 22 rfl rfl
theorem dksX19_isHonest_4 : cX19_isHonest.data.toList.drop 94 = dktX19_isHonest_4 := dk_seg dksX19_isHonest_3 24 rfl rfl
theorem dX19_isHonest_0 : decode cX19_isHonest 0 = .ok (.iconst 0, 1) := dk_3 (dk_at dksX19_isHonest_0 0 rfl rfl)
theorem dX19_isHonest_1 : decode cX19_isHonest 1 = .ok (.istore_n 1, 1) := dk_60 (dk_at dksX19_isHonest_0 1 rfl rfl)
theorem dX19_isHonest_2 : decode cX19_isHonest 2 = .ok (.iload_n 1, 1) := dk_27 (dk_at dksX19_isHonest_0 2 rfl rfl)
theorem dX19_isHonest_3 : decode cX19_isHonest 3 = .ok (.aload_n 0, 1) := dk_42 (dk_at dksX19_isHonest_0 3 rfl rfl)
theorem dX19_isHonest_4 : decode cX19_isHonest 4 = .ok (.getfield 3, 3) := dk_180 0 3 (dk_at dksX19_isHonest_0 4 rfl rfl)
theorem dX19_isHonest_7 : decode cX19_isHonest 7 = .ok (.getfield 37, 3) := dk_180 0 37 (dk_at dksX19_isHonest_0 7 rfl rfl)
theorem dX19_isHonest_10 : decode cX19_isHonest 10 = .ok (.getfield 41, 3) := dk_180 0 41 (dk_at dksX19_isHonest_0 10 rfl rfl)
theorem dX19_isHonest_13 : decode cX19_isHonest 13 = .ok (.invokevirtual 47, 3) := dk_182 0 47 (dk_at dksX19_isHonest_0 13 rfl rfl)
theorem dX19_isHonest_16 : decode cX19_isHonest 16 = .ok (.if_icmp .ge 78, 3) := dk_162 0 78 (dk_at dksX19_isHonest_0 16 rfl rfl)
theorem dX19_isHonest_19 : decode cX19_isHonest 19 = .ok (.aload_n 0, 1) := dk_42 (dk_at dksX19_isHonest_0 19 rfl rfl)
theorem dX19_isHonest_20 : decode cX19_isHonest 20 = .ok (.aload_n 0, 1) := dk_42 (dk_at dksX19_isHonest_0 20 rfl rfl)
theorem dX19_isHonest_21 : decode cX19_isHonest 21 = .ok (.getfield 3, 3) := dk_180 0 3 (dk_at dksX19_isHonest_0 21 rfl rfl)
theorem dX19_isHonest_24 : decode cX19_isHonest 24 = .ok (.getfield 37, 3) := dk_180 0 37 (dk_at dksX19_isHonest_1 0 rfl rfl)
theorem dX19_isHonest_27 : decode cX19_isHonest 27 = .ok (.getfield 41, 3) := dk_180 0 41 (dk_at dksX19_isHonest_1 3 rfl rfl)
theorem dX19_isHonest_30 : decode cX19_isHonest 30 = .ok (.iload_n 1, 1) := dk_27 (dk_at dksX19_isHonest_1 6 rfl rfl)
theorem dX19_isHonest_31 : decode cX19_isHonest 31 = .ok (.invokevirtual 53, 3) := dk_182 0 53 (dk_at dksX19_isHonest_1 7 rfl rfl)
theorem dX19_isHonest_34 : decode cX19_isHonest 34 = .ok (.checkcast 23, 3) := dk_192 0 23 (dk_at dksX19_isHonest_1 10 rfl rfl)
theorem dX19_isHonest_37 : decode cX19_isHonest 37 = .ok (.aload_n 0, 1) := dk_42 (dk_at dksX19_isHonest_1 13 rfl rfl)
theorem dX19_isHonest_38 : decode cX19_isHonest 38 = .ok (.getfield 3, 3) := dk_180 0 3 (dk_at dksX19_isHonest_1 14 rfl rfl)
theorem dX19_isHonest_41 : decode cX19_isHonest 41 = .ok (.getfield 61, 3) := dk_180 0 61 (dk_at dksX19_isHonest_1 17 rfl rfl)
theorem dX19_isHonest_44 : decode cX19_isHonest 44 = .ok (.aload_n 0, 1) := dk_42 (dk_at dksX19_isHonest_1 20 rfl rfl)
theorem dX19_isHonest_45 : decode cX19_isHonest 45 = .ok (.getfield 64, 3) := dk_180 0 64 (dk_at dksX19_isHonest_1 21 rfl rfl)
theorem dX19_isHonest_48 : decode cX19_isHonest 48 = .ok (.imul, 1) := dk_104 (dk_at dksX19_isHonest_2 0 rfl rfl)
theorem dX19_isHonest_49 : decode cX19_isHonest 49 = .ok (.invokevirtual 57, 3) := dk_182 0 57 (dk_at dksX19_isHonest_2 1 rfl rfl)
theorem dX19_isHonest_52 : decode cX19_isHonest 52 = .ok (.ifCond .eq 36, 3) := dk_153 0 36 (dk_at dksX19_isHonest_2 4 rfl rfl)
theorem dX19_isHonest_55 : decode cX19_isHonest 55 = .ok (.aload_n 0, 1) := dk_42 (dk_at dksX19_isHonest_2 7 rfl rfl)
theorem dX19_isHonest_56 : decode cX19_isHonest 56 = .ok (.getfield 3, 3) := dk_180 0 3 (dk_at dksX19_isHonest_2 8 rfl rfl)
theorem dX19_isHonest_59 : decode cX19_isHonest 59 = .ok (.aload_n 0, 1) := dk_42 (dk_at dksX19_isHonest_2 11 rfl rfl)
theorem dX19_isHonest_60 : decode cX19_isHonest 60 = .ok (.getfield 67, 3) := dk_180 0 67 (dk_at dksX19_isHonest_2 12 rfl rfl)
theorem dX19_isHonest_63 : decode cX19_isHonest 63 = .ok (.aload_n 0, 1) := dk_42 (dk_at dksX19_isHonest_2 15 rfl rfl)
theorem dX19_isHonest_64 : decode cX19_isHonest 64 = .ok (.getfield 3, 3) := dk_180 0 3 (dk_at dksX19_isHonest_2 16 rfl rfl)
theorem dX19_isHonest_67 : decode cX19_isHonest 67 = .ok (.getfield 37, 3) := dk_180 0 37 (dk_at dksX19_isHonest_2 19 rfl rfl)
theorem dX19_isHonest_70 : decode cX19_isHonest 70 = .ok (.getfield 41, 3) := dk_180 0 41 (dk_at dksX19_isHonest_3 0 rfl rfl)
theorem dX19_isHonest_73 : decode cX19_isHonest 73 = .ok (.iload_n 1, 1) := dk_27 (dk_at dksX19_isHonest_3 3 rfl rfl)
theorem dX19_isHonest_74 : decode cX19_isHonest 74 = .ok (.invokevirtual 53, 3) := dk_182 0 53 (dk_at dksX19_isHonest_3 4 rfl rfl)
theorem dX19_isHonest_77 : decode cX19_isHonest 77 = .ok (.checkcast 23, 3) := dk_192 0 23 (dk_at dksX19_isHonest_3 7 rfl rfl)
theorem dX19_isHonest_80 : decode cX19_isHonest 80 = .ok (.invokevirtual 70, 3) := dk_182 0 70 (dk_at dksX19_isHonest_3 10 rfl rfl)
theorem dX19_isHonest_83 : decode cX19_isHonest 83 = .ok (.ifCond .eq 5, 3) := dk_153 0 5 (dk_at dksX19_isHonest_3 13 rfl rfl)
theorem dX19_isHonest_86 : decode cX19_isHonest 86 = .ok (.iconst 1, 1) := dk_4 (dk_at dksX19_isHonest_3 16 rfl rfl)
theorem dX19_isHonest_87 : decode cX19_isHonest 87 = .ok (.ireturn, 1) := dk_172 (dk_at dksX19_isHonest_3 17 rfl rfl)
theorem dX19_isHonest_88 : decode cX19_isHonest 88 = .ok (.iinc 1 1, 3) := dk_132 1 1 (dk_at dksX19_isHonest_3 18 rfl rfl)
theorem dX19_isHonest_91 : decode cX19_isHonest 91 = .ok (.goto (-89), 3) := dk_167 255 167 (dk_at dksX19_isHonest_3 21 rfl rfl)
theorem dX19_isHonest_94 : decode cX19_isHonest 94 = .ok (.iconst 0, 1) := dk_3 (dk_at dksX19_isHonest_4 0 rfl rfl)
theorem dX19_isHonest_95 : decode cX19_isHonest 95 = .ok (.ireturn, 1) := dk_172 (dk_at dksX19_isHonest_4 1 rfl rfl)
abbrev cX19_agrees : ByteArray := prog_4_method_5_code
def yX19_agrees : MethodName := ⟨RX19, "agrees", "(LRapTable$Report;)Z"⟩
def dkwX19_agrees_2 : List UInt8 := [43, 180, 0, 75, 42, 180, 0, 34, 163, 0, 7, 4, 167, 0, 4, 3, 172]
abbrev dktX19_agrees_2 : List UInt8 := dkwX19_agrees_2 ++ []
def dkwX19_agrees_1 : List UInt8 := [192, 0, 4, 180, 0, 19, 42, 180, 0, 19, 160, 0, 29, 42, 180, 0, 31, 43, 180, 0, 74, 163, 0, 18]
abbrev dktX19_agrees_1 : List UInt8 := dkwX19_agrees_1 ++ dktX19_agrees_2
def dkwX19_agrees_0 : List UInt8 := [43, 193, 0, 4, 153, 0, 57, 43, 192, 0, 4, 180, 0, 15, 42, 180, 0, 15, 160, 0, 43, 43]
abbrev dktX19_agrees_0 : List UInt8 := dkwX19_agrees_0 ++ dktX19_agrees_1
theorem dksX19_agrees_0 : cX19_agrees.data.toList.drop 0 = dktX19_agrees_0 := by decide +kernel
theorem dksX19_agrees_1 : cX19_agrees.data.toList.drop 22 = dktX19_agrees_1 := dk_seg dksX19_agrees_0 22 rfl rfl
theorem dksX19_agrees_2 : cX19_agrees.data.toList.drop 46 = dktX19_agrees_2 := dk_seg dksX19_agrees_1 24 rfl rfl
theorem dX19_agrees_0 : decode cX19_agrees 0 = .ok (.aload_n 1, 1) := dk_43 (dk_at dksX19_agrees_0 0 rfl rfl)
theorem dX19_agrees_1 : decode cX19_agrees 1 = .ok (.instanceof 4, 3) := dk_193 0 4 (dk_at dksX19_agrees_0 1 rfl rfl)
theorem dX19_agrees_4 : decode cX19_agrees 4 = .ok (.ifCond .eq 57, 3) := dk_153 0 57 (dk_at dksX19_agrees_0 4 rfl rfl)
theorem dX19_agrees_7 : decode cX19_agrees 7 = .ok (.aload_n 1, 1) := dk_43 (dk_at dksX19_agrees_0 7 rfl rfl)
theorem dX19_agrees_8 : decode cX19_agrees 8 = .ok (.checkcast 4, 3) := dk_192 0 4 (dk_at dksX19_agrees_0 8 rfl rfl)
theorem dX19_agrees_11 : decode cX19_agrees 11 = .ok (.getfield 15, 3) := dk_180 0 15 (dk_at dksX19_agrees_0 11 rfl rfl)
theorem dX19_agrees_14 : decode cX19_agrees 14 = .ok (.aload_n 0, 1) := dk_42 (dk_at dksX19_agrees_0 14 rfl rfl)
theorem dX19_agrees_15 : decode cX19_agrees 15 = .ok (.getfield 15, 3) := dk_180 0 15 (dk_at dksX19_agrees_0 15 rfl rfl)
theorem dX19_agrees_18 : decode cX19_agrees 18 = .ok (.if_icmp .ne 43, 3) := dk_160 0 43 (dk_at dksX19_agrees_0 18 rfl rfl)
theorem dX19_agrees_21 : decode cX19_agrees 21 = .ok (.aload_n 1, 1) := dk_43 (dk_at dksX19_agrees_0 21 rfl rfl)
theorem dX19_agrees_22 : decode cX19_agrees 22 = .ok (.checkcast 4, 3) := dk_192 0 4 (dk_at dksX19_agrees_1 0 rfl rfl)
theorem dX19_agrees_25 : decode cX19_agrees 25 = .ok (.getfield 19, 3) := dk_180 0 19 (dk_at dksX19_agrees_1 3 rfl rfl)
theorem dX19_agrees_28 : decode cX19_agrees 28 = .ok (.aload_n 0, 1) := dk_42 (dk_at dksX19_agrees_1 6 rfl rfl)
theorem dX19_agrees_29 : decode cX19_agrees 29 = .ok (.getfield 19, 3) := dk_180 0 19 (dk_at dksX19_agrees_1 7 rfl rfl)
theorem dX19_agrees_32 : decode cX19_agrees 32 = .ok (.if_icmp .ne 29, 3) := dk_160 0 29 (dk_at dksX19_agrees_1 10 rfl rfl)
theorem dX19_agrees_35 : decode cX19_agrees 35 = .ok (.aload_n 0, 1) := dk_42 (dk_at dksX19_agrees_1 13 rfl rfl)
theorem dX19_agrees_36 : decode cX19_agrees 36 = .ok (.getfield 31, 3) := dk_180 0 31 (dk_at dksX19_agrees_1 14 rfl rfl)
theorem dX19_agrees_39 : decode cX19_agrees 39 = .ok (.aload_n 1, 1) := dk_43 (dk_at dksX19_agrees_1 17 rfl rfl)
theorem dX19_agrees_40 : decode cX19_agrees 40 = .ok (.getfield 74, 3) := dk_180 0 74 (dk_at dksX19_agrees_1 18 rfl rfl)
theorem dX19_agrees_43 : decode cX19_agrees 43 = .ok (.if_icmp .gt 18, 3) := dk_163 0 18 (dk_at dksX19_agrees_1 21 rfl rfl)
theorem dX19_agrees_46 : decode cX19_agrees 46 = .ok (.aload_n 1, 1) := dk_43 (dk_at dksX19_agrees_2 0 rfl rfl)
theorem dX19_agrees_47 : decode cX19_agrees 47 = .ok (.getfield 75, 3) := dk_180 0 75 (dk_at dksX19_agrees_2 1 rfl rfl)
theorem dX19_agrees_50 : decode cX19_agrees 50 = .ok (.aload_n 0, 1) := dk_42 (dk_at dksX19_agrees_2 4 rfl rfl)
theorem dX19_agrees_51 : decode cX19_agrees 51 = .ok (.getfield 34, 3) := dk_180 0 34 (dk_at dksX19_agrees_2 5 rfl rfl)
theorem dX19_agrees_54 : decode cX19_agrees 54 = .ok (.if_icmp .gt 7, 3) := dk_163 0 7 (dk_at dksX19_agrees_2 8 rfl rfl)
theorem dX19_agrees_57 : decode cX19_agrees 57 = .ok (.iconst 1, 1) := dk_4 (dk_at dksX19_agrees_2 11 rfl rfl)
theorem dX19_agrees_58 : decode cX19_agrees 58 = .ok (.goto 4, 3) := dk_167 0 4 (dk_at dksX19_agrees_2 12 rfl rfl)
theorem dX19_agrees_61 : decode cX19_agrees 61 = .ok (.iconst 0, 1) := dk_3 (dk_at dksX19_agrees_2 15 rfl rfl)
theorem dX19_agrees_62 : decode cX19_agrees 62 = .ok (.ireturn, 1) := dk_172 (dk_at dksX19_agrees_2 16 rfl rfl)
abbrev cX19_isStory : ByteArray := prog_4_method_6_code
def yX19_isStory : MethodName := ⟨RX19, "isStory", "(LRapTable$Way;IZ)Z"⟩
def dkwX19_isStory_4 : List UInt8 := [180, 0, 31, 42, 180, 0, 34, 182, 0, 80, 2, 159, 0, 5, 4, 172, 132, 4, 1, 167, 255, 196, 3, 172]
abbrev dktX19_isStory_4 : List UInt8 := dkwX19_isStory_4 ++ []
def dkwX19_isStory_3 : List UInt8 := [159, 0, 38, 42, 180, 0, 3, 43, 28, 4, 21, 4, 120, 42, 180, 0, 15, 42, 180, 0, 19, 42]
abbrev dktX19_isStory_3 : List UInt8 := dkwX19_isStory_3 ++ dktX19_isStory_4
def dkwX19_isStory_2 : List UInt8 := [3, 54, 4, 29, 153, 0, 62, 21, 4, 42, 180, 0, 3, 180, 0, 84, 162, 0, 50, 21, 4, 28]
abbrev dktX19_isStory_2 : List UInt8 := dkwX19_isStory_2 ++ dktX19_isStory_3
def dkwX19_isStory_1 : List UInt8 := [180, 0, 15, 42, 180, 0, 19, 42, 180, 0, 31, 42, 180, 0, 34, 182, 0, 80, 2, 159, 0, 5, 4, 172]
abbrev dktX19_isStory_1 : List UInt8 := dkwX19_isStory_1 ++ dktX19_isStory_2
def dkwX19_isStory_0 : List UInt8 := [42, 180, 0, 3, 42, 180, 0, 15, 182, 0, 76, 154, 0, 5, 3, 172, 42, 180, 0, 3, 43, 28, 3, 42]
abbrev dktX19_isStory_0 : List UInt8 := dkwX19_isStory_0 ++ dktX19_isStory_1
theorem dksX19_isStory_0 : cX19_isStory.data.toList.drop 0 = dktX19_isStory_0 := by decide +kernel
theorem dksX19_isStory_1 : cX19_isStory.data.toList.drop 24 = dktX19_isStory_1 := dk_seg dksX19_isStory_0 24 rfl rfl
theorem dksX19_isStory_2 : cX19_isStory.data.toList.drop 48 = dktX19_isStory_2 := dk_seg dksX19_isStory_1 24 rfl rfl
theorem dksX19_isStory_3 : cX19_isStory.data.toList.drop 70 = dktX19_isStory_3 := dk_seg dksX19_isStory_2 22 rfl rfl
theorem dksX19_isStory_4 : cX19_isStory.data.toList.drop 92 = dktX19_isStory_4 := dk_seg dksX19_isStory_3 22 rfl rfl
theorem dX19_isStory_0 : decode cX19_isStory 0 = .ok (.aload_n 0, 1) := dk_42 (dk_at dksX19_isStory_0 0 rfl rfl)
theorem dX19_isStory_1 : decode cX19_isStory 1 = .ok (.getfield 3, 3) := dk_180 0 3 (dk_at dksX19_isStory_0 1 rfl rfl)
theorem dX19_isStory_4 : decode cX19_isStory 4 = .ok (.aload_n 0, 1) := dk_42 (dk_at dksX19_isStory_0 4 rfl rfl)
theorem dX19_isStory_5 : decode cX19_isStory 5 = .ok (.getfield 15, 3) := dk_180 0 15 (dk_at dksX19_isStory_0 5 rfl rfl)
theorem dX19_isStory_8 : decode cX19_isStory 8 = .ok (.invokevirtual 76, 3) := dk_182 0 76 (dk_at dksX19_isStory_0 8 rfl rfl)
theorem dX19_isStory_11 : decode cX19_isStory 11 = .ok (.ifCond .ne 5, 3) := dk_154 0 5 (dk_at dksX19_isStory_0 11 rfl rfl)
theorem dX19_isStory_14 : decode cX19_isStory 14 = .ok (.iconst 0, 1) := dk_3 (dk_at dksX19_isStory_0 14 rfl rfl)
theorem dX19_isStory_15 : decode cX19_isStory 15 = .ok (.ireturn, 1) := dk_172 (dk_at dksX19_isStory_0 15 rfl rfl)
theorem dX19_isStory_16 : decode cX19_isStory 16 = .ok (.aload_n 0, 1) := dk_42 (dk_at dksX19_isStory_0 16 rfl rfl)
theorem dX19_isStory_17 : decode cX19_isStory 17 = .ok (.getfield 3, 3) := dk_180 0 3 (dk_at dksX19_isStory_0 17 rfl rfl)
theorem dX19_isStory_20 : decode cX19_isStory 20 = .ok (.aload_n 1, 1) := dk_43 (dk_at dksX19_isStory_0 20 rfl rfl)
theorem dX19_isStory_21 : decode cX19_isStory 21 = .ok (.iload_n 2, 1) := dk_28 (dk_at dksX19_isStory_0 21 rfl rfl)
theorem dX19_isStory_22 : decode cX19_isStory 22 = .ok (.iconst 0, 1) := dk_3 (dk_at dksX19_isStory_0 22 rfl rfl)
theorem dX19_isStory_23 : decode cX19_isStory 23 = .ok (.aload_n 0, 1) := dk_42 (dk_at dksX19_isStory_0 23 rfl rfl)
theorem dX19_isStory_24 : decode cX19_isStory 24 = .ok (.getfield 15, 3) := dk_180 0 15 (dk_at dksX19_isStory_1 0 rfl rfl)
theorem dX19_isStory_27 : decode cX19_isStory 27 = .ok (.aload_n 0, 1) := dk_42 (dk_at dksX19_isStory_1 3 rfl rfl)
theorem dX19_isStory_28 : decode cX19_isStory 28 = .ok (.getfield 19, 3) := dk_180 0 19 (dk_at dksX19_isStory_1 4 rfl rfl)
theorem dX19_isStory_31 : decode cX19_isStory 31 = .ok (.aload_n 0, 1) := dk_42 (dk_at dksX19_isStory_1 7 rfl rfl)
theorem dX19_isStory_32 : decode cX19_isStory 32 = .ok (.getfield 31, 3) := dk_180 0 31 (dk_at dksX19_isStory_1 8 rfl rfl)
theorem dX19_isStory_35 : decode cX19_isStory 35 = .ok (.aload_n 0, 1) := dk_42 (dk_at dksX19_isStory_1 11 rfl rfl)
theorem dX19_isStory_36 : decode cX19_isStory 36 = .ok (.getfield 34, 3) := dk_180 0 34 (dk_at dksX19_isStory_1 12 rfl rfl)
theorem dX19_isStory_39 : decode cX19_isStory 39 = .ok (.invokevirtual 80, 3) := dk_182 0 80 (dk_at dksX19_isStory_1 15 rfl rfl)
theorem dX19_isStory_42 : decode cX19_isStory 42 = .ok (.iconst (-1), 1) := dk_2 (dk_at dksX19_isStory_1 18 rfl rfl)
theorem dX19_isStory_43 : decode cX19_isStory 43 = .ok (.if_icmp .eq 5, 3) := dk_159 0 5 (dk_at dksX19_isStory_1 19 rfl rfl)
theorem dX19_isStory_46 : decode cX19_isStory 46 = .ok (.iconst 1, 1) := dk_4 (dk_at dksX19_isStory_1 22 rfl rfl)
theorem dX19_isStory_47 : decode cX19_isStory 47 = .ok (.ireturn, 1) := dk_172 (dk_at dksX19_isStory_1 23 rfl rfl)
theorem dX19_isStory_48 : decode cX19_isStory 48 = .ok (.iconst 0, 1) := dk_3 (dk_at dksX19_isStory_2 0 rfl rfl)
theorem dX19_isStory_49 : decode cX19_isStory 49 = .ok (.istore 4, 2) := dk_54 4 (dk_at dksX19_isStory_2 1 rfl rfl)
theorem dX19_isStory_51 : decode cX19_isStory 51 = .ok (.iload_n 3, 1) := dk_29 (dk_at dksX19_isStory_2 3 rfl rfl)
theorem dX19_isStory_52 : decode cX19_isStory 52 = .ok (.ifCond .eq 62, 3) := dk_153 0 62 (dk_at dksX19_isStory_2 4 rfl rfl)
theorem dX19_isStory_55 : decode cX19_isStory 55 = .ok (.iload 4, 2) := dk_21 4 (dk_at dksX19_isStory_2 7 rfl rfl)
theorem dX19_isStory_57 : decode cX19_isStory 57 = .ok (.aload_n 0, 1) := dk_42 (dk_at dksX19_isStory_2 9 rfl rfl)
theorem dX19_isStory_58 : decode cX19_isStory 58 = .ok (.getfield 3, 3) := dk_180 0 3 (dk_at dksX19_isStory_2 10 rfl rfl)
theorem dX19_isStory_61 : decode cX19_isStory 61 = .ok (.getfield 84, 3) := dk_180 0 84 (dk_at dksX19_isStory_2 13 rfl rfl)
theorem dX19_isStory_64 : decode cX19_isStory 64 = .ok (.if_icmp .ge 50, 3) := dk_162 0 50 (dk_at dksX19_isStory_2 16 rfl rfl)
theorem dX19_isStory_67 : decode cX19_isStory 67 = .ok (.iload 4, 2) := dk_21 4 (dk_at dksX19_isStory_2 19 rfl rfl)
theorem dX19_isStory_69 : decode cX19_isStory 69 = .ok (.iload_n 2, 1) := dk_28 (dk_at dksX19_isStory_2 21 rfl rfl)
theorem dX19_isStory_70 : decode cX19_isStory 70 = .ok (.if_icmp .eq 38, 3) := dk_159 0 38 (dk_at dksX19_isStory_3 0 rfl rfl)
theorem dX19_isStory_73 : decode cX19_isStory 73 = .ok (.aload_n 0, 1) := dk_42 (dk_at dksX19_isStory_3 3 rfl rfl)
theorem dX19_isStory_74 : decode cX19_isStory 74 = .ok (.getfield 3, 3) := dk_180 0 3 (dk_at dksX19_isStory_3 4 rfl rfl)
theorem dX19_isStory_77 : decode cX19_isStory 77 = .ok (.aload_n 1, 1) := dk_43 (dk_at dksX19_isStory_3 7 rfl rfl)
theorem dX19_isStory_78 : decode cX19_isStory 78 = .ok (.iload_n 2, 1) := dk_28 (dk_at dksX19_isStory_3 8 rfl rfl)
theorem dX19_isStory_79 : decode cX19_isStory 79 = .ok (.iconst 1, 1) := dk_4 (dk_at dksX19_isStory_3 9 rfl rfl)
theorem dX19_isStory_80 : decode cX19_isStory 80 = .ok (.iload 4, 2) := dk_21 4 (dk_at dksX19_isStory_3 10 rfl rfl)
theorem dX19_isStory_82 : decode cX19_isStory 82 = .ok (.ishl, 1) := dk_120 (dk_at dksX19_isStory_3 12 rfl rfl)
theorem dX19_isStory_83 : decode cX19_isStory 83 = .ok (.aload_n 0, 1) := dk_42 (dk_at dksX19_isStory_3 13 rfl rfl)
theorem dX19_isStory_84 : decode cX19_isStory 84 = .ok (.getfield 15, 3) := dk_180 0 15 (dk_at dksX19_isStory_3 14 rfl rfl)
theorem dX19_isStory_87 : decode cX19_isStory 87 = .ok (.aload_n 0, 1) := dk_42 (dk_at dksX19_isStory_3 17 rfl rfl)
theorem dX19_isStory_88 : decode cX19_isStory 88 = .ok (.getfield 19, 3) := dk_180 0 19 (dk_at dksX19_isStory_3 18 rfl rfl)
theorem dX19_isStory_91 : decode cX19_isStory 91 = .ok (.aload_n 0, 1) := dk_42 (dk_at dksX19_isStory_3 21 rfl rfl)
theorem dX19_isStory_92 : decode cX19_isStory 92 = .ok (.getfield 31, 3) := dk_180 0 31 (dk_at dksX19_isStory_4 0 rfl rfl)
theorem dX19_isStory_95 : decode cX19_isStory 95 = .ok (.aload_n 0, 1) := dk_42 (dk_at dksX19_isStory_4 3 rfl rfl)
theorem dX19_isStory_96 : decode cX19_isStory 96 = .ok (.getfield 34, 3) := dk_180 0 34 (dk_at dksX19_isStory_4 4 rfl rfl)
theorem dX19_isStory_99 : decode cX19_isStory 99 = .ok (.invokevirtual 80, 3) := dk_182 0 80 (dk_at dksX19_isStory_4 7 rfl rfl)
theorem dX19_isStory_102 : decode cX19_isStory 102 = .ok (.iconst (-1), 1) := dk_2 (dk_at dksX19_isStory_4 10 rfl rfl)
theorem dX19_isStory_103 : decode cX19_isStory 103 = .ok (.if_icmp .eq 5, 3) := dk_159 0 5 (dk_at dksX19_isStory_4 11 rfl rfl)
theorem dX19_isStory_106 : decode cX19_isStory 106 = .ok (.iconst 1, 1) := dk_4 (dk_at dksX19_isStory_4 14 rfl rfl)
theorem dX19_isStory_107 : decode cX19_isStory 107 = .ok (.ireturn, 1) := dk_172 (dk_at dksX19_isStory_4 15 rfl rfl)
theorem dX19_isStory_108 : decode cX19_isStory 108 = .ok (.iinc 4 1, 3) := dk_132 4 1 (dk_at dksX19_isStory_4 16 rfl rfl)
theorem dX19_isStory_111 : decode cX19_isStory 111 = .ok (.goto (-60), 3) := dk_167 255 196 (dk_at dksX19_isStory_4 19 rfl rfl)
theorem dX19_isStory_114 : decode cX19_isStory 114 = .ok (.iconst 0, 1) := dk_3 (dk_at dksX19_isStory_4 22 rfl rfl)
theorem dX19_isStory_115 : decode cX19_isStory 115 = .ok (.ireturn, 1) := dk_172 (dk_at dksX19_isStory_4 23 rfl rfl)
abbrev cX2_init : ByteArray := prog_17_method_1_code
def yX2_init : MethodName := ⟨RX2, "<init>", "(LRapTable;)V"⟩
def dkwX2_init_0 : List UInt8 := [42, 43, 181, 0, 3, 42, 183, 0, 9, 177]
abbrev dktX2_init_0 : List UInt8 := dkwX2_init_0 ++ []
theorem dksX2_init_0 : cX2_init.data.toList.drop 0 = dktX2_init_0 := by decide +kernel
theorem dX2_init_0 : decode cX2_init 0 = .ok (.aload_n 0, 1) := dk_42 (dk_at dksX2_init_0 0 rfl rfl)
theorem dX2_init_1 : decode cX2_init 1 = .ok (.aload_n 1, 1) := dk_43 (dk_at dksX2_init_0 1 rfl rfl)
theorem dX2_init_2 : decode cX2_init 2 = .ok (.putfield 3, 3) := dk_181 0 3 (dk_at dksX2_init_0 2 rfl rfl)
theorem dX2_init_5 : decode cX2_init 5 = .ok (.aload_n 0, 1) := dk_42 (dk_at dksX2_init_0 5 rfl rfl)
theorem dX2_init_6 : decode cX2_init 6 = .ok (.invokespecial 9, 3) := dk_183 0 9 (dk_at dksX2_init_0 6 rfl rfl)
theorem dX2_init_9 : decode cX2_init 9 = .ok (.return_, 1) := dk_177 (dk_at dksX2_init_0 9 rfl rfl)
abbrev cX2_isAway : ByteArray := prog_17_method_12_code
def yX2_isAway : MethodName := ⟨RX2, "isAway", "(I)Z"⟩
def dkwX2_isAway_1 : List UInt8 := [182, 0, 45, 42, 180, 0, 15, 160, 0, 5, 3, 172, 132, 2, 1, 167, 255, 219, 4, 172]
abbrev dktX2_isAway_1 : List UInt8 := dkwX2_isAway_1 ++ []
def dkwX2_isAway_0 : List UInt8 := [3, 61, 28, 42, 180, 0, 3, 180, 0, 39, 162, 0, 32, 42, 28, 182, 0, 55, 154, 0, 18, 42, 28, 27]
abbrev dktX2_isAway_0 : List UInt8 := dkwX2_isAway_0 ++ dktX2_isAway_1
theorem dksX2_isAway_0 : cX2_isAway.data.toList.drop 0 = dktX2_isAway_0 := by decide +kernel
theorem dksX2_isAway_1 : cX2_isAway.data.toList.drop 24 = dktX2_isAway_1 := dk_seg dksX2_isAway_0 24 rfl rfl
theorem dX2_isAway_0 : decode cX2_isAway 0 = .ok (.iconst 0, 1) := dk_3 (dk_at dksX2_isAway_0 0 rfl rfl)
theorem dX2_isAway_1 : decode cX2_isAway 1 = .ok (.istore_n 2, 1) := dk_61 (dk_at dksX2_isAway_0 1 rfl rfl)
theorem dX2_isAway_2 : decode cX2_isAway 2 = .ok (.iload_n 2, 1) := dk_28 (dk_at dksX2_isAway_0 2 rfl rfl)
theorem dX2_isAway_3 : decode cX2_isAway 3 = .ok (.aload_n 0, 1) := dk_42 (dk_at dksX2_isAway_0 3 rfl rfl)
theorem dX2_isAway_4 : decode cX2_isAway 4 = .ok (.getfield 3, 3) := dk_180 0 3 (dk_at dksX2_isAway_0 4 rfl rfl)
theorem dX2_isAway_7 : decode cX2_isAway 7 = .ok (.getfield 39, 3) := dk_180 0 39 (dk_at dksX2_isAway_0 7 rfl rfl)
theorem dX2_isAway_10 : decode cX2_isAway 10 = .ok (.if_icmp .ge 32, 3) := dk_162 0 32 (dk_at dksX2_isAway_0 10 rfl rfl)
theorem dX2_isAway_13 : decode cX2_isAway 13 = .ok (.aload_n 0, 1) := dk_42 (dk_at dksX2_isAway_0 13 rfl rfl)
theorem dX2_isAway_14 : decode cX2_isAway 14 = .ok (.iload_n 2, 1) := dk_28 (dk_at dksX2_isAway_0 14 rfl rfl)
theorem dX2_isAway_15 : decode cX2_isAway 15 = .ok (.invokevirtual 55, 3) := dk_182 0 55 (dk_at dksX2_isAway_0 15 rfl rfl)
theorem dX2_isAway_18 : decode cX2_isAway 18 = .ok (.ifCond .ne 18, 3) := dk_154 0 18 (dk_at dksX2_isAway_0 18 rfl rfl)
theorem dX2_isAway_21 : decode cX2_isAway 21 = .ok (.aload_n 0, 1) := dk_42 (dk_at dksX2_isAway_0 21 rfl rfl)
theorem dX2_isAway_22 : decode cX2_isAway 22 = .ok (.iload_n 2, 1) := dk_28 (dk_at dksX2_isAway_0 22 rfl rfl)
theorem dX2_isAway_23 : decode cX2_isAway 23 = .ok (.iload_n 1, 1) := dk_27 (dk_at dksX2_isAway_0 23 rfl rfl)
theorem dX2_isAway_24 : decode cX2_isAway 24 = .ok (.invokevirtual 45, 3) := dk_182 0 45 (dk_at dksX2_isAway_1 0 rfl rfl)
theorem dX2_isAway_27 : decode cX2_isAway 27 = .ok (.aload_n 0, 1) := dk_42 (dk_at dksX2_isAway_1 3 rfl rfl)
theorem dX2_isAway_28 : decode cX2_isAway 28 = .ok (.getfield 15, 3) := dk_180 0 15 (dk_at dksX2_isAway_1 4 rfl rfl)
theorem dX2_isAway_31 : decode cX2_isAway 31 = .ok (.if_icmp .ne 5, 3) := dk_160 0 5 (dk_at dksX2_isAway_1 7 rfl rfl)
theorem dX2_isAway_34 : decode cX2_isAway 34 = .ok (.iconst 0, 1) := dk_3 (dk_at dksX2_isAway_1 10 rfl rfl)
theorem dX2_isAway_35 : decode cX2_isAway 35 = .ok (.ireturn, 1) := dk_172 (dk_at dksX2_isAway_1 11 rfl rfl)
theorem dX2_isAway_36 : decode cX2_isAway 36 = .ok (.iinc 2 1, 3) := dk_132 2 1 (dk_at dksX2_isAway_1 12 rfl rfl)
theorem dX2_isAway_39 : decode cX2_isAway 39 = .ok (.goto (-37), 3) := dk_167 255 219 (dk_at dksX2_isAway_1 15 rfl rfl)
theorem dX2_isAway_42 : decode cX2_isAway 42 = .ok (.iconst 1, 1) := dk_4 (dk_at dksX2_isAway_1 18 rfl rfl)
theorem dX2_isAway_43 : decode cX2_isAway 43 = .ok (.ireturn, 1) := dk_172 (dk_at dksX2_isAway_1 19 rfl rfl)
abbrev cX2_isFriend : ByteArray := prog_17_method_2_code
def yX2_isFriend : MethodName := ⟨RX2, "isFriend", "(I)Z"⟩
def dkwX2_isFriend_1 : List UInt8 := [3, 172]
abbrev dktX2_isFriend_1 : List UInt8 := dkwX2_isFriend_1 ++ []
def dkwX2_isFriend_0 : List UInt8 := [27, 42, 180, 0, 15, 159, 0, 15, 42, 180, 0, 19, 27, 122, 4, 126, 4, 160, 0, 7, 4, 167, 0, 4]
abbrev dktX2_isFriend_0 : List UInt8 := dkwX2_isFriend_0 ++ dktX2_isFriend_1
theorem dksX2_isFriend_0 : cX2_isFriend.data.toList.drop 0 = dktX2_isFriend_0 := by decide +kernel
theorem dksX2_isFriend_1 : cX2_isFriend.data.toList.drop 24 = dktX2_isFriend_1 := dk_seg dksX2_isFriend_0 24 rfl rfl
theorem dX2_isFriend_0 : decode cX2_isFriend 0 = .ok (.iload_n 1, 1) := dk_27 (dk_at dksX2_isFriend_0 0 rfl rfl)
theorem dX2_isFriend_1 : decode cX2_isFriend 1 = .ok (.aload_n 0, 1) := dk_42 (dk_at dksX2_isFriend_0 1 rfl rfl)
theorem dX2_isFriend_2 : decode cX2_isFriend 2 = .ok (.getfield 15, 3) := dk_180 0 15 (dk_at dksX2_isFriend_0 2 rfl rfl)
theorem dX2_isFriend_5 : decode cX2_isFriend 5 = .ok (.if_icmp .eq 15, 3) := dk_159 0 15 (dk_at dksX2_isFriend_0 5 rfl rfl)
theorem dX2_isFriend_8 : decode cX2_isFriend 8 = .ok (.aload_n 0, 1) := dk_42 (dk_at dksX2_isFriend_0 8 rfl rfl)
theorem dX2_isFriend_9 : decode cX2_isFriend 9 = .ok (.getfield 19, 3) := dk_180 0 19 (dk_at dksX2_isFriend_0 9 rfl rfl)
theorem dX2_isFriend_12 : decode cX2_isFriend 12 = .ok (.iload_n 1, 1) := dk_27 (dk_at dksX2_isFriend_0 12 rfl rfl)
theorem dX2_isFriend_13 : decode cX2_isFriend 13 = .ok (.ishr, 1) := dk_122 (dk_at dksX2_isFriend_0 13 rfl rfl)
theorem dX2_isFriend_14 : decode cX2_isFriend 14 = .ok (.iconst 1, 1) := dk_4 (dk_at dksX2_isFriend_0 14 rfl rfl)
theorem dX2_isFriend_15 : decode cX2_isFriend 15 = .ok (.iand, 1) := dk_126 (dk_at dksX2_isFriend_0 15 rfl rfl)
theorem dX2_isFriend_16 : decode cX2_isFriend 16 = .ok (.iconst 1, 1) := dk_4 (dk_at dksX2_isFriend_0 16 rfl rfl)
theorem dX2_isFriend_17 : decode cX2_isFriend 17 = .ok (.if_icmp .ne 7, 3) := dk_160 0 7 (dk_at dksX2_isFriend_0 17 rfl rfl)
theorem dX2_isFriend_20 : decode cX2_isFriend 20 = .ok (.iconst 1, 1) := dk_4 (dk_at dksX2_isFriend_0 20 rfl rfl)
theorem dX2_isFriend_21 : decode cX2_isFriend 21 = .ok (.goto 4, 3) := dk_167 0 4 (dk_at dksX2_isFriend_0 21 rfl rfl)
theorem dX2_isFriend_24 : decode cX2_isFriend 24 = .ok (.iconst 0, 1) := dk_3 (dk_at dksX2_isFriend_1 0 rfl rfl)
theorem dX2_isFriend_25 : decode cX2_isFriend 25 = .ok (.ireturn, 1) := dk_172 (dk_at dksX2_isFriend_1 1 rfl rfl)
abbrev cX2_eyes : ByteArray := prog_17_method_4_code
def yX2_eyes : MethodName := ⟨RX2, "eyes", "(II)I"⟩
def dkwX2_eyes_2 : List UInt8 := [42, 180, 0, 3, 27, 28, 182, 0, 42, 172]
abbrev dktX2_eyes_2 : List UInt8 := dkwX2_eyes_2 ++ []
def dkwX2_eyes_1 : List UInt8 := [180, 0, 3, 180, 0, 29, 180, 0, 33, 27, 46, 164, 0, 13, 42, 180, 0, 3, 180, 0, 39, 167, 0, 12]
abbrev dktX2_eyes_1 : List UInt8 := dkwX2_eyes_1 ++ dktX2_eyes_2
def dkwX2_eyes_0 : List UInt8 := [42, 180, 0, 3, 27, 28, 182, 0, 22, 62, 29, 2, 159, 0, 7, 29, 167, 0, 41, 42, 180, 0, 26, 42]
abbrev dktX2_eyes_0 : List UInt8 := dkwX2_eyes_0 ++ dktX2_eyes_1
theorem dksX2_eyes_0 : cX2_eyes.data.toList.drop 0 = dktX2_eyes_0 := by decide +kernel
theorem dksX2_eyes_1 : cX2_eyes.data.toList.drop 24 = dktX2_eyes_1 := dk_seg dksX2_eyes_0 24 rfl rfl
theorem dksX2_eyes_2 : cX2_eyes.data.toList.drop 48 = dktX2_eyes_2 := dk_seg dksX2_eyes_1 24 rfl rfl
theorem dX2_eyes_0 : decode cX2_eyes 0 = .ok (.aload_n 0, 1) := dk_42 (dk_at dksX2_eyes_0 0 rfl rfl)
theorem dX2_eyes_1 : decode cX2_eyes 1 = .ok (.getfield 3, 3) := dk_180 0 3 (dk_at dksX2_eyes_0 1 rfl rfl)
theorem dX2_eyes_4 : decode cX2_eyes 4 = .ok (.iload_n 1, 1) := dk_27 (dk_at dksX2_eyes_0 4 rfl rfl)
theorem dX2_eyes_5 : decode cX2_eyes 5 = .ok (.iload_n 2, 1) := dk_28 (dk_at dksX2_eyes_0 5 rfl rfl)
theorem dX2_eyes_6 : decode cX2_eyes 6 = .ok (.invokevirtual 22, 3) := dk_182 0 22 (dk_at dksX2_eyes_0 6 rfl rfl)
theorem dX2_eyes_9 : decode cX2_eyes 9 = .ok (.istore_n 3, 1) := dk_62 (dk_at dksX2_eyes_0 9 rfl rfl)
theorem dX2_eyes_10 : decode cX2_eyes 10 = .ok (.iload_n 3, 1) := dk_29 (dk_at dksX2_eyes_0 10 rfl rfl)
theorem dX2_eyes_11 : decode cX2_eyes 11 = .ok (.iconst (-1), 1) := dk_2 (dk_at dksX2_eyes_0 11 rfl rfl)
theorem dX2_eyes_12 : decode cX2_eyes 12 = .ok (.if_icmp .eq 7, 3) := dk_159 0 7 (dk_at dksX2_eyes_0 12 rfl rfl)
theorem dX2_eyes_15 : decode cX2_eyes 15 = .ok (.iload_n 3, 1) := dk_29 (dk_at dksX2_eyes_0 15 rfl rfl)
theorem dX2_eyes_16 : decode cX2_eyes 16 = .ok (.goto 41, 3) := dk_167 0 41 (dk_at dksX2_eyes_0 16 rfl rfl)
theorem dX2_eyes_19 : decode cX2_eyes 19 = .ok (.aload_n 0, 1) := dk_42 (dk_at dksX2_eyes_0 19 rfl rfl)
theorem dX2_eyes_20 : decode cX2_eyes 20 = .ok (.getfield 26, 3) := dk_180 0 26 (dk_at dksX2_eyes_0 20 rfl rfl)
theorem dX2_eyes_23 : decode cX2_eyes 23 = .ok (.aload_n 0, 1) := dk_42 (dk_at dksX2_eyes_0 23 rfl rfl)
theorem dX2_eyes_24 : decode cX2_eyes 24 = .ok (.getfield 3, 3) := dk_180 0 3 (dk_at dksX2_eyes_1 0 rfl rfl)
theorem dX2_eyes_27 : decode cX2_eyes 27 = .ok (.getfield 29, 3) := dk_180 0 29 (dk_at dksX2_eyes_1 3 rfl rfl)
theorem dX2_eyes_30 : decode cX2_eyes 30 = .ok (.getfield 33, 3) := dk_180 0 33 (dk_at dksX2_eyes_1 6 rfl rfl)
theorem dX2_eyes_33 : decode cX2_eyes 33 = .ok (.iload_n 1, 1) := dk_27 (dk_at dksX2_eyes_1 9 rfl rfl)
theorem dX2_eyes_34 : decode cX2_eyes 34 = .ok (.iaload, 1) := dk_46 (dk_at dksX2_eyes_1 10 rfl rfl)
theorem dX2_eyes_35 : decode cX2_eyes 35 = .ok (.if_icmp .le 13, 3) := dk_164 0 13 (dk_at dksX2_eyes_1 11 rfl rfl)
theorem dX2_eyes_38 : decode cX2_eyes 38 = .ok (.aload_n 0, 1) := dk_42 (dk_at dksX2_eyes_1 14 rfl rfl)
theorem dX2_eyes_39 : decode cX2_eyes 39 = .ok (.getfield 3, 3) := dk_180 0 3 (dk_at dksX2_eyes_1 15 rfl rfl)
theorem dX2_eyes_42 : decode cX2_eyes 42 = .ok (.getfield 39, 3) := dk_180 0 39 (dk_at dksX2_eyes_1 18 rfl rfl)
theorem dX2_eyes_45 : decode cX2_eyes 45 = .ok (.goto 12, 3) := dk_167 0 12 (dk_at dksX2_eyes_1 21 rfl rfl)
theorem dX2_eyes_48 : decode cX2_eyes 48 = .ok (.aload_n 0, 1) := dk_42 (dk_at dksX2_eyes_2 0 rfl rfl)
theorem dX2_eyes_49 : decode cX2_eyes 49 = .ok (.getfield 3, 3) := dk_180 0 3 (dk_at dksX2_eyes_2 1 rfl rfl)
theorem dX2_eyes_52 : decode cX2_eyes 52 = .ok (.iload_n 1, 1) := dk_27 (dk_at dksX2_eyes_2 4 rfl rfl)
theorem dX2_eyes_53 : decode cX2_eyes 53 = .ok (.iload_n 2, 1) := dk_28 (dk_at dksX2_eyes_2 5 rfl rfl)
theorem dX2_eyes_54 : decode cX2_eyes 54 = .ok (.invokevirtual 42, 3) := dk_182 0 42 (dk_at dksX2_eyes_2 6 rfl rfl)
theorem dX2_eyes_57 : decode cX2_eyes 57 = .ok (.ireturn, 1) := dk_172 (dk_at dksX2_eyes_2 9 rfl rfl)
abbrev cX2_isHidden : ByteArray := prog_17_method_11_code
def yX2_isHidden : MethodName := ⟨RX2, "isHidden", "(II)Z"⟩
def dkwX2_isHidden_4 : List UInt8 := [180, 0, 92, 28, 182, 0, 59, 153, 0, 5, 3, 172, 132, 3, 1, 167, 255, 153, 4, 172]
abbrev dktX2_isHidden_4 : List UInt8 := dkwX2_isHidden_4 ++ []
def dkwX2_isHidden_3 : List UInt8 := [182, 0, 59, 154, 0, 29, 42, 29, 42, 180, 0, 83, 28, 182, 0, 59, 154, 0, 16, 42, 29, 42]
abbrev dktX2_isHidden_3 : List UInt8 := dkwX2_isHidden_3 ++ dktX2_isHidden_4
def dkwX2_isHidden_2 : List UInt8 := [153, 0, 7, 4, 167, 0, 4, 3, 54, 4, 21, 4, 154, 0, 42, 42, 29, 42, 180, 0, 15, 28]
abbrev dktX2_isHidden_2 : List UInt8 := dkwX2_isHidden_2 ++ dktX2_isHidden_3
def dkwX2_isHidden_1 : List UInt8 := [42, 180, 0, 63, 27, 122, 4, 126, 154, 0, 21, 42, 29, 42, 27, 182, 0, 70, 28, 182, 0, 89]
abbrev dktX2_isHidden_1 : List UInt8 := dkwX2_isHidden_1 ++ dktX2_isHidden_2
def dkwX2_isHidden_0 : List UInt8 := [3, 62, 29, 42, 180, 0, 3, 180, 0, 39, 162, 0, 98, 42, 29, 182, 0, 55, 153, 0, 6, 167, 0, 81]
abbrev dktX2_isHidden_0 : List UInt8 := dkwX2_isHidden_0 ++ dktX2_isHidden_1
theorem dksX2_isHidden_0 : cX2_isHidden.data.toList.drop 0 = dktX2_isHidden_0 := by decide +kernel
theorem dksX2_isHidden_1 : cX2_isHidden.data.toList.drop 24 = dktX2_isHidden_1 := dk_seg dksX2_isHidden_0 24 rfl rfl
theorem dksX2_isHidden_2 : cX2_isHidden.data.toList.drop 46 = dktX2_isHidden_2 := dk_seg dksX2_isHidden_1 22 rfl rfl
theorem dksX2_isHidden_3 : cX2_isHidden.data.toList.drop 68 = dktX2_isHidden_3 := dk_seg dksX2_isHidden_2 22 rfl rfl
theorem dksX2_isHidden_4 : cX2_isHidden.data.toList.drop 90 = dktX2_isHidden_4 := dk_seg dksX2_isHidden_3 22 rfl rfl
theorem dX2_isHidden_0 : decode cX2_isHidden 0 = .ok (.iconst 0, 1) := dk_3 (dk_at dksX2_isHidden_0 0 rfl rfl)
theorem dX2_isHidden_1 : decode cX2_isHidden 1 = .ok (.istore_n 3, 1) := dk_62 (dk_at dksX2_isHidden_0 1 rfl rfl)
theorem dX2_isHidden_2 : decode cX2_isHidden 2 = .ok (.iload_n 3, 1) := dk_29 (dk_at dksX2_isHidden_0 2 rfl rfl)
theorem dX2_isHidden_3 : decode cX2_isHidden 3 = .ok (.aload_n 0, 1) := dk_42 (dk_at dksX2_isHidden_0 3 rfl rfl)
theorem dX2_isHidden_4 : decode cX2_isHidden 4 = .ok (.getfield 3, 3) := dk_180 0 3 (dk_at dksX2_isHidden_0 4 rfl rfl)
theorem dX2_isHidden_7 : decode cX2_isHidden 7 = .ok (.getfield 39, 3) := dk_180 0 39 (dk_at dksX2_isHidden_0 7 rfl rfl)
theorem dX2_isHidden_10 : decode cX2_isHidden 10 = .ok (.if_icmp .ge 98, 3) := dk_162 0 98 (dk_at dksX2_isHidden_0 10 rfl rfl)
theorem dX2_isHidden_13 : decode cX2_isHidden 13 = .ok (.aload_n 0, 1) := dk_42 (dk_at dksX2_isHidden_0 13 rfl rfl)
theorem dX2_isHidden_14 : decode cX2_isHidden 14 = .ok (.iload_n 3, 1) := dk_29 (dk_at dksX2_isHidden_0 14 rfl rfl)
theorem dX2_isHidden_15 : decode cX2_isHidden 15 = .ok (.invokevirtual 55, 3) := dk_182 0 55 (dk_at dksX2_isHidden_0 15 rfl rfl)
theorem dX2_isHidden_18 : decode cX2_isHidden 18 = .ok (.ifCond .eq 6, 3) := dk_153 0 6 (dk_at dksX2_isHidden_0 18 rfl rfl)
theorem dX2_isHidden_21 : decode cX2_isHidden 21 = .ok (.goto 81, 3) := dk_167 0 81 (dk_at dksX2_isHidden_0 21 rfl rfl)
theorem dX2_isHidden_24 : decode cX2_isHidden 24 = .ok (.aload_n 0, 1) := dk_42 (dk_at dksX2_isHidden_1 0 rfl rfl)
theorem dX2_isHidden_25 : decode cX2_isHidden 25 = .ok (.getfield 63, 3) := dk_180 0 63 (dk_at dksX2_isHidden_1 1 rfl rfl)
theorem dX2_isHidden_28 : decode cX2_isHidden 28 = .ok (.iload_n 1, 1) := dk_27 (dk_at dksX2_isHidden_1 4 rfl rfl)
theorem dX2_isHidden_29 : decode cX2_isHidden 29 = .ok (.ishr, 1) := dk_122 (dk_at dksX2_isHidden_1 5 rfl rfl)
theorem dX2_isHidden_30 : decode cX2_isHidden 30 = .ok (.iconst 1, 1) := dk_4 (dk_at dksX2_isHidden_1 6 rfl rfl)
theorem dX2_isHidden_31 : decode cX2_isHidden 31 = .ok (.iand, 1) := dk_126 (dk_at dksX2_isHidden_1 7 rfl rfl)
theorem dX2_isHidden_32 : decode cX2_isHidden 32 = .ok (.ifCond .ne 21, 3) := dk_154 0 21 (dk_at dksX2_isHidden_1 8 rfl rfl)
theorem dX2_isHidden_35 : decode cX2_isHidden 35 = .ok (.aload_n 0, 1) := dk_42 (dk_at dksX2_isHidden_1 11 rfl rfl)
theorem dX2_isHidden_36 : decode cX2_isHidden 36 = .ok (.iload_n 3, 1) := dk_29 (dk_at dksX2_isHidden_1 12 rfl rfl)
theorem dX2_isHidden_37 : decode cX2_isHidden 37 = .ok (.aload_n 0, 1) := dk_42 (dk_at dksX2_isHidden_1 13 rfl rfl)
theorem dX2_isHidden_38 : decode cX2_isHidden 38 = .ok (.iload_n 1, 1) := dk_27 (dk_at dksX2_isHidden_1 14 rfl rfl)
theorem dX2_isHidden_39 : decode cX2_isHidden 39 = .ok (.invokevirtual 70, 3) := dk_182 0 70 (dk_at dksX2_isHidden_1 15 rfl rfl)
theorem dX2_isHidden_42 : decode cX2_isHidden 42 = .ok (.iload_n 2, 1) := dk_28 (dk_at dksX2_isHidden_1 18 rfl rfl)
theorem dX2_isHidden_43 : decode cX2_isHidden 43 = .ok (.invokevirtual 89, 3) := dk_182 0 89 (dk_at dksX2_isHidden_1 19 rfl rfl)
theorem dX2_isHidden_46 : decode cX2_isHidden 46 = .ok (.ifCond .eq 7, 3) := dk_153 0 7 (dk_at dksX2_isHidden_2 0 rfl rfl)
theorem dX2_isHidden_49 : decode cX2_isHidden 49 = .ok (.iconst 1, 1) := dk_4 (dk_at dksX2_isHidden_2 3 rfl rfl)
theorem dX2_isHidden_50 : decode cX2_isHidden 50 = .ok (.goto 4, 3) := dk_167 0 4 (dk_at dksX2_isHidden_2 4 rfl rfl)
theorem dX2_isHidden_53 : decode cX2_isHidden 53 = .ok (.iconst 0, 1) := dk_3 (dk_at dksX2_isHidden_2 7 rfl rfl)
theorem dX2_isHidden_54 : decode cX2_isHidden 54 = .ok (.istore 4, 2) := dk_54 4 (dk_at dksX2_isHidden_2 8 rfl rfl)
theorem dX2_isHidden_56 : decode cX2_isHidden 56 = .ok (.iload 4, 2) := dk_21 4 (dk_at dksX2_isHidden_2 10 rfl rfl)
theorem dX2_isHidden_58 : decode cX2_isHidden 58 = .ok (.ifCond .ne 42, 3) := dk_154 0 42 (dk_at dksX2_isHidden_2 12 rfl rfl)
theorem dX2_isHidden_61 : decode cX2_isHidden 61 = .ok (.aload_n 0, 1) := dk_42 (dk_at dksX2_isHidden_2 15 rfl rfl)
theorem dX2_isHidden_62 : decode cX2_isHidden 62 = .ok (.iload_n 3, 1) := dk_29 (dk_at dksX2_isHidden_2 16 rfl rfl)
theorem dX2_isHidden_63 : decode cX2_isHidden 63 = .ok (.aload_n 0, 1) := dk_42 (dk_at dksX2_isHidden_2 17 rfl rfl)
theorem dX2_isHidden_64 : decode cX2_isHidden 64 = .ok (.getfield 15, 3) := dk_180 0 15 (dk_at dksX2_isHidden_2 18 rfl rfl)
theorem dX2_isHidden_67 : decode cX2_isHidden 67 = .ok (.iload_n 2, 1) := dk_28 (dk_at dksX2_isHidden_2 21 rfl rfl)
theorem dX2_isHidden_68 : decode cX2_isHidden 68 = .ok (.invokevirtual 59, 3) := dk_182 0 59 (dk_at dksX2_isHidden_3 0 rfl rfl)
theorem dX2_isHidden_71 : decode cX2_isHidden 71 = .ok (.ifCond .ne 29, 3) := dk_154 0 29 (dk_at dksX2_isHidden_3 3 rfl rfl)
theorem dX2_isHidden_74 : decode cX2_isHidden 74 = .ok (.aload_n 0, 1) := dk_42 (dk_at dksX2_isHidden_3 6 rfl rfl)
theorem dX2_isHidden_75 : decode cX2_isHidden 75 = .ok (.iload_n 3, 1) := dk_29 (dk_at dksX2_isHidden_3 7 rfl rfl)
theorem dX2_isHidden_76 : decode cX2_isHidden 76 = .ok (.aload_n 0, 1) := dk_42 (dk_at dksX2_isHidden_3 8 rfl rfl)
theorem dX2_isHidden_77 : decode cX2_isHidden 77 = .ok (.getfield 83, 3) := dk_180 0 83 (dk_at dksX2_isHidden_3 9 rfl rfl)
theorem dX2_isHidden_80 : decode cX2_isHidden 80 = .ok (.iload_n 2, 1) := dk_28 (dk_at dksX2_isHidden_3 12 rfl rfl)
theorem dX2_isHidden_81 : decode cX2_isHidden 81 = .ok (.invokevirtual 59, 3) := dk_182 0 59 (dk_at dksX2_isHidden_3 13 rfl rfl)
theorem dX2_isHidden_84 : decode cX2_isHidden 84 = .ok (.ifCond .ne 16, 3) := dk_154 0 16 (dk_at dksX2_isHidden_3 16 rfl rfl)
theorem dX2_isHidden_87 : decode cX2_isHidden 87 = .ok (.aload_n 0, 1) := dk_42 (dk_at dksX2_isHidden_3 19 rfl rfl)
theorem dX2_isHidden_88 : decode cX2_isHidden 88 = .ok (.iload_n 3, 1) := dk_29 (dk_at dksX2_isHidden_3 20 rfl rfl)
theorem dX2_isHidden_89 : decode cX2_isHidden 89 = .ok (.aload_n 0, 1) := dk_42 (dk_at dksX2_isHidden_3 21 rfl rfl)
theorem dX2_isHidden_90 : decode cX2_isHidden 90 = .ok (.getfield 92, 3) := dk_180 0 92 (dk_at dksX2_isHidden_4 0 rfl rfl)
theorem dX2_isHidden_93 : decode cX2_isHidden 93 = .ok (.iload_n 2, 1) := dk_28 (dk_at dksX2_isHidden_4 3 rfl rfl)
theorem dX2_isHidden_94 : decode cX2_isHidden 94 = .ok (.invokevirtual 59, 3) := dk_182 0 59 (dk_at dksX2_isHidden_4 4 rfl rfl)
theorem dX2_isHidden_97 : decode cX2_isHidden 97 = .ok (.ifCond .eq 5, 3) := dk_153 0 5 (dk_at dksX2_isHidden_4 7 rfl rfl)
theorem dX2_isHidden_100 : decode cX2_isHidden 100 = .ok (.iconst 0, 1) := dk_3 (dk_at dksX2_isHidden_4 10 rfl rfl)
theorem dX2_isHidden_101 : decode cX2_isHidden 101 = .ok (.ireturn, 1) := dk_172 (dk_at dksX2_isHidden_4 11 rfl rfl)
theorem dX2_isHidden_102 : decode cX2_isHidden 102 = .ok (.iinc 3 1, 3) := dk_132 3 1 (dk_at dksX2_isHidden_4 12 rfl rfl)
theorem dX2_isHidden_105 : decode cX2_isHidden 105 = .ok (.goto (-103), 3) := dk_167 255 153 (dk_at dksX2_isHidden_4 15 rfl rfl)
theorem dX2_isHidden_108 : decode cX2_isHidden 108 = .ok (.iconst 1, 1) := dk_4 (dk_at dksX2_isHidden_4 18 rfl rfl)
theorem dX2_isHidden_109 : decode cX2_isHidden 109 = .ok (.ireturn, 1) := dk_172 (dk_at dksX2_isHidden_4 19 rfl rfl)
abbrev cX2_hand : ByteArray := prog_17_method_3_code
def yX2_hand : MethodName := ⟨RX2, "hand", "(I)I"⟩
def dkwX2_hand_0 : List UInt8 := [5, 42, 180, 0, 15, 104, 27, 96, 172]
abbrev dktX2_hand_0 : List UInt8 := dkwX2_hand_0 ++ []
theorem dksX2_hand_0 : cX2_hand.data.toList.drop 0 = dktX2_hand_0 := by decide +kernel
theorem dX2_hand_0 : decode cX2_hand 0 = .ok (.iconst 2, 1) := dk_5 (dk_at dksX2_hand_0 0 rfl rfl)
theorem dX2_hand_1 : decode cX2_hand 1 = .ok (.aload_n 0, 1) := dk_42 (dk_at dksX2_hand_0 1 rfl rfl)
theorem dX2_hand_2 : decode cX2_hand 2 = .ok (.getfield 15, 3) := dk_180 0 15 (dk_at dksX2_hand_0 2 rfl rfl)
theorem dX2_hand_5 : decode cX2_hand 5 = .ok (.imul, 1) := dk_104 (dk_at dksX2_hand_0 5 rfl rfl)
theorem dX2_hand_6 : decode cX2_hand 6 = .ok (.iload_n 1, 1) := dk_27 (dk_at dksX2_hand_0 6 rfl rfl)
theorem dX2_hand_7 : decode cX2_hand 7 = .ok (.iadd, 1) := dk_96 (dk_at dksX2_hand_0 7 rfl rfl)
theorem dX2_hand_8 : decode cX2_hand 8 = .ok (.ireturn, 1) := dk_172 (dk_at dksX2_hand_0 8 rfl rfl)
abbrev cX2_feels : ByteArray := prog_17_method_8_code
def yX2_feels : MethodName := ⟨RX2, "feels", "(III)Z"⟩
def dkwX2_feels_1 : List UInt8 := [180, 0, 29, 180, 0, 66, 5, 27, 104, 4, 96, 50, 29, 46, 28, 160, 0, 7, 4, 167, 0, 4, 3, 172]
abbrev dktX2_feels_1 : List UInt8 := dkwX2_feels_1 ++ []
def dkwX2_feels_0 : List UInt8 := [42, 180, 0, 3, 180, 0, 29, 180, 0, 66, 5, 27, 104, 50, 29, 46, 28, 159, 0, 25, 42, 180, 0, 3]
abbrev dktX2_feels_0 : List UInt8 := dkwX2_feels_0 ++ dktX2_feels_1
theorem dksX2_feels_0 : cX2_feels.data.toList.drop 0 = dktX2_feels_0 := by decide +kernel
theorem dksX2_feels_1 : cX2_feels.data.toList.drop 24 = dktX2_feels_1 := dk_seg dksX2_feels_0 24 rfl rfl
theorem dX2_feels_0 : decode cX2_feels 0 = .ok (.aload_n 0, 1) := dk_42 (dk_at dksX2_feels_0 0 rfl rfl)
theorem dX2_feels_1 : decode cX2_feels 1 = .ok (.getfield 3, 3) := dk_180 0 3 (dk_at dksX2_feels_0 1 rfl rfl)
theorem dX2_feels_4 : decode cX2_feels 4 = .ok (.getfield 29, 3) := dk_180 0 29 (dk_at dksX2_feels_0 4 rfl rfl)
theorem dX2_feels_7 : decode cX2_feels 7 = .ok (.getfield 66, 3) := dk_180 0 66 (dk_at dksX2_feels_0 7 rfl rfl)
theorem dX2_feels_10 : decode cX2_feels 10 = .ok (.iconst 2, 1) := dk_5 (dk_at dksX2_feels_0 10 rfl rfl)
theorem dX2_feels_11 : decode cX2_feels 11 = .ok (.iload_n 1, 1) := dk_27 (dk_at dksX2_feels_0 11 rfl rfl)
theorem dX2_feels_12 : decode cX2_feels 12 = .ok (.imul, 1) := dk_104 (dk_at dksX2_feels_0 12 rfl rfl)
theorem dX2_feels_13 : decode cX2_feels 13 = .ok (.aaload, 1) := dk_50 (dk_at dksX2_feels_0 13 rfl rfl)
theorem dX2_feels_14 : decode cX2_feels 14 = .ok (.iload_n 3, 1) := dk_29 (dk_at dksX2_feels_0 14 rfl rfl)
theorem dX2_feels_15 : decode cX2_feels 15 = .ok (.iaload, 1) := dk_46 (dk_at dksX2_feels_0 15 rfl rfl)
theorem dX2_feels_16 : decode cX2_feels 16 = .ok (.iload_n 2, 1) := dk_28 (dk_at dksX2_feels_0 16 rfl rfl)
theorem dX2_feels_17 : decode cX2_feels 17 = .ok (.if_icmp .eq 25, 3) := dk_159 0 25 (dk_at dksX2_feels_0 17 rfl rfl)
theorem dX2_feels_20 : decode cX2_feels 20 = .ok (.aload_n 0, 1) := dk_42 (dk_at dksX2_feels_0 20 rfl rfl)
theorem dX2_feels_21 : decode cX2_feels 21 = .ok (.getfield 3, 3) := dk_180 0 3 (dk_at dksX2_feels_0 21 rfl rfl)
theorem dX2_feels_24 : decode cX2_feels 24 = .ok (.getfield 29, 3) := dk_180 0 29 (dk_at dksX2_feels_1 0 rfl rfl)
theorem dX2_feels_27 : decode cX2_feels 27 = .ok (.getfield 66, 3) := dk_180 0 66 (dk_at dksX2_feels_1 3 rfl rfl)
theorem dX2_feels_30 : decode cX2_feels 30 = .ok (.iconst 2, 1) := dk_5 (dk_at dksX2_feels_1 6 rfl rfl)
theorem dX2_feels_31 : decode cX2_feels 31 = .ok (.iload_n 1, 1) := dk_27 (dk_at dksX2_feels_1 7 rfl rfl)
theorem dX2_feels_32 : decode cX2_feels 32 = .ok (.imul, 1) := dk_104 (dk_at dksX2_feels_1 8 rfl rfl)
theorem dX2_feels_33 : decode cX2_feels 33 = .ok (.iconst 1, 1) := dk_4 (dk_at dksX2_feels_1 9 rfl rfl)
theorem dX2_feels_34 : decode cX2_feels 34 = .ok (.iadd, 1) := dk_96 (dk_at dksX2_feels_1 10 rfl rfl)
theorem dX2_feels_35 : decode cX2_feels 35 = .ok (.aaload, 1) := dk_50 (dk_at dksX2_feels_1 11 rfl rfl)
theorem dX2_feels_36 : decode cX2_feels 36 = .ok (.iload_n 3, 1) := dk_29 (dk_at dksX2_feels_1 12 rfl rfl)
theorem dX2_feels_37 : decode cX2_feels 37 = .ok (.iaload, 1) := dk_46 (dk_at dksX2_feels_1 13 rfl rfl)
theorem dX2_feels_38 : decode cX2_feels 38 = .ok (.iload_n 2, 1) := dk_28 (dk_at dksX2_feels_1 14 rfl rfl)
theorem dX2_feels_39 : decode cX2_feels 39 = .ok (.if_icmp .ne 7, 3) := dk_160 0 7 (dk_at dksX2_feels_1 15 rfl rfl)
theorem dX2_feels_42 : decode cX2_feels 42 = .ok (.iconst 1, 1) := dk_4 (dk_at dksX2_feels_1 18 rfl rfl)
theorem dX2_feels_43 : decode cX2_feels 43 = .ok (.goto 4, 3) := dk_167 0 4 (dk_at dksX2_feels_1 19 rfl rfl)
theorem dX2_feels_46 : decode cX2_feels 46 = .ok (.iconst 0, 1) := dk_3 (dk_at dksX2_feels_1 22 rfl rfl)
theorem dX2_feels_47 : decode cX2_feels 47 = .ok (.ireturn, 1) := dk_172 (dk_at dksX2_feels_1 23 rfl rfl)
abbrev cX2_isSeen : ByteArray := prog_17_method_5_code
def yX2_isSeen : MethodName := ⟨RX2, "isSeen", "(III)Z"⟩
def dkwX2_isSeen_1 : List UInt8 := [180, 0, 29, 180, 0, 52, 27, 46, 161, 0, 7, 4, 167, 0, 4, 3, 172]
abbrev dktX2_isSeen_1 : List UInt8 := dkwX2_isSeen_1 ++ []
def dkwX2_isSeen_0 : List UInt8 := [42, 27, 29, 182, 0, 45, 28, 160, 0, 30, 42, 180, 0, 3, 29, 182, 0, 48, 42, 180, 0, 3]
abbrev dktX2_isSeen_0 : List UInt8 := dkwX2_isSeen_0 ++ dktX2_isSeen_1
theorem dksX2_isSeen_0 : cX2_isSeen.data.toList.drop 0 = dktX2_isSeen_0 := by decide +kernel
theorem dksX2_isSeen_1 : cX2_isSeen.data.toList.drop 22 = dktX2_isSeen_1 := dk_seg dksX2_isSeen_0 22 rfl rfl
theorem dX2_isSeen_0 : decode cX2_isSeen 0 = .ok (.aload_n 0, 1) := dk_42 (dk_at dksX2_isSeen_0 0 rfl rfl)
theorem dX2_isSeen_1 : decode cX2_isSeen 1 = .ok (.iload_n 1, 1) := dk_27 (dk_at dksX2_isSeen_0 1 rfl rfl)
theorem dX2_isSeen_2 : decode cX2_isSeen 2 = .ok (.iload_n 3, 1) := dk_29 (dk_at dksX2_isSeen_0 2 rfl rfl)
theorem dX2_isSeen_3 : decode cX2_isSeen 3 = .ok (.invokevirtual 45, 3) := dk_182 0 45 (dk_at dksX2_isSeen_0 3 rfl rfl)
theorem dX2_isSeen_6 : decode cX2_isSeen 6 = .ok (.iload_n 2, 1) := dk_28 (dk_at dksX2_isSeen_0 6 rfl rfl)
theorem dX2_isSeen_7 : decode cX2_isSeen 7 = .ok (.if_icmp .ne 30, 3) := dk_160 0 30 (dk_at dksX2_isSeen_0 7 rfl rfl)
theorem dX2_isSeen_10 : decode cX2_isSeen 10 = .ok (.aload_n 0, 1) := dk_42 (dk_at dksX2_isSeen_0 10 rfl rfl)
theorem dX2_isSeen_11 : decode cX2_isSeen 11 = .ok (.getfield 3, 3) := dk_180 0 3 (dk_at dksX2_isSeen_0 11 rfl rfl)
theorem dX2_isSeen_14 : decode cX2_isSeen 14 = .ok (.iload_n 3, 1) := dk_29 (dk_at dksX2_isSeen_0 14 rfl rfl)
theorem dX2_isSeen_15 : decode cX2_isSeen 15 = .ok (.invokevirtual 48, 3) := dk_182 0 48 (dk_at dksX2_isSeen_0 15 rfl rfl)
theorem dX2_isSeen_18 : decode cX2_isSeen 18 = .ok (.aload_n 0, 1) := dk_42 (dk_at dksX2_isSeen_0 18 rfl rfl)
theorem dX2_isSeen_19 : decode cX2_isSeen 19 = .ok (.getfield 3, 3) := dk_180 0 3 (dk_at dksX2_isSeen_0 19 rfl rfl)
theorem dX2_isSeen_22 : decode cX2_isSeen 22 = .ok (.getfield 29, 3) := dk_180 0 29 (dk_at dksX2_isSeen_1 0 rfl rfl)
theorem dX2_isSeen_25 : decode cX2_isSeen 25 = .ok (.getfield 52, 3) := dk_180 0 52 (dk_at dksX2_isSeen_1 3 rfl rfl)
theorem dX2_isSeen_28 : decode cX2_isSeen 28 = .ok (.iload_n 1, 1) := dk_27 (dk_at dksX2_isSeen_1 6 rfl rfl)
theorem dX2_isSeen_29 : decode cX2_isSeen 29 = .ok (.iaload, 1) := dk_46 (dk_at dksX2_isSeen_1 7 rfl rfl)
theorem dX2_isSeen_30 : decode cX2_isSeen 30 = .ok (.if_icmp .lt 7, 3) := dk_161 0 7 (dk_at dksX2_isSeen_1 8 rfl rfl)
theorem dX2_isSeen_33 : decode cX2_isSeen 33 = .ok (.iconst 1, 1) := dk_4 (dk_at dksX2_isSeen_1 11 rfl rfl)
theorem dX2_isSeen_34 : decode cX2_isSeen 34 = .ok (.goto 4, 3) := dk_167 0 4 (dk_at dksX2_isSeen_1 12 rfl rfl)
theorem dX2_isSeen_37 : decode cX2_isSeen 37 = .ok (.iconst 0, 1) := dk_3 (dk_at dksX2_isSeen_1 15 rfl rfl)
theorem dX2_isSeen_38 : decode cX2_isSeen 38 = .ok (.ireturn, 1) := dk_172 (dk_at dksX2_isSeen_1 16 rfl rfl)
abbrev cX2_isFreeNow : ByteArray := prog_17_method_7_code
def yX2_isFreeNow : MethodName := ⟨RX2, "isFreeNow", "(II)Z"⟩
def dkwX2_isFreeNow_3 : List UInt8 := [172]
abbrev dktX2_isFreeNow_3 : List UInt8 := dkwX2_isFreeNow_3 ++ []
def dkwX2_isFreeNow_2 : List UInt8 := [154, 0, 7, 4, 167, 0, 20, 3, 167, 0, 16, 42, 180, 0, 3, 42, 27, 182, 0, 70, 28, 182, 0, 77]
abbrev dktX2_isFreeNow_2 : List UInt8 := dkwX2_isFreeNow_2 ++ dktX2_isFreeNow_3
def dkwX2_isFreeNow_1 : List UInt8 := [182, 0, 70, 50, 28, 46, 2, 160, 0, 23, 42, 180, 0, 3, 42, 27, 182, 0, 70, 28, 182, 0, 73]
abbrev dktX2_isFreeNow_1 : List UInt8 := dkwX2_isFreeNow_1 ++ dktX2_isFreeNow_2
def dkwX2_isFreeNow_0 : List UInt8 := [42, 180, 0, 63, 27, 122, 4, 126, 4, 160, 0, 49, 42, 180, 0, 3, 180, 0, 29, 180, 0, 66, 42, 27]
abbrev dktX2_isFreeNow_0 : List UInt8 := dkwX2_isFreeNow_0 ++ dktX2_isFreeNow_1
theorem dksX2_isFreeNow_0 : cX2_isFreeNow.data.toList.drop 0 = dktX2_isFreeNow_0 := by decide +kernel
theorem dksX2_isFreeNow_1 : cX2_isFreeNow.data.toList.drop 24 = dktX2_isFreeNow_1 := dk_seg dksX2_isFreeNow_0 24 rfl rfl
theorem dksX2_isFreeNow_2 : cX2_isFreeNow.data.toList.drop 47 = dktX2_isFreeNow_2 := dk_seg dksX2_isFreeNow_1 23 rfl rfl
theorem dksX2_isFreeNow_3 : cX2_isFreeNow.data.toList.drop 71 = dktX2_isFreeNow_3 := dk_seg dksX2_isFreeNow_2 24 rfl rfl
theorem dX2_isFreeNow_0 : decode cX2_isFreeNow 0 = .ok (.aload_n 0, 1) := dk_42 (dk_at dksX2_isFreeNow_0 0 rfl rfl)
theorem dX2_isFreeNow_1 : decode cX2_isFreeNow 1 = .ok (.getfield 63, 3) := dk_180 0 63 (dk_at dksX2_isFreeNow_0 1 rfl rfl)
theorem dX2_isFreeNow_4 : decode cX2_isFreeNow 4 = .ok (.iload_n 1, 1) := dk_27 (dk_at dksX2_isFreeNow_0 4 rfl rfl)
theorem dX2_isFreeNow_5 : decode cX2_isFreeNow 5 = .ok (.ishr, 1) := dk_122 (dk_at dksX2_isFreeNow_0 5 rfl rfl)
theorem dX2_isFreeNow_6 : decode cX2_isFreeNow 6 = .ok (.iconst 1, 1) := dk_4 (dk_at dksX2_isFreeNow_0 6 rfl rfl)
theorem dX2_isFreeNow_7 : decode cX2_isFreeNow 7 = .ok (.iand, 1) := dk_126 (dk_at dksX2_isFreeNow_0 7 rfl rfl)
theorem dX2_isFreeNow_8 : decode cX2_isFreeNow 8 = .ok (.iconst 1, 1) := dk_4 (dk_at dksX2_isFreeNow_0 8 rfl rfl)
theorem dX2_isFreeNow_9 : decode cX2_isFreeNow 9 = .ok (.if_icmp .ne 49, 3) := dk_160 0 49 (dk_at dksX2_isFreeNow_0 9 rfl rfl)
theorem dX2_isFreeNow_12 : decode cX2_isFreeNow 12 = .ok (.aload_n 0, 1) := dk_42 (dk_at dksX2_isFreeNow_0 12 rfl rfl)
theorem dX2_isFreeNow_13 : decode cX2_isFreeNow 13 = .ok (.getfield 3, 3) := dk_180 0 3 (dk_at dksX2_isFreeNow_0 13 rfl rfl)
theorem dX2_isFreeNow_16 : decode cX2_isFreeNow 16 = .ok (.getfield 29, 3) := dk_180 0 29 (dk_at dksX2_isFreeNow_0 16 rfl rfl)
theorem dX2_isFreeNow_19 : decode cX2_isFreeNow 19 = .ok (.getfield 66, 3) := dk_180 0 66 (dk_at dksX2_isFreeNow_0 19 rfl rfl)
theorem dX2_isFreeNow_22 : decode cX2_isFreeNow 22 = .ok (.aload_n 0, 1) := dk_42 (dk_at dksX2_isFreeNow_0 22 rfl rfl)
theorem dX2_isFreeNow_23 : decode cX2_isFreeNow 23 = .ok (.iload_n 1, 1) := dk_27 (dk_at dksX2_isFreeNow_0 23 rfl rfl)
theorem dX2_isFreeNow_24 : decode cX2_isFreeNow 24 = .ok (.invokevirtual 70, 3) := dk_182 0 70 (dk_at dksX2_isFreeNow_1 0 rfl rfl)
theorem dX2_isFreeNow_27 : decode cX2_isFreeNow 27 = .ok (.aaload, 1) := dk_50 (dk_at dksX2_isFreeNow_1 3 rfl rfl)
theorem dX2_isFreeNow_28 : decode cX2_isFreeNow 28 = .ok (.iload_n 2, 1) := dk_28 (dk_at dksX2_isFreeNow_1 4 rfl rfl)
theorem dX2_isFreeNow_29 : decode cX2_isFreeNow 29 = .ok (.iaload, 1) := dk_46 (dk_at dksX2_isFreeNow_1 5 rfl rfl)
theorem dX2_isFreeNow_30 : decode cX2_isFreeNow 30 = .ok (.iconst (-1), 1) := dk_2 (dk_at dksX2_isFreeNow_1 6 rfl rfl)
theorem dX2_isFreeNow_31 : decode cX2_isFreeNow 31 = .ok (.if_icmp .ne 23, 3) := dk_160 0 23 (dk_at dksX2_isFreeNow_1 7 rfl rfl)
theorem dX2_isFreeNow_34 : decode cX2_isFreeNow 34 = .ok (.aload_n 0, 1) := dk_42 (dk_at dksX2_isFreeNow_1 10 rfl rfl)
theorem dX2_isFreeNow_35 : decode cX2_isFreeNow 35 = .ok (.getfield 3, 3) := dk_180 0 3 (dk_at dksX2_isFreeNow_1 11 rfl rfl)
theorem dX2_isFreeNow_38 : decode cX2_isFreeNow 38 = .ok (.aload_n 0, 1) := dk_42 (dk_at dksX2_isFreeNow_1 14 rfl rfl)
theorem dX2_isFreeNow_39 : decode cX2_isFreeNow 39 = .ok (.iload_n 1, 1) := dk_27 (dk_at dksX2_isFreeNow_1 15 rfl rfl)
theorem dX2_isFreeNow_40 : decode cX2_isFreeNow 40 = .ok (.invokevirtual 70, 3) := dk_182 0 70 (dk_at dksX2_isFreeNow_1 16 rfl rfl)
theorem dX2_isFreeNow_43 : decode cX2_isFreeNow 43 = .ok (.iload_n 2, 1) := dk_28 (dk_at dksX2_isFreeNow_1 19 rfl rfl)
theorem dX2_isFreeNow_44 : decode cX2_isFreeNow 44 = .ok (.invokevirtual 73, 3) := dk_182 0 73 (dk_at dksX2_isFreeNow_1 20 rfl rfl)
theorem dX2_isFreeNow_47 : decode cX2_isFreeNow 47 = .ok (.ifCond .ne 7, 3) := dk_154 0 7 (dk_at dksX2_isFreeNow_2 0 rfl rfl)
theorem dX2_isFreeNow_50 : decode cX2_isFreeNow 50 = .ok (.iconst 1, 1) := dk_4 (dk_at dksX2_isFreeNow_2 3 rfl rfl)
theorem dX2_isFreeNow_51 : decode cX2_isFreeNow 51 = .ok (.goto 20, 3) := dk_167 0 20 (dk_at dksX2_isFreeNow_2 4 rfl rfl)
theorem dX2_isFreeNow_54 : decode cX2_isFreeNow 54 = .ok (.iconst 0, 1) := dk_3 (dk_at dksX2_isFreeNow_2 7 rfl rfl)
theorem dX2_isFreeNow_55 : decode cX2_isFreeNow 55 = .ok (.goto 16, 3) := dk_167 0 16 (dk_at dksX2_isFreeNow_2 8 rfl rfl)
theorem dX2_isFreeNow_58 : decode cX2_isFreeNow 58 = .ok (.aload_n 0, 1) := dk_42 (dk_at dksX2_isFreeNow_2 11 rfl rfl)
theorem dX2_isFreeNow_59 : decode cX2_isFreeNow 59 = .ok (.getfield 3, 3) := dk_180 0 3 (dk_at dksX2_isFreeNow_2 12 rfl rfl)
theorem dX2_isFreeNow_62 : decode cX2_isFreeNow 62 = .ok (.aload_n 0, 1) := dk_42 (dk_at dksX2_isFreeNow_2 15 rfl rfl)
theorem dX2_isFreeNow_63 : decode cX2_isFreeNow 63 = .ok (.iload_n 1, 1) := dk_27 (dk_at dksX2_isFreeNow_2 16 rfl rfl)
theorem dX2_isFreeNow_64 : decode cX2_isFreeNow 64 = .ok (.invokevirtual 70, 3) := dk_182 0 70 (dk_at dksX2_isFreeNow_2 17 rfl rfl)
theorem dX2_isFreeNow_67 : decode cX2_isFreeNow 67 = .ok (.iload_n 2, 1) := dk_28 (dk_at dksX2_isFreeNow_2 20 rfl rfl)
theorem dX2_isFreeNow_68 : decode cX2_isFreeNow 68 = .ok (.invokevirtual 77, 3) := dk_182 0 77 (dk_at dksX2_isFreeNow_2 21 rfl rfl)
theorem dX2_isFreeNow_71 : decode cX2_isFreeNow 71 = .ok (.ireturn, 1) := dk_172 (dk_at dksX2_isFreeNow_3 0 rfl rfl)
abbrev cX2_isReady : ByteArray := prog_17_method_10_code
def yX2_isReady : MethodName := ⟨RX2, "isReady", "(II)Z"⟩
def dkwX2_isReady_4 : List UInt8 := [3, 172]
abbrev dktX2_isReady_4 : List UInt8 := dkwX2_isReady_4 ++ []
def dkwX2_isReady_3 : List UInt8 := [42, 180, 0, 3, 42, 27, 182, 0, 70, 29, 182, 0, 77, 153, 0, 5, 4, 172, 132, 3, 255, 167, 255, 172]
abbrev dktX2_isReady_3 : List UInt8 := dkwX2_isReady_3 ++ dktX2_isReady_4
def dkwX2_isReady_2 : List UInt8 := [180, 0, 3, 21, 4, 42, 180, 0, 83, 29, 182, 0, 86, 153, 0, 5, 3, 172, 132, 4, 1, 167, 255, 213]
abbrev dktX2_isReady_2 : List UInt8 := dkwX2_isReady_2 ++ dktX2_isReady_3
def dkwX2_isReady_1 : List UInt8 := [21, 4, 42, 180, 0, 3, 180, 0, 39, 162, 0, 37, 42, 21, 4, 182, 0, 55, 154, 0, 22, 42]
abbrev dktX2_isReady_1 : List UInt8 := dkwX2_isReady_1 ++ dktX2_isReady_2
def dkwX2_isReady_0 : List UInt8 := [42, 180, 0, 80, 4, 100, 62, 29, 155, 0, 86, 29, 42, 180, 0, 80, 28, 100, 161, 0, 76, 3, 54, 4]
abbrev dktX2_isReady_0 : List UInt8 := dkwX2_isReady_0 ++ dktX2_isReady_1
theorem dksX2_isReady_0 : cX2_isReady.data.toList.drop 0 = dktX2_isReady_0 := by decide +kernel
theorem dksX2_isReady_1 : cX2_isReady.data.toList.drop 24 = dktX2_isReady_1 := dk_seg dksX2_isReady_0 24 rfl rfl
theorem dksX2_isReady_2 : cX2_isReady.data.toList.drop 46 = dktX2_isReady_2 := dk_seg dksX2_isReady_1 22 rfl rfl
theorem dksX2_isReady_3 : cX2_isReady.data.toList.drop 70 = dktX2_isReady_3 := dk_seg dksX2_isReady_2 24 rfl rfl
theorem dksX2_isReady_4 : cX2_isReady.data.toList.drop 94 = dktX2_isReady_4 := dk_seg dksX2_isReady_3 24 rfl rfl
theorem dX2_isReady_0 : decode cX2_isReady 0 = .ok (.aload_n 0, 1) := dk_42 (dk_at dksX2_isReady_0 0 rfl rfl)
theorem dX2_isReady_1 : decode cX2_isReady 1 = .ok (.getfield 80, 3) := dk_180 0 80 (dk_at dksX2_isReady_0 1 rfl rfl)
theorem dX2_isReady_4 : decode cX2_isReady 4 = .ok (.iconst 1, 1) := dk_4 (dk_at dksX2_isReady_0 4 rfl rfl)
theorem dX2_isReady_5 : decode cX2_isReady 5 = .ok (.isub, 1) := dk_100 (dk_at dksX2_isReady_0 5 rfl rfl)
theorem dX2_isReady_6 : decode cX2_isReady 6 = .ok (.istore_n 3, 1) := dk_62 (dk_at dksX2_isReady_0 6 rfl rfl)
theorem dX2_isReady_7 : decode cX2_isReady 7 = .ok (.iload_n 3, 1) := dk_29 (dk_at dksX2_isReady_0 7 rfl rfl)
theorem dX2_isReady_8 : decode cX2_isReady 8 = .ok (.ifCond .lt 86, 3) := dk_155 0 86 (dk_at dksX2_isReady_0 8 rfl rfl)
theorem dX2_isReady_11 : decode cX2_isReady 11 = .ok (.iload_n 3, 1) := dk_29 (dk_at dksX2_isReady_0 11 rfl rfl)
theorem dX2_isReady_12 : decode cX2_isReady 12 = .ok (.aload_n 0, 1) := dk_42 (dk_at dksX2_isReady_0 12 rfl rfl)
theorem dX2_isReady_13 : decode cX2_isReady 13 = .ok (.getfield 80, 3) := dk_180 0 80 (dk_at dksX2_isReady_0 13 rfl rfl)
theorem dX2_isReady_16 : decode cX2_isReady 16 = .ok (.iload_n 2, 1) := dk_28 (dk_at dksX2_isReady_0 16 rfl rfl)
theorem dX2_isReady_17 : decode cX2_isReady 17 = .ok (.isub, 1) := dk_100 (dk_at dksX2_isReady_0 17 rfl rfl)
theorem dX2_isReady_18 : decode cX2_isReady 18 = .ok (.if_icmp .lt 76, 3) := dk_161 0 76 (dk_at dksX2_isReady_0 18 rfl rfl)
theorem dX2_isReady_21 : decode cX2_isReady 21 = .ok (.iconst 0, 1) := dk_3 (dk_at dksX2_isReady_0 21 rfl rfl)
theorem dX2_isReady_22 : decode cX2_isReady 22 = .ok (.istore 4, 2) := dk_54 4 (dk_at dksX2_isReady_0 22 rfl rfl)
theorem dX2_isReady_24 : decode cX2_isReady 24 = .ok (.iload 4, 2) := dk_21 4 (dk_at dksX2_isReady_1 0 rfl rfl)
theorem dX2_isReady_26 : decode cX2_isReady 26 = .ok (.aload_n 0, 1) := dk_42 (dk_at dksX2_isReady_1 2 rfl rfl)
theorem dX2_isReady_27 : decode cX2_isReady 27 = .ok (.getfield 3, 3) := dk_180 0 3 (dk_at dksX2_isReady_1 3 rfl rfl)
theorem dX2_isReady_30 : decode cX2_isReady 30 = .ok (.getfield 39, 3) := dk_180 0 39 (dk_at dksX2_isReady_1 6 rfl rfl)
theorem dX2_isReady_33 : decode cX2_isReady 33 = .ok (.if_icmp .ge 37, 3) := dk_162 0 37 (dk_at dksX2_isReady_1 9 rfl rfl)
theorem dX2_isReady_36 : decode cX2_isReady 36 = .ok (.aload_n 0, 1) := dk_42 (dk_at dksX2_isReady_1 12 rfl rfl)
theorem dX2_isReady_37 : decode cX2_isReady 37 = .ok (.iload 4, 2) := dk_21 4 (dk_at dksX2_isReady_1 13 rfl rfl)
theorem dX2_isReady_39 : decode cX2_isReady 39 = .ok (.invokevirtual 55, 3) := dk_182 0 55 (dk_at dksX2_isReady_1 15 rfl rfl)
theorem dX2_isReady_42 : decode cX2_isReady 42 = .ok (.ifCond .ne 22, 3) := dk_154 0 22 (dk_at dksX2_isReady_1 18 rfl rfl)
theorem dX2_isReady_45 : decode cX2_isReady 45 = .ok (.aload_n 0, 1) := dk_42 (dk_at dksX2_isReady_1 21 rfl rfl)
theorem dX2_isReady_46 : decode cX2_isReady 46 = .ok (.getfield 3, 3) := dk_180 0 3 (dk_at dksX2_isReady_2 0 rfl rfl)
theorem dX2_isReady_49 : decode cX2_isReady 49 = .ok (.iload 4, 2) := dk_21 4 (dk_at dksX2_isReady_2 3 rfl rfl)
theorem dX2_isReady_51 : decode cX2_isReady 51 = .ok (.aload_n 0, 1) := dk_42 (dk_at dksX2_isReady_2 5 rfl rfl)
theorem dX2_isReady_52 : decode cX2_isReady 52 = .ok (.getfield 83, 3) := dk_180 0 83 (dk_at dksX2_isReady_2 6 rfl rfl)
theorem dX2_isReady_55 : decode cX2_isReady 55 = .ok (.iload_n 3, 1) := dk_29 (dk_at dksX2_isReady_2 9 rfl rfl)
theorem dX2_isReady_56 : decode cX2_isReady 56 = .ok (.invokevirtual 86, 3) := dk_182 0 86 (dk_at dksX2_isReady_2 10 rfl rfl)
theorem dX2_isReady_59 : decode cX2_isReady 59 = .ok (.ifCond .eq 5, 3) := dk_153 0 5 (dk_at dksX2_isReady_2 13 rfl rfl)
theorem dX2_isReady_62 : decode cX2_isReady 62 = .ok (.iconst 0, 1) := dk_3 (dk_at dksX2_isReady_2 16 rfl rfl)
theorem dX2_isReady_63 : decode cX2_isReady 63 = .ok (.ireturn, 1) := dk_172 (dk_at dksX2_isReady_2 17 rfl rfl)
theorem dX2_isReady_64 : decode cX2_isReady 64 = .ok (.iinc 4 1, 3) := dk_132 4 1 (dk_at dksX2_isReady_2 18 rfl rfl)
theorem dX2_isReady_67 : decode cX2_isReady 67 = .ok (.goto (-43), 3) := dk_167 255 213 (dk_at dksX2_isReady_2 21 rfl rfl)
theorem dX2_isReady_70 : decode cX2_isReady 70 = .ok (.aload_n 0, 1) := dk_42 (dk_at dksX2_isReady_3 0 rfl rfl)
theorem dX2_isReady_71 : decode cX2_isReady 71 = .ok (.getfield 3, 3) := dk_180 0 3 (dk_at dksX2_isReady_3 1 rfl rfl)
theorem dX2_isReady_74 : decode cX2_isReady 74 = .ok (.aload_n 0, 1) := dk_42 (dk_at dksX2_isReady_3 4 rfl rfl)
theorem dX2_isReady_75 : decode cX2_isReady 75 = .ok (.iload_n 1, 1) := dk_27 (dk_at dksX2_isReady_3 5 rfl rfl)
theorem dX2_isReady_76 : decode cX2_isReady 76 = .ok (.invokevirtual 70, 3) := dk_182 0 70 (dk_at dksX2_isReady_3 6 rfl rfl)
theorem dX2_isReady_79 : decode cX2_isReady 79 = .ok (.iload_n 3, 1) := dk_29 (dk_at dksX2_isReady_3 9 rfl rfl)
theorem dX2_isReady_80 : decode cX2_isReady 80 = .ok (.invokevirtual 77, 3) := dk_182 0 77 (dk_at dksX2_isReady_3 10 rfl rfl)
theorem dX2_isReady_83 : decode cX2_isReady 83 = .ok (.ifCond .eq 5, 3) := dk_153 0 5 (dk_at dksX2_isReady_3 13 rfl rfl)
theorem dX2_isReady_86 : decode cX2_isReady 86 = .ok (.iconst 1, 1) := dk_4 (dk_at dksX2_isReady_3 16 rfl rfl)
theorem dX2_isReady_87 : decode cX2_isReady 87 = .ok (.ireturn, 1) := dk_172 (dk_at dksX2_isReady_3 17 rfl rfl)
theorem dX2_isReady_88 : decode cX2_isReady 88 = .ok (.iinc 3 (-1), 3) := dk_132 3 255 (dk_at dksX2_isReady_3 18 rfl rfl)
theorem dX2_isReady_91 : decode cX2_isReady 91 = .ok (.goto (-84), 3) := dk_167 255 172 (dk_at dksX2_isReady_3 21 rfl rfl)
theorem dX2_isReady_94 : decode cX2_isReady 94 = .ok (.iconst 0, 1) := dk_3 (dk_at dksX2_isReady_4 0 rfl rfl)
theorem dX2_isReady_95 : decode cX2_isReady 95 = .ok (.ireturn, 1) := dk_172 (dk_at dksX2_isReady_4 1 rfl rfl)
abbrev cX2_isHeld : ByteArray := prog_17_method_9_code
def yX2_isHeld : MethodName := ⟨RX2, "isHeld", "(II)Z"⟩
def dkwX2_isHeld_2 : List UInt8 := [160, 0, 5, 4, 172, 132, 3, 1, 167, 255, 206, 3, 172]
abbrev dktX2_isHeld_2 : List UInt8 := dkwX2_isHeld_2 ++ []
def dkwX2_isHeld_1 : List UInt8 := [159, 0, 27, 42, 180, 0, 3, 180, 0, 29, 180, 0, 66, 29, 50, 28, 46, 42, 27, 182, 0, 70]
abbrev dktX2_isHeld_1 : List UInt8 := dkwX2_isHeld_1 ++ dktX2_isHeld_2
def dkwX2_isHeld_0 : List UInt8 := [3, 62, 29, 5, 42, 180, 0, 3, 180, 0, 39, 104, 162, 0, 43, 29, 5, 108, 42, 180, 0, 15]
abbrev dktX2_isHeld_0 : List UInt8 := dkwX2_isHeld_0 ++ dktX2_isHeld_1
theorem dksX2_isHeld_0 : cX2_isHeld.data.toList.drop 0 = dktX2_isHeld_0 := by decide +kernel
theorem dksX2_isHeld_1 : cX2_isHeld.data.toList.drop 22 = dktX2_isHeld_1 := dk_seg dksX2_isHeld_0 22 rfl rfl
theorem dksX2_isHeld_2 : cX2_isHeld.data.toList.drop 44 = dktX2_isHeld_2 := dk_seg dksX2_isHeld_1 22 rfl rfl
theorem dX2_isHeld_0 : decode cX2_isHeld 0 = .ok (.iconst 0, 1) := dk_3 (dk_at dksX2_isHeld_0 0 rfl rfl)
theorem dX2_isHeld_1 : decode cX2_isHeld 1 = .ok (.istore_n 3, 1) := dk_62 (dk_at dksX2_isHeld_0 1 rfl rfl)
theorem dX2_isHeld_2 : decode cX2_isHeld 2 = .ok (.iload_n 3, 1) := dk_29 (dk_at dksX2_isHeld_0 2 rfl rfl)
theorem dX2_isHeld_3 : decode cX2_isHeld 3 = .ok (.iconst 2, 1) := dk_5 (dk_at dksX2_isHeld_0 3 rfl rfl)
theorem dX2_isHeld_4 : decode cX2_isHeld 4 = .ok (.aload_n 0, 1) := dk_42 (dk_at dksX2_isHeld_0 4 rfl rfl)
theorem dX2_isHeld_5 : decode cX2_isHeld 5 = .ok (.getfield 3, 3) := dk_180 0 3 (dk_at dksX2_isHeld_0 5 rfl rfl)
theorem dX2_isHeld_8 : decode cX2_isHeld 8 = .ok (.getfield 39, 3) := dk_180 0 39 (dk_at dksX2_isHeld_0 8 rfl rfl)
theorem dX2_isHeld_11 : decode cX2_isHeld 11 = .ok (.imul, 1) := dk_104 (dk_at dksX2_isHeld_0 11 rfl rfl)
theorem dX2_isHeld_12 : decode cX2_isHeld 12 = .ok (.if_icmp .ge 43, 3) := dk_162 0 43 (dk_at dksX2_isHeld_0 12 rfl rfl)
theorem dX2_isHeld_15 : decode cX2_isHeld 15 = .ok (.iload_n 3, 1) := dk_29 (dk_at dksX2_isHeld_0 15 rfl rfl)
theorem dX2_isHeld_16 : decode cX2_isHeld 16 = .ok (.iconst 2, 1) := dk_5 (dk_at dksX2_isHeld_0 16 rfl rfl)
theorem dX2_isHeld_17 : decode cX2_isHeld 17 = .ok (.idiv, 1) := dk_108 (dk_at dksX2_isHeld_0 17 rfl rfl)
theorem dX2_isHeld_18 : decode cX2_isHeld 18 = .ok (.aload_n 0, 1) := dk_42 (dk_at dksX2_isHeld_0 18 rfl rfl)
theorem dX2_isHeld_19 : decode cX2_isHeld 19 = .ok (.getfield 15, 3) := dk_180 0 15 (dk_at dksX2_isHeld_0 19 rfl rfl)
theorem dX2_isHeld_22 : decode cX2_isHeld 22 = .ok (.if_icmp .eq 27, 3) := dk_159 0 27 (dk_at dksX2_isHeld_1 0 rfl rfl)
theorem dX2_isHeld_25 : decode cX2_isHeld 25 = .ok (.aload_n 0, 1) := dk_42 (dk_at dksX2_isHeld_1 3 rfl rfl)
theorem dX2_isHeld_26 : decode cX2_isHeld 26 = .ok (.getfield 3, 3) := dk_180 0 3 (dk_at dksX2_isHeld_1 4 rfl rfl)
theorem dX2_isHeld_29 : decode cX2_isHeld 29 = .ok (.getfield 29, 3) := dk_180 0 29 (dk_at dksX2_isHeld_1 7 rfl rfl)
theorem dX2_isHeld_32 : decode cX2_isHeld 32 = .ok (.getfield 66, 3) := dk_180 0 66 (dk_at dksX2_isHeld_1 10 rfl rfl)
theorem dX2_isHeld_35 : decode cX2_isHeld 35 = .ok (.iload_n 3, 1) := dk_29 (dk_at dksX2_isHeld_1 13 rfl rfl)
theorem dX2_isHeld_36 : decode cX2_isHeld 36 = .ok (.aaload, 1) := dk_50 (dk_at dksX2_isHeld_1 14 rfl rfl)
theorem dX2_isHeld_37 : decode cX2_isHeld 37 = .ok (.iload_n 2, 1) := dk_28 (dk_at dksX2_isHeld_1 15 rfl rfl)
theorem dX2_isHeld_38 : decode cX2_isHeld 38 = .ok (.iaload, 1) := dk_46 (dk_at dksX2_isHeld_1 16 rfl rfl)
theorem dX2_isHeld_39 : decode cX2_isHeld 39 = .ok (.aload_n 0, 1) := dk_42 (dk_at dksX2_isHeld_1 17 rfl rfl)
theorem dX2_isHeld_40 : decode cX2_isHeld 40 = .ok (.iload_n 1, 1) := dk_27 (dk_at dksX2_isHeld_1 18 rfl rfl)
theorem dX2_isHeld_41 : decode cX2_isHeld 41 = .ok (.invokevirtual 70, 3) := dk_182 0 70 (dk_at dksX2_isHeld_1 19 rfl rfl)
theorem dX2_isHeld_44 : decode cX2_isHeld 44 = .ok (.if_icmp .ne 5, 3) := dk_160 0 5 (dk_at dksX2_isHeld_2 0 rfl rfl)
theorem dX2_isHeld_47 : decode cX2_isHeld 47 = .ok (.iconst 1, 1) := dk_4 (dk_at dksX2_isHeld_2 3 rfl rfl)
theorem dX2_isHeld_48 : decode cX2_isHeld 48 = .ok (.ireturn, 1) := dk_172 (dk_at dksX2_isHeld_2 4 rfl rfl)
theorem dX2_isHeld_49 : decode cX2_isHeld 49 = .ok (.iinc 3 1, 3) := dk_132 3 1 (dk_at dksX2_isHeld_2 5 rfl rfl)
theorem dX2_isHeld_52 : decode cX2_isHeld 52 = .ok (.goto (-50), 3) := dk_167 255 206 (dk_at dksX2_isHeld_2 8 rfl rfl)
theorem dX2_isHeld_55 : decode cX2_isHeld 55 = .ok (.iconst 0, 1) := dk_3 (dk_at dksX2_isHeld_2 11 rfl rfl)
theorem dX2_isHeld_56 : decode cX2_isHeld 56 = .ok (.ireturn, 1) := dk_172 (dk_at dksX2_isHeld_2 12 rfl rfl)
abbrev cX2_isUnseen : ByteArray := prog_17_method_6_code
def yX2_isUnseen : MethodName := ⟨RX2, "isUnseen", "(II)Z"⟩
def dkwX2_isUnseen_1 : List UInt8 := [28, 182, 0, 59, 153, 0, 5, 3, 172, 132, 3, 1, 167, 255, 222, 4, 172]
abbrev dktX2_isUnseen_1 : List UInt8 := dkwX2_isUnseen_1 ++ []
def dkwX2_isUnseen_0 : List UInt8 := [3, 62, 29, 42, 180, 0, 3, 180, 0, 39, 162, 0, 29, 42, 29, 182, 0, 55, 154, 0, 15, 42, 29, 27]
abbrev dktX2_isUnseen_0 : List UInt8 := dkwX2_isUnseen_0 ++ dktX2_isUnseen_1
theorem dksX2_isUnseen_0 : cX2_isUnseen.data.toList.drop 0 = dktX2_isUnseen_0 := by decide +kernel
theorem dksX2_isUnseen_1 : cX2_isUnseen.data.toList.drop 24 = dktX2_isUnseen_1 := dk_seg dksX2_isUnseen_0 24 rfl rfl
theorem dX2_isUnseen_0 : decode cX2_isUnseen 0 = .ok (.iconst 0, 1) := dk_3 (dk_at dksX2_isUnseen_0 0 rfl rfl)
theorem dX2_isUnseen_1 : decode cX2_isUnseen 1 = .ok (.istore_n 3, 1) := dk_62 (dk_at dksX2_isUnseen_0 1 rfl rfl)
theorem dX2_isUnseen_2 : decode cX2_isUnseen 2 = .ok (.iload_n 3, 1) := dk_29 (dk_at dksX2_isUnseen_0 2 rfl rfl)
theorem dX2_isUnseen_3 : decode cX2_isUnseen 3 = .ok (.aload_n 0, 1) := dk_42 (dk_at dksX2_isUnseen_0 3 rfl rfl)
theorem dX2_isUnseen_4 : decode cX2_isUnseen 4 = .ok (.getfield 3, 3) := dk_180 0 3 (dk_at dksX2_isUnseen_0 4 rfl rfl)
theorem dX2_isUnseen_7 : decode cX2_isUnseen 7 = .ok (.getfield 39, 3) := dk_180 0 39 (dk_at dksX2_isUnseen_0 7 rfl rfl)
theorem dX2_isUnseen_10 : decode cX2_isUnseen 10 = .ok (.if_icmp .ge 29, 3) := dk_162 0 29 (dk_at dksX2_isUnseen_0 10 rfl rfl)
theorem dX2_isUnseen_13 : decode cX2_isUnseen 13 = .ok (.aload_n 0, 1) := dk_42 (dk_at dksX2_isUnseen_0 13 rfl rfl)
theorem dX2_isUnseen_14 : decode cX2_isUnseen 14 = .ok (.iload_n 3, 1) := dk_29 (dk_at dksX2_isUnseen_0 14 rfl rfl)
theorem dX2_isUnseen_15 : decode cX2_isUnseen 15 = .ok (.invokevirtual 55, 3) := dk_182 0 55 (dk_at dksX2_isUnseen_0 15 rfl rfl)
theorem dX2_isUnseen_18 : decode cX2_isUnseen 18 = .ok (.ifCond .ne 15, 3) := dk_154 0 15 (dk_at dksX2_isUnseen_0 18 rfl rfl)
theorem dX2_isUnseen_21 : decode cX2_isUnseen 21 = .ok (.aload_n 0, 1) := dk_42 (dk_at dksX2_isUnseen_0 21 rfl rfl)
theorem dX2_isUnseen_22 : decode cX2_isUnseen 22 = .ok (.iload_n 3, 1) := dk_29 (dk_at dksX2_isUnseen_0 22 rfl rfl)
theorem dX2_isUnseen_23 : decode cX2_isUnseen 23 = .ok (.iload_n 1, 1) := dk_27 (dk_at dksX2_isUnseen_0 23 rfl rfl)
theorem dX2_isUnseen_24 : decode cX2_isUnseen 24 = .ok (.iload_n 2, 1) := dk_28 (dk_at dksX2_isUnseen_1 0 rfl rfl)
theorem dX2_isUnseen_25 : decode cX2_isUnseen 25 = .ok (.invokevirtual 59, 3) := dk_182 0 59 (dk_at dksX2_isUnseen_1 1 rfl rfl)
theorem dX2_isUnseen_28 : decode cX2_isUnseen 28 = .ok (.ifCond .eq 5, 3) := dk_153 0 5 (dk_at dksX2_isUnseen_1 4 rfl rfl)
theorem dX2_isUnseen_31 : decode cX2_isUnseen 31 = .ok (.iconst 0, 1) := dk_3 (dk_at dksX2_isUnseen_1 7 rfl rfl)
theorem dX2_isUnseen_32 : decode cX2_isUnseen 32 = .ok (.ireturn, 1) := dk_172 (dk_at dksX2_isUnseen_1 8 rfl rfl)
theorem dX2_isUnseen_33 : decode cX2_isUnseen 33 = .ok (.iinc 3 1, 3) := dk_132 3 1 (dk_at dksX2_isUnseen_1 9 rfl rfl)
theorem dX2_isUnseen_36 : decode cX2_isUnseen 36 = .ok (.goto (-34), 3) := dk_167 255 222 (dk_at dksX2_isUnseen_1 12 rfl rfl)
theorem dX2_isUnseen_39 : decode cX2_isUnseen 39 = .ok (.iconst 1, 1) := dk_4 (dk_at dksX2_isUnseen_1 15 rfl rfl)
theorem dX2_isUnseen_40 : decode cX2_isUnseen 40 = .ok (.ireturn, 1) := dk_172 (dk_at dksX2_isUnseen_1 16 rfl rfl)
abbrev cX20_init : ByteArray := prog_9_method_1_code
def yX20_init : MethodName := ⟨RX20, "<init>", "(LRapTable;IIIII)V"⟩
def dkwX20_init_0 : List UInt8 := [42, 43, 181, 0, 1, 42, 43, 28, 21, 4, 21, 5, 21, 6, 183, 0, 7, 42, 29, 181, 0, 13, 177]
abbrev dktX20_init_0 : List UInt8 := dkwX20_init_0 ++ []
theorem dksX20_init_0 : cX20_init.data.toList.drop 0 = dktX20_init_0 := by decide +kernel
theorem dX20_init_0 : decode cX20_init 0 = .ok (.aload_n 0, 1) := dk_42 (dk_at dksX20_init_0 0 rfl rfl)
theorem dX20_init_1 : decode cX20_init 1 = .ok (.aload_n 1, 1) := dk_43 (dk_at dksX20_init_0 1 rfl rfl)
theorem dX20_init_2 : decode cX20_init 2 = .ok (.putfield 1, 3) := dk_181 0 1 (dk_at dksX20_init_0 2 rfl rfl)
theorem dX20_init_5 : decode cX20_init 5 = .ok (.aload_n 0, 1) := dk_42 (dk_at dksX20_init_0 5 rfl rfl)
theorem dX20_init_6 : decode cX20_init 6 = .ok (.aload_n 1, 1) := dk_43 (dk_at dksX20_init_0 6 rfl rfl)
theorem dX20_init_7 : decode cX20_init 7 = .ok (.iload_n 2, 1) := dk_28 (dk_at dksX20_init_0 7 rfl rfl)
theorem dX20_init_8 : decode cX20_init 8 = .ok (.iload 4, 2) := dk_21 4 (dk_at dksX20_init_0 8 rfl rfl)
theorem dX20_init_10 : decode cX20_init 10 = .ok (.iload 5, 2) := dk_21 5 (dk_at dksX20_init_0 10 rfl rfl)
theorem dX20_init_12 : decode cX20_init 12 = .ok (.iload 6, 2) := dk_21 6 (dk_at dksX20_init_0 12 rfl rfl)
theorem dX20_init_14 : decode cX20_init 14 = .ok (.invokespecial 7, 3) := dk_183 0 7 (dk_at dksX20_init_0 14 rfl rfl)
theorem dX20_init_17 : decode cX20_init 17 = .ok (.aload_n 0, 1) := dk_42 (dk_at dksX20_init_0 17 rfl rfl)
theorem dX20_init_18 : decode cX20_init 18 = .ok (.iload_n 3, 1) := dk_29 (dk_at dksX20_init_0 18 rfl rfl)
theorem dX20_init_19 : decode cX20_init 19 = .ok (.putfield 13, 3) := dk_181 0 13 (dk_at dksX20_init_0 19 rfl rfl)
theorem dX20_init_22 : decode cX20_init 22 = .ok (.return_, 1) := dk_177 (dk_at dksX20_init_0 22 rfl rfl)
abbrev cX20_isRight : ByteArray := prog_9_method_3_code
def yX20_isRight : MethodName := ⟨RX20, "isRight", "()Z"⟩
def dkwX20_isRight_1 : List UInt8 := [27, 182, 0, 38, 154, 0, 5, 3, 172, 132, 1, 1, 167, 255, 225, 4, 172]
abbrev dktX20_isRight_1 : List UInt8 := dkwX20_isRight_1 ++ []
def dkwX20_isRight_0 : List UInt8 := [42, 180, 0, 20, 60, 27, 42, 180, 0, 23, 163, 0, 29, 42, 42, 180, 0, 1, 180, 0, 26, 180, 0, 32]
abbrev dktX20_isRight_0 : List UInt8 := dkwX20_isRight_0 ++ dktX20_isRight_1
theorem dksX20_isRight_0 : cX20_isRight.data.toList.drop 0 = dktX20_isRight_0 := by decide +kernel
theorem dksX20_isRight_1 : cX20_isRight.data.toList.drop 24 = dktX20_isRight_1 := dk_seg dksX20_isRight_0 24 rfl rfl
theorem dX20_isRight_0 : decode cX20_isRight 0 = .ok (.aload_n 0, 1) := dk_42 (dk_at dksX20_isRight_0 0 rfl rfl)
theorem dX20_isRight_1 : decode cX20_isRight 1 = .ok (.getfield 20, 3) := dk_180 0 20 (dk_at dksX20_isRight_0 1 rfl rfl)
theorem dX20_isRight_4 : decode cX20_isRight 4 = .ok (.istore_n 1, 1) := dk_60 (dk_at dksX20_isRight_0 4 rfl rfl)
theorem dX20_isRight_5 : decode cX20_isRight 5 = .ok (.iload_n 1, 1) := dk_27 (dk_at dksX20_isRight_0 5 rfl rfl)
theorem dX20_isRight_6 : decode cX20_isRight 6 = .ok (.aload_n 0, 1) := dk_42 (dk_at dksX20_isRight_0 6 rfl rfl)
theorem dX20_isRight_7 : decode cX20_isRight 7 = .ok (.getfield 23, 3) := dk_180 0 23 (dk_at dksX20_isRight_0 7 rfl rfl)
theorem dX20_isRight_10 : decode cX20_isRight 10 = .ok (.if_icmp .gt 29, 3) := dk_163 0 29 (dk_at dksX20_isRight_0 10 rfl rfl)
theorem dX20_isRight_13 : decode cX20_isRight 13 = .ok (.aload_n 0, 1) := dk_42 (dk_at dksX20_isRight_0 13 rfl rfl)
theorem dX20_isRight_14 : decode cX20_isRight 14 = .ok (.aload_n 0, 1) := dk_42 (dk_at dksX20_isRight_0 14 rfl rfl)
theorem dX20_isRight_15 : decode cX20_isRight 15 = .ok (.getfield 1, 3) := dk_180 0 1 (dk_at dksX20_isRight_0 15 rfl rfl)
theorem dX20_isRight_18 : decode cX20_isRight 18 = .ok (.getfield 26, 3) := dk_180 0 26 (dk_at dksX20_isRight_0 18 rfl rfl)
theorem dX20_isRight_21 : decode cX20_isRight 21 = .ok (.getfield 32, 3) := dk_180 0 32 (dk_at dksX20_isRight_0 21 rfl rfl)
theorem dX20_isRight_24 : decode cX20_isRight 24 = .ok (.iload_n 1, 1) := dk_27 (dk_at dksX20_isRight_1 0 rfl rfl)
theorem dX20_isRight_25 : decode cX20_isRight 25 = .ok (.invokevirtual 38, 3) := dk_182 0 38 (dk_at dksX20_isRight_1 1 rfl rfl)
theorem dX20_isRight_28 : decode cX20_isRight 28 = .ok (.ifCond .ne 5, 3) := dk_154 0 5 (dk_at dksX20_isRight_1 4 rfl rfl)
theorem dX20_isRight_31 : decode cX20_isRight 31 = .ok (.iconst 0, 1) := dk_3 (dk_at dksX20_isRight_1 7 rfl rfl)
theorem dX20_isRight_32 : decode cX20_isRight 32 = .ok (.ireturn, 1) := dk_172 (dk_at dksX20_isRight_1 8 rfl rfl)
theorem dX20_isRight_33 : decode cX20_isRight 33 = .ok (.iinc 1 1, 3) := dk_132 1 1 (dk_at dksX20_isRight_1 9 rfl rfl)
theorem dX20_isRight_36 : decode cX20_isRight 36 = .ok (.goto (-31), 3) := dk_167 255 225 (dk_at dksX20_isRight_1 12 rfl rfl)
theorem dX20_isRight_39 : decode cX20_isRight 39 = .ok (.iconst 1, 1) := dk_4 (dk_at dksX20_isRight_1 15 rfl rfl)
theorem dX20_isRight_40 : decode cX20_isRight 40 = .ok (.ireturn, 1) := dk_172 (dk_at dksX20_isRight_1 16 rfl rfl)
abbrev cX20_isIn : ByteArray := prog_9_method_2_code
def yX20_isIn : MethodName := ⟨RX20, "isIn", "([[II)Z"⟩
def dkwX20_isIn_1 : List UInt8 := [4, 96, 50, 28, 46, 42, 180, 0, 13, 160, 0, 7, 4, 167, 0, 4, 3, 172]
abbrev dktX20_isIn_1 : List UInt8 := dkwX20_isIn_1 ++ []
def dkwX20_isIn_0 : List UInt8 := [43, 5, 42, 180, 0, 17, 104, 50, 28, 46, 42, 180, 0, 13, 159, 0, 22, 43, 5, 42, 180, 0, 17, 104]
abbrev dktX20_isIn_0 : List UInt8 := dkwX20_isIn_0 ++ dktX20_isIn_1
theorem dksX20_isIn_0 : cX20_isIn.data.toList.drop 0 = dktX20_isIn_0 := by decide +kernel
theorem dksX20_isIn_1 : cX20_isIn.data.toList.drop 24 = dktX20_isIn_1 := dk_seg dksX20_isIn_0 24 rfl rfl
theorem dX20_isIn_0 : decode cX20_isIn 0 = .ok (.aload_n 1, 1) := dk_43 (dk_at dksX20_isIn_0 0 rfl rfl)
theorem dX20_isIn_1 : decode cX20_isIn 1 = .ok (.iconst 2, 1) := dk_5 (dk_at dksX20_isIn_0 1 rfl rfl)
theorem dX20_isIn_2 : decode cX20_isIn 2 = .ok (.aload_n 0, 1) := dk_42 (dk_at dksX20_isIn_0 2 rfl rfl)
theorem dX20_isIn_3 : decode cX20_isIn 3 = .ok (.getfield 17, 3) := dk_180 0 17 (dk_at dksX20_isIn_0 3 rfl rfl)
theorem dX20_isIn_6 : decode cX20_isIn 6 = .ok (.imul, 1) := dk_104 (dk_at dksX20_isIn_0 6 rfl rfl)
theorem dX20_isIn_7 : decode cX20_isIn 7 = .ok (.aaload, 1) := dk_50 (dk_at dksX20_isIn_0 7 rfl rfl)
theorem dX20_isIn_8 : decode cX20_isIn 8 = .ok (.iload_n 2, 1) := dk_28 (dk_at dksX20_isIn_0 8 rfl rfl)
theorem dX20_isIn_9 : decode cX20_isIn 9 = .ok (.iaload, 1) := dk_46 (dk_at dksX20_isIn_0 9 rfl rfl)
theorem dX20_isIn_10 : decode cX20_isIn 10 = .ok (.aload_n 0, 1) := dk_42 (dk_at dksX20_isIn_0 10 rfl rfl)
theorem dX20_isIn_11 : decode cX20_isIn 11 = .ok (.getfield 13, 3) := dk_180 0 13 (dk_at dksX20_isIn_0 11 rfl rfl)
theorem dX20_isIn_14 : decode cX20_isIn 14 = .ok (.if_icmp .eq 22, 3) := dk_159 0 22 (dk_at dksX20_isIn_0 14 rfl rfl)
theorem dX20_isIn_17 : decode cX20_isIn 17 = .ok (.aload_n 1, 1) := dk_43 (dk_at dksX20_isIn_0 17 rfl rfl)
theorem dX20_isIn_18 : decode cX20_isIn 18 = .ok (.iconst 2, 1) := dk_5 (dk_at dksX20_isIn_0 18 rfl rfl)
theorem dX20_isIn_19 : decode cX20_isIn 19 = .ok (.aload_n 0, 1) := dk_42 (dk_at dksX20_isIn_0 19 rfl rfl)
theorem dX20_isIn_20 : decode cX20_isIn 20 = .ok (.getfield 17, 3) := dk_180 0 17 (dk_at dksX20_isIn_0 20 rfl rfl)
theorem dX20_isIn_23 : decode cX20_isIn 23 = .ok (.imul, 1) := dk_104 (dk_at dksX20_isIn_0 23 rfl rfl)
theorem dX20_isIn_24 : decode cX20_isIn 24 = .ok (.iconst 1, 1) := dk_4 (dk_at dksX20_isIn_1 0 rfl rfl)
theorem dX20_isIn_25 : decode cX20_isIn 25 = .ok (.iadd, 1) := dk_96 (dk_at dksX20_isIn_1 1 rfl rfl)
theorem dX20_isIn_26 : decode cX20_isIn 26 = .ok (.aaload, 1) := dk_50 (dk_at dksX20_isIn_1 2 rfl rfl)
theorem dX20_isIn_27 : decode cX20_isIn 27 = .ok (.iload_n 2, 1) := dk_28 (dk_at dksX20_isIn_1 3 rfl rfl)
theorem dX20_isIn_28 : decode cX20_isIn 28 = .ok (.iaload, 1) := dk_46 (dk_at dksX20_isIn_1 4 rfl rfl)
theorem dX20_isIn_29 : decode cX20_isIn 29 = .ok (.aload_n 0, 1) := dk_42 (dk_at dksX20_isIn_1 5 rfl rfl)
theorem dX20_isIn_30 : decode cX20_isIn 30 = .ok (.getfield 13, 3) := dk_180 0 13 (dk_at dksX20_isIn_1 6 rfl rfl)
theorem dX20_isIn_33 : decode cX20_isIn 33 = .ok (.if_icmp .ne 7, 3) := dk_160 0 7 (dk_at dksX20_isIn_1 9 rfl rfl)
theorem dX20_isIn_36 : decode cX20_isIn 36 = .ok (.iconst 1, 1) := dk_4 (dk_at dksX20_isIn_1 12 rfl rfl)
theorem dX20_isIn_37 : decode cX20_isIn 37 = .ok (.goto 4, 3) := dk_167 0 4 (dk_at dksX20_isIn_1 13 rfl rfl)
theorem dX20_isIn_40 : decode cX20_isIn 40 = .ok (.iconst 0, 1) := dk_3 (dk_at dksX20_isIn_1 16 rfl rfl)
theorem dX20_isIn_41 : decode cX20_isIn 41 = .ok (.ireturn, 1) := dk_172 (dk_at dksX20_isIn_1 17 rfl rfl)
abbrev cX20_isHonest : ByteArray := prog_9_method_4_code
def yX20_isHonest : MethodName := ⟨RX20, "isHonest", "()Z"⟩
def dkwX20_isHonest_2 : List UInt8 := [180, 0, 45, 42, 180, 0, 48, 104, 164, 0, 5, 3, 172, 132, 2, 1, 167, 255, 201, 4, 172]
abbrev dktX20_isHonest_2 : List UInt8 := dkwX20_isHonest_2 ++ []
def dkwX20_isHonest_1 : List UInt8 := [180, 0, 42, 28, 182, 0, 38, 153, 0, 7, 3, 167, 0, 6, 27, 4, 96, 60, 27, 42, 180, 0, 1]
abbrev dktX20_isHonest_1 : List UInt8 := dkwX20_isHonest_1 ++ dktX20_isHonest_2
def dkwX20_isHonest_0 : List UInt8 := [3, 60, 42, 180, 0, 20, 61, 28, 42, 180, 0, 23, 163, 0, 53, 42, 42, 180, 0, 1, 180, 0, 26]
abbrev dktX20_isHonest_0 : List UInt8 := dkwX20_isHonest_0 ++ dktX20_isHonest_1
theorem dksX20_isHonest_0 : cX20_isHonest.data.toList.drop 0 = dktX20_isHonest_0 := by decide +kernel
theorem dksX20_isHonest_1 : cX20_isHonest.data.toList.drop 23 = dktX20_isHonest_1 := dk_seg dksX20_isHonest_0 23 rfl rfl
theorem dksX20_isHonest_2 : cX20_isHonest.data.toList.drop 46 = dktX20_isHonest_2 := dk_seg dksX20_isHonest_1 23 rfl rfl
theorem dX20_isHonest_0 : decode cX20_isHonest 0 = .ok (.iconst 0, 1) := dk_3 (dk_at dksX20_isHonest_0 0 rfl rfl)
theorem dX20_isHonest_1 : decode cX20_isHonest 1 = .ok (.istore_n 1, 1) := dk_60 (dk_at dksX20_isHonest_0 1 rfl rfl)
theorem dX20_isHonest_2 : decode cX20_isHonest 2 = .ok (.aload_n 0, 1) := dk_42 (dk_at dksX20_isHonest_0 2 rfl rfl)
theorem dX20_isHonest_3 : decode cX20_isHonest 3 = .ok (.getfield 20, 3) := dk_180 0 20 (dk_at dksX20_isHonest_0 3 rfl rfl)
theorem dX20_isHonest_6 : decode cX20_isHonest 6 = .ok (.istore_n 2, 1) := dk_61 (dk_at dksX20_isHonest_0 6 rfl rfl)
theorem dX20_isHonest_7 : decode cX20_isHonest 7 = .ok (.iload_n 2, 1) := dk_28 (dk_at dksX20_isHonest_0 7 rfl rfl)
theorem dX20_isHonest_8 : decode cX20_isHonest 8 = .ok (.aload_n 0, 1) := dk_42 (dk_at dksX20_isHonest_0 8 rfl rfl)
theorem dX20_isHonest_9 : decode cX20_isHonest 9 = .ok (.getfield 23, 3) := dk_180 0 23 (dk_at dksX20_isHonest_0 9 rfl rfl)
theorem dX20_isHonest_12 : decode cX20_isHonest 12 = .ok (.if_icmp .gt 53, 3) := dk_163 0 53 (dk_at dksX20_isHonest_0 12 rfl rfl)
theorem dX20_isHonest_15 : decode cX20_isHonest 15 = .ok (.aload_n 0, 1) := dk_42 (dk_at dksX20_isHonest_0 15 rfl rfl)
theorem dX20_isHonest_16 : decode cX20_isHonest 16 = .ok (.aload_n 0, 1) := dk_42 (dk_at dksX20_isHonest_0 16 rfl rfl)
theorem dX20_isHonest_17 : decode cX20_isHonest 17 = .ok (.getfield 1, 3) := dk_180 0 1 (dk_at dksX20_isHonest_0 17 rfl rfl)
theorem dX20_isHonest_20 : decode cX20_isHonest 20 = .ok (.getfield 26, 3) := dk_180 0 26 (dk_at dksX20_isHonest_0 20 rfl rfl)
theorem dX20_isHonest_23 : decode cX20_isHonest 23 = .ok (.getfield 42, 3) := dk_180 0 42 (dk_at dksX20_isHonest_1 0 rfl rfl)
theorem dX20_isHonest_26 : decode cX20_isHonest 26 = .ok (.iload_n 2, 1) := dk_28 (dk_at dksX20_isHonest_1 3 rfl rfl)
theorem dX20_isHonest_27 : decode cX20_isHonest 27 = .ok (.invokevirtual 38, 3) := dk_182 0 38 (dk_at dksX20_isHonest_1 4 rfl rfl)
theorem dX20_isHonest_30 : decode cX20_isHonest 30 = .ok (.ifCond .eq 7, 3) := dk_153 0 7 (dk_at dksX20_isHonest_1 7 rfl rfl)
theorem dX20_isHonest_33 : decode cX20_isHonest 33 = .ok (.iconst 0, 1) := dk_3 (dk_at dksX20_isHonest_1 10 rfl rfl)
theorem dX20_isHonest_34 : decode cX20_isHonest 34 = .ok (.goto 6, 3) := dk_167 0 6 (dk_at dksX20_isHonest_1 11 rfl rfl)
theorem dX20_isHonest_37 : decode cX20_isHonest 37 = .ok (.iload_n 1, 1) := dk_27 (dk_at dksX20_isHonest_1 14 rfl rfl)
theorem dX20_isHonest_38 : decode cX20_isHonest 38 = .ok (.iconst 1, 1) := dk_4 (dk_at dksX20_isHonest_1 15 rfl rfl)
theorem dX20_isHonest_39 : decode cX20_isHonest 39 = .ok (.iadd, 1) := dk_96 (dk_at dksX20_isHonest_1 16 rfl rfl)
theorem dX20_isHonest_40 : decode cX20_isHonest 40 = .ok (.istore_n 1, 1) := dk_60 (dk_at dksX20_isHonest_1 17 rfl rfl)
theorem dX20_isHonest_41 : decode cX20_isHonest 41 = .ok (.iload_n 1, 1) := dk_27 (dk_at dksX20_isHonest_1 18 rfl rfl)
theorem dX20_isHonest_42 : decode cX20_isHonest 42 = .ok (.aload_n 0, 1) := dk_42 (dk_at dksX20_isHonest_1 19 rfl rfl)
theorem dX20_isHonest_43 : decode cX20_isHonest 43 = .ok (.getfield 1, 3) := dk_180 0 1 (dk_at dksX20_isHonest_1 20 rfl rfl)
theorem dX20_isHonest_46 : decode cX20_isHonest 46 = .ok (.getfield 45, 3) := dk_180 0 45 (dk_at dksX20_isHonest_2 0 rfl rfl)
theorem dX20_isHonest_49 : decode cX20_isHonest 49 = .ok (.aload_n 0, 1) := dk_42 (dk_at dksX20_isHonest_2 3 rfl rfl)
theorem dX20_isHonest_50 : decode cX20_isHonest 50 = .ok (.getfield 48, 3) := dk_180 0 48 (dk_at dksX20_isHonest_2 4 rfl rfl)
theorem dX20_isHonest_53 : decode cX20_isHonest 53 = .ok (.imul, 1) := dk_104 (dk_at dksX20_isHonest_2 7 rfl rfl)
theorem dX20_isHonest_54 : decode cX20_isHonest 54 = .ok (.if_icmp .le 5, 3) := dk_164 0 5 (dk_at dksX20_isHonest_2 8 rfl rfl)
theorem dX20_isHonest_57 : decode cX20_isHonest 57 = .ok (.iconst 0, 1) := dk_3 (dk_at dksX20_isHonest_2 11 rfl rfl)
theorem dX20_isHonest_58 : decode cX20_isHonest 58 = .ok (.ireturn, 1) := dk_172 (dk_at dksX20_isHonest_2 12 rfl rfl)
theorem dX20_isHonest_59 : decode cX20_isHonest 59 = .ok (.iinc 2 1, 3) := dk_132 2 1 (dk_at dksX20_isHonest_2 13 rfl rfl)
theorem dX20_isHonest_62 : decode cX20_isHonest 62 = .ok (.goto (-55), 3) := dk_167 255 201 (dk_at dksX20_isHonest_2 16 rfl rfl)
theorem dX20_isHonest_65 : decode cX20_isHonest 65 = .ok (.iconst 1, 1) := dk_4 (dk_at dksX20_isHonest_2 19 rfl rfl)
theorem dX20_isHonest_66 : decode cX20_isHonest 66 = .ok (.ireturn, 1) := dk_172 (dk_at dksX20_isHonest_2 20 rfl rfl)
abbrev cX20_agrees : ByteArray := prog_9_method_5_code
def yX20_agrees : MethodName := ⟨RX20, "agrees", "(LRapTable$Report;)Z"⟩
def dkwX20_agrees_1 : List UInt8 := [167, 0, 4, 3, 172]
abbrev dktX20_agrees_1 : List UInt8 := dkwX20_agrees_1 ++ []
def dkwX20_agrees_0 : List UInt8 := [43, 193, 0, 2, 153, 0, 21, 43, 192, 0, 2, 180, 0, 13, 42, 180, 0, 13, 160, 0, 7, 4]
abbrev dktX20_agrees_0 : List UInt8 := dkwX20_agrees_0 ++ dktX20_agrees_1
theorem dksX20_agrees_0 : cX20_agrees.data.toList.drop 0 = dktX20_agrees_0 := by decide +kernel
theorem dksX20_agrees_1 : cX20_agrees.data.toList.drop 22 = dktX20_agrees_1 := dk_seg dksX20_agrees_0 22 rfl rfl
theorem dX20_agrees_0 : decode cX20_agrees 0 = .ok (.aload_n 1, 1) := dk_43 (dk_at dksX20_agrees_0 0 rfl rfl)
theorem dX20_agrees_1 : decode cX20_agrees 1 = .ok (.instanceof 2, 3) := dk_193 0 2 (dk_at dksX20_agrees_0 1 rfl rfl)
theorem dX20_agrees_4 : decode cX20_agrees 4 = .ok (.ifCond .eq 21, 3) := dk_153 0 21 (dk_at dksX20_agrees_0 4 rfl rfl)
theorem dX20_agrees_7 : decode cX20_agrees 7 = .ok (.aload_n 1, 1) := dk_43 (dk_at dksX20_agrees_0 7 rfl rfl)
theorem dX20_agrees_8 : decode cX20_agrees 8 = .ok (.checkcast 2, 3) := dk_192 0 2 (dk_at dksX20_agrees_0 8 rfl rfl)
theorem dX20_agrees_11 : decode cX20_agrees 11 = .ok (.getfield 13, 3) := dk_180 0 13 (dk_at dksX20_agrees_0 11 rfl rfl)
theorem dX20_agrees_14 : decode cX20_agrees 14 = .ok (.aload_n 0, 1) := dk_42 (dk_at dksX20_agrees_0 14 rfl rfl)
theorem dX20_agrees_15 : decode cX20_agrees 15 = .ok (.getfield 13, 3) := dk_180 0 13 (dk_at dksX20_agrees_0 15 rfl rfl)
theorem dX20_agrees_18 : decode cX20_agrees 18 = .ok (.if_icmp .ne 7, 3) := dk_160 0 7 (dk_at dksX20_agrees_0 18 rfl rfl)
theorem dX20_agrees_21 : decode cX20_agrees 21 = .ok (.iconst 1, 1) := dk_4 (dk_at dksX20_agrees_0 21 rfl rfl)
theorem dX20_agrees_22 : decode cX20_agrees 22 = .ok (.goto 4, 3) := dk_167 0 4 (dk_at dksX20_agrees_1 0 rfl rfl)
theorem dX20_agrees_25 : decode cX20_agrees 25 = .ok (.iconst 0, 1) := dk_3 (dk_at dksX20_agrees_1 3 rfl rfl)
theorem dX20_agrees_26 : decode cX20_agrees 26 = .ok (.ireturn, 1) := dk_172 (dk_at dksX20_agrees_1 4 rfl rfl)
abbrev cX21_holds : ByteArray := prog_5_method_2_code
def yX21_holds : MethodName := ⟨RX21, "holds", "(I)Z"⟩
def dkwX21_holds_0 : List UInt8 := [27, 42, 180, 0, 15, 161, 0, 15, 27, 42, 180, 0, 19, 163, 0, 7, 4, 167, 0, 4, 3, 172]
abbrev dktX21_holds_0 : List UInt8 := dkwX21_holds_0 ++ []
theorem dksX21_holds_0 : cX21_holds.data.toList.drop 0 = dktX21_holds_0 := by decide +kernel
theorem dX21_holds_0 : decode cX21_holds 0 = .ok (.iload_n 1, 1) := dk_27 (dk_at dksX21_holds_0 0 rfl rfl)
theorem dX21_holds_1 : decode cX21_holds 1 = .ok (.aload_n 0, 1) := dk_42 (dk_at dksX21_holds_0 1 rfl rfl)
theorem dX21_holds_2 : decode cX21_holds 2 = .ok (.getfield 15, 3) := dk_180 0 15 (dk_at dksX21_holds_0 2 rfl rfl)
theorem dX21_holds_5 : decode cX21_holds 5 = .ok (.if_icmp .lt 15, 3) := dk_161 0 15 (dk_at dksX21_holds_0 5 rfl rfl)
theorem dX21_holds_8 : decode cX21_holds 8 = .ok (.iload_n 1, 1) := dk_27 (dk_at dksX21_holds_0 8 rfl rfl)
theorem dX21_holds_9 : decode cX21_holds 9 = .ok (.aload_n 0, 1) := dk_42 (dk_at dksX21_holds_0 9 rfl rfl)
theorem dX21_holds_10 : decode cX21_holds 10 = .ok (.getfield 19, 3) := dk_180 0 19 (dk_at dksX21_holds_0 10 rfl rfl)
theorem dX21_holds_13 : decode cX21_holds 13 = .ok (.if_icmp .gt 7, 3) := dk_163 0 7 (dk_at dksX21_holds_0 13 rfl rfl)
theorem dX21_holds_16 : decode cX21_holds 16 = .ok (.iconst 1, 1) := dk_4 (dk_at dksX21_holds_0 16 rfl rfl)
theorem dX21_holds_17 : decode cX21_holds 17 = .ok (.goto 4, 3) := dk_167 0 4 (dk_at dksX21_holds_0 17 rfl rfl)
theorem dX21_holds_20 : decode cX21_holds 20 = .ok (.iconst 0, 1) := dk_3 (dk_at dksX21_holds_0 20 rfl rfl)
theorem dX21_holds_21 : decode cX21_holds 21 = .ok (.ireturn, 1) := dk_172 (dk_at dksX21_holds_0 21 rfl rfl)
abbrev cX21_ties : ByteArray := prog_5_method_3_code
def yX21_ties : MethodName := ⟨RX21, "ties", "(I)Z"⟩
theorem dX21_ties_0 : decode cX21_ties 0 = .ok (.iconst 0, 1) := by decide +kernel
theorem dX21_ties_1 : decode cX21_ties 1 = .ok (.ireturn, 1) := by decide +kernel
abbrev cX21_lights : ByteArray := prog_5_method_4_code
def yX21_lights : MethodName := ⟨RX21, "lights", "()I"⟩
theorem dX21_lights_0 : decode cX21_lights 0 = .ok (.iconst 0, 1) := by decide +kernel
theorem dX21_lights_1 : decode cX21_lights 1 = .ok (.ireturn, 1) := by decide +kernel
abbrev cX21_watched : ByteArray := prog_5_method_5_code
def yX21_watched : MethodName := ⟨RX21, "watched", "(I)I"⟩
theorem dX21_watched_0 : decode cX21_watched 0 = .ok (.iconst (-1), 1) := by decide +kernel
theorem dX21_watched_1 : decode cX21_watched 1 = .ok (.ireturn, 1) := by decide +kernel
abbrev cX21_init : ByteArray := prog_5_method_1_code
def yX21_init : MethodName := ⟨RX21, "<init>", "(LRapTable;III)V"⟩
def dkwX21_init_1 : List UInt8 := [181, 0, 22, 177]
abbrev dktX21_init_1 : List UInt8 := dkwX21_init_1 ++ []
def dkwX21_init_0 : List UInt8 := [42, 43, 181, 0, 3, 42, 183, 0, 9, 42, 28, 181, 0, 15, 42, 29, 181, 0, 19, 42, 21, 4]
abbrev dktX21_init_0 : List UInt8 := dkwX21_init_0 ++ dktX21_init_1
theorem dksX21_init_0 : cX21_init.data.toList.drop 0 = dktX21_init_0 := by decide +kernel
theorem dksX21_init_1 : cX21_init.data.toList.drop 22 = dktX21_init_1 := dk_seg dksX21_init_0 22 rfl rfl
theorem dX21_init_0 : decode cX21_init 0 = .ok (.aload_n 0, 1) := dk_42 (dk_at dksX21_init_0 0 rfl rfl)
theorem dX21_init_1 : decode cX21_init 1 = .ok (.aload_n 1, 1) := dk_43 (dk_at dksX21_init_0 1 rfl rfl)
theorem dX21_init_2 : decode cX21_init 2 = .ok (.putfield 3, 3) := dk_181 0 3 (dk_at dksX21_init_0 2 rfl rfl)
theorem dX21_init_5 : decode cX21_init 5 = .ok (.aload_n 0, 1) := dk_42 (dk_at dksX21_init_0 5 rfl rfl)
theorem dX21_init_6 : decode cX21_init 6 = .ok (.invokespecial 9, 3) := dk_183 0 9 (dk_at dksX21_init_0 6 rfl rfl)
theorem dX21_init_9 : decode cX21_init 9 = .ok (.aload_n 0, 1) := dk_42 (dk_at dksX21_init_0 9 rfl rfl)
theorem dX21_init_10 : decode cX21_init 10 = .ok (.iload_n 2, 1) := dk_28 (dk_at dksX21_init_0 10 rfl rfl)
theorem dX21_init_11 : decode cX21_init 11 = .ok (.putfield 15, 3) := dk_181 0 15 (dk_at dksX21_init_0 11 rfl rfl)
theorem dX21_init_14 : decode cX21_init 14 = .ok (.aload_n 0, 1) := dk_42 (dk_at dksX21_init_0 14 rfl rfl)
theorem dX21_init_15 : decode cX21_init 15 = .ok (.iload_n 3, 1) := dk_29 (dk_at dksX21_init_0 15 rfl rfl)
theorem dX21_init_16 : decode cX21_init 16 = .ok (.putfield 19, 3) := dk_181 0 19 (dk_at dksX21_init_0 16 rfl rfl)
theorem dX21_init_19 : decode cX21_init 19 = .ok (.aload_n 0, 1) := dk_42 (dk_at dksX21_init_0 19 rfl rfl)
theorem dX21_init_20 : decode cX21_init 20 = .ok (.iload 4, 2) := dk_21 4 (dk_at dksX21_init_0 20 rfl rfl)
theorem dX21_init_22 : decode cX21_init 22 = .ok (.putfield 22, 3) := dk_181 0 22 (dk_at dksX21_init_1 0 rfl rfl)
theorem dX21_init_25 : decode cX21_init 25 = .ok (.return_, 1) := dk_177 (dk_at dksX21_init_1 3 rfl rfl)
abbrev cX22_ties : ByteArray := prog_21_method_2_code
def yX22_ties : MethodName := ⟨RX22, "ties", "(I)Z"⟩
def dkwX22_ties_0 : List UInt8 := [27, 42, 180, 0, 13, 160, 0, 7, 4, 167, 0, 4, 3, 172]
abbrev dktX22_ties_0 : List UInt8 := dkwX22_ties_0 ++ []
theorem dksX22_ties_0 : cX22_ties.data.toList.drop 0 = dktX22_ties_0 := by decide +kernel
theorem dX22_ties_0 : decode cX22_ties 0 = .ok (.iload_n 1, 1) := dk_27 (dk_at dksX22_ties_0 0 rfl rfl)
theorem dX22_ties_1 : decode cX22_ties 1 = .ok (.aload_n 0, 1) := dk_42 (dk_at dksX22_ties_0 1 rfl rfl)
theorem dX22_ties_2 : decode cX22_ties 2 = .ok (.getfield 13, 3) := dk_180 0 13 (dk_at dksX22_ties_0 2 rfl rfl)
theorem dX22_ties_5 : decode cX22_ties 5 = .ok (.if_icmp .ne 7, 3) := dk_160 0 7 (dk_at dksX22_ties_0 5 rfl rfl)
theorem dX22_ties_8 : decode cX22_ties 8 = .ok (.iconst 1, 1) := dk_4 (dk_at dksX22_ties_0 8 rfl rfl)
theorem dX22_ties_9 : decode cX22_ties 9 = .ok (.goto 4, 3) := dk_167 0 4 (dk_at dksX22_ties_0 9 rfl rfl)
theorem dX22_ties_12 : decode cX22_ties 12 = .ok (.iconst 0, 1) := dk_3 (dk_at dksX22_ties_0 12 rfl rfl)
theorem dX22_ties_13 : decode cX22_ties 13 = .ok (.ireturn, 1) := dk_172 (dk_at dksX22_ties_0 13 rfl rfl)
abbrev cX22_init : ByteArray := prog_21_method_1_code
def yX22_init : MethodName := ⟨RX22, "<init>", "(LRapTable;IIII)V"⟩
def dkwX22_init_0 : List UInt8 := [42, 43, 181, 0, 1, 42, 43, 29, 21, 4, 21, 5, 183, 0, 7, 42, 28, 181, 0, 13, 177]
abbrev dktX22_init_0 : List UInt8 := dkwX22_init_0 ++ []
theorem dksX22_init_0 : cX22_init.data.toList.drop 0 = dktX22_init_0 := by decide +kernel
theorem dX22_init_0 : decode cX22_init 0 = .ok (.aload_n 0, 1) := dk_42 (dk_at dksX22_init_0 0 rfl rfl)
theorem dX22_init_1 : decode cX22_init 1 = .ok (.aload_n 1, 1) := dk_43 (dk_at dksX22_init_0 1 rfl rfl)
theorem dX22_init_2 : decode cX22_init 2 = .ok (.putfield 1, 3) := dk_181 0 1 (dk_at dksX22_init_0 2 rfl rfl)
theorem dX22_init_5 : decode cX22_init 5 = .ok (.aload_n 0, 1) := dk_42 (dk_at dksX22_init_0 5 rfl rfl)
theorem dX22_init_6 : decode cX22_init 6 = .ok (.aload_n 1, 1) := dk_43 (dk_at dksX22_init_0 6 rfl rfl)
theorem dX22_init_7 : decode cX22_init 7 = .ok (.iload_n 3, 1) := dk_29 (dk_at dksX22_init_0 7 rfl rfl)
theorem dX22_init_8 : decode cX22_init 8 = .ok (.iload 4, 2) := dk_21 4 (dk_at dksX22_init_0 8 rfl rfl)
theorem dX22_init_10 : decode cX22_init 10 = .ok (.iload 5, 2) := dk_21 5 (dk_at dksX22_init_0 10 rfl rfl)
theorem dX22_init_12 : decode cX22_init 12 = .ok (.invokespecial 7, 3) := dk_183 0 7 (dk_at dksX22_init_0 12 rfl rfl)
theorem dX22_init_15 : decode cX22_init 15 = .ok (.aload_n 0, 1) := dk_42 (dk_at dksX22_init_0 15 rfl rfl)
theorem dX22_init_16 : decode cX22_init 16 = .ok (.iload_n 2, 1) := dk_28 (dk_at dksX22_init_0 16 rfl rfl)
theorem dX22_init_17 : decode cX22_init 17 = .ok (.putfield 13, 3) := dk_181 0 13 (dk_at dksX22_init_0 17 rfl rfl)
theorem dX22_init_20 : decode cX22_init 20 = .ok (.return_, 1) := dk_177 (dk_at dksX22_init_0 20 rfl rfl)
abbrev cX23_lights : ByteArray := prog_10_method_2_code
def yX23_lights : MethodName := ⟨RX23, "lights", "()I"⟩
theorem dX23_lights_0 : decode cX23_lights 0 = .ok (.aload_n 0, 1) := by decide +kernel
theorem dX23_lights_1 : decode cX23_lights 1 = .ok (.getfield 13, 3) := by decide +kernel
theorem dX23_lights_4 : decode cX23_lights 4 = .ok (.ireturn, 1) := by decide +kernel
abbrev cX23_init : ByteArray := prog_10_method_1_code
def yX23_init : MethodName := ⟨RX23, "<init>", "(LRapTable;IIII)V"⟩
def dkwX23_init_0 : List UInt8 := [42, 43, 181, 0, 1, 42, 43, 29, 21, 4, 21, 5, 183, 0, 7, 42, 28, 181, 0, 13, 177]
abbrev dktX23_init_0 : List UInt8 := dkwX23_init_0 ++ []
theorem dksX23_init_0 : cX23_init.data.toList.drop 0 = dktX23_init_0 := by decide +kernel
theorem dX23_init_0 : decode cX23_init 0 = .ok (.aload_n 0, 1) := dk_42 (dk_at dksX23_init_0 0 rfl rfl)
theorem dX23_init_1 : decode cX23_init 1 = .ok (.aload_n 1, 1) := dk_43 (dk_at dksX23_init_0 1 rfl rfl)
theorem dX23_init_2 : decode cX23_init 2 = .ok (.putfield 1, 3) := dk_181 0 1 (dk_at dksX23_init_0 2 rfl rfl)
theorem dX23_init_5 : decode cX23_init 5 = .ok (.aload_n 0, 1) := dk_42 (dk_at dksX23_init_0 5 rfl rfl)
theorem dX23_init_6 : decode cX23_init 6 = .ok (.aload_n 1, 1) := dk_43 (dk_at dksX23_init_0 6 rfl rfl)
theorem dX23_init_7 : decode cX23_init 7 = .ok (.iload_n 3, 1) := dk_29 (dk_at dksX23_init_0 7 rfl rfl)
theorem dX23_init_8 : decode cX23_init 8 = .ok (.iload 4, 2) := dk_21 4 (dk_at dksX23_init_0 8 rfl rfl)
theorem dX23_init_10 : decode cX23_init 10 = .ok (.iload 5, 2) := dk_21 5 (dk_at dksX23_init_0 10 rfl rfl)
theorem dX23_init_12 : decode cX23_init 12 = .ok (.invokespecial 7, 3) := dk_183 0 7 (dk_at dksX23_init_0 12 rfl rfl)
theorem dX23_init_15 : decode cX23_init 15 = .ok (.aload_n 0, 1) := dk_42 (dk_at dksX23_init_0 15 rfl rfl)
theorem dX23_init_16 : decode cX23_init 16 = .ok (.iload_n 2, 1) := dk_28 (dk_at dksX23_init_0 16 rfl rfl)
theorem dX23_init_17 : decode cX23_init 17 = .ok (.putfield 13, 3) := dk_181 0 13 (dk_at dksX23_init_0 17 rfl rfl)
theorem dX23_init_20 : decode cX23_init 20 = .ok (.return_, 1) := dk_177 (dk_at dksX23_init_0 20 rfl rfl)
abbrev cX24_watched : ByteArray := prog_23_method_2_code
def yX24_watched : MethodName := ⟨RX24, "watched", "(I)I"⟩
def dkwX24_watched_0 : List UInt8 := [27, 42, 180, 0, 15, 160, 0, 10, 42, 180, 0, 19, 167, 0, 4, 2, 172]
abbrev dktX24_watched_0 : List UInt8 := dkwX24_watched_0 ++ []
theorem dksX24_watched_0 : cX24_watched.data.toList.drop 0 = dktX24_watched_0 := by decide +kernel
theorem dX24_watched_0 : decode cX24_watched 0 = .ok (.iload_n 1, 1) := dk_27 (dk_at dksX24_watched_0 0 rfl rfl)
theorem dX24_watched_1 : decode cX24_watched 1 = .ok (.aload_n 0, 1) := dk_42 (dk_at dksX24_watched_0 1 rfl rfl)
theorem dX24_watched_2 : decode cX24_watched 2 = .ok (.getfield 15, 3) := dk_180 0 15 (dk_at dksX24_watched_0 2 rfl rfl)
theorem dX24_watched_5 : decode cX24_watched 5 = .ok (.if_icmp .ne 10, 3) := dk_160 0 10 (dk_at dksX24_watched_0 5 rfl rfl)
theorem dX24_watched_8 : decode cX24_watched 8 = .ok (.aload_n 0, 1) := dk_42 (dk_at dksX24_watched_0 8 rfl rfl)
theorem dX24_watched_9 : decode cX24_watched 9 = .ok (.getfield 19, 3) := dk_180 0 19 (dk_at dksX24_watched_0 9 rfl rfl)
theorem dX24_watched_12 : decode cX24_watched 12 = .ok (.goto 4, 3) := dk_167 0 4 (dk_at dksX24_watched_0 12 rfl rfl)
theorem dX24_watched_15 : decode cX24_watched 15 = .ok (.iconst (-1), 1) := dk_2 (dk_at dksX24_watched_0 15 rfl rfl)
theorem dX24_watched_16 : decode cX24_watched 16 = .ok (.ireturn, 1) := dk_172 (dk_at dksX24_watched_0 16 rfl rfl)
abbrev cX24_init : ByteArray := prog_23_method_1_code
def yX24_init : MethodName := ⟨RX24, "<init>", "(LRapTable;IIIII)V"⟩
def dkwX24_init_1 : List UInt8 := [181, 0, 19, 177]
abbrev dktX24_init_1 : List UInt8 := dkwX24_init_1 ++ []
def dkwX24_init_0 : List UInt8 := [42, 43, 181, 0, 3, 42, 43, 21, 4, 21, 5, 21, 6, 183, 0, 9, 42, 28, 181, 0, 15, 42, 29]
abbrev dktX24_init_0 : List UInt8 := dkwX24_init_0 ++ dktX24_init_1
theorem dksX24_init_0 : cX24_init.data.toList.drop 0 = dktX24_init_0 := by decide +kernel
theorem dksX24_init_1 : cX24_init.data.toList.drop 23 = dktX24_init_1 := dk_seg dksX24_init_0 23 rfl rfl
theorem dX24_init_0 : decode cX24_init 0 = .ok (.aload_n 0, 1) := dk_42 (dk_at dksX24_init_0 0 rfl rfl)
theorem dX24_init_1 : decode cX24_init 1 = .ok (.aload_n 1, 1) := dk_43 (dk_at dksX24_init_0 1 rfl rfl)
theorem dX24_init_2 : decode cX24_init 2 = .ok (.putfield 3, 3) := dk_181 0 3 (dk_at dksX24_init_0 2 rfl rfl)
theorem dX24_init_5 : decode cX24_init 5 = .ok (.aload_n 0, 1) := dk_42 (dk_at dksX24_init_0 5 rfl rfl)
theorem dX24_init_6 : decode cX24_init 6 = .ok (.aload_n 1, 1) := dk_43 (dk_at dksX24_init_0 6 rfl rfl)
theorem dX24_init_7 : decode cX24_init 7 = .ok (.iload 4, 2) := dk_21 4 (dk_at dksX24_init_0 7 rfl rfl)
theorem dX24_init_9 : decode cX24_init 9 = .ok (.iload 5, 2) := dk_21 5 (dk_at dksX24_init_0 9 rfl rfl)
theorem dX24_init_11 : decode cX24_init 11 = .ok (.iload 6, 2) := dk_21 6 (dk_at dksX24_init_0 11 rfl rfl)
theorem dX24_init_13 : decode cX24_init 13 = .ok (.invokespecial 9, 3) := dk_183 0 9 (dk_at dksX24_init_0 13 rfl rfl)
theorem dX24_init_16 : decode cX24_init 16 = .ok (.aload_n 0, 1) := dk_42 (dk_at dksX24_init_0 16 rfl rfl)
theorem dX24_init_17 : decode cX24_init 17 = .ok (.iload_n 2, 1) := dk_28 (dk_at dksX24_init_0 17 rfl rfl)
theorem dX24_init_18 : decode cX24_init 18 = .ok (.putfield 15, 3) := dk_181 0 15 (dk_at dksX24_init_0 18 rfl rfl)
theorem dX24_init_21 : decode cX24_init 21 = .ok (.aload_n 0, 1) := dk_42 (dk_at dksX24_init_0 21 rfl rfl)
theorem dX24_init_22 : decode cX24_init 22 = .ok (.iload_n 3, 1) := dk_29 (dk_at dksX24_init_0 22 rfl rfl)
theorem dX24_init_23 : decode cX24_init 23 = .ok (.putfield 19, 3) := dk_181 0 19 (dk_at dksX24_init_1 0 rfl rfl)
theorem dX24_init_26 : decode cX24_init 26 = .ok (.return_, 1) := dk_177 (dk_at dksX24_init_1 3 rfl rfl)
abbrev cX3_init : ByteArray := prog_13_method_1_code
def yX3_init : MethodName := ⟨RX3, "<init>", "(LRapTable;)V"⟩
def dkwX3_init_3 : List UInt8 := [16, 30, 188, 10, 181, 0, 40, 177]
abbrev dktX3_init_3 : List UInt8 := dkwX3_init_3 ++ []
def dkwX3_init_2 : List UInt8 := [16, 10, 197, 0, 30, 2, 181, 0, 32, 42, 16, 11, 16, 10, 16, 102, 197, 0, 35, 3, 181, 0, 37, 42]
abbrev dktX3_init_2 : List UInt8 := dkwX3_init_2 ++ dktX3_init_3
def dkwX3_init_1 : List UInt8 := [181, 0, 19, 42, 17, 3, 232, 188, 10, 181, 0, 23, 42, 17, 39, 16, 188, 8, 181, 0, 26, 42, 16, 11]
abbrev dktX3_init_1 : List UInt8 := dkwX3_init_1 ++ dktX3_init_2
def dkwX3_init_0 : List UInt8 := [42, 43, 181, 0, 3, 42, 183, 0, 9, 42, 17, 7, 8, 188, 4, 181, 0, 15, 42, 17, 7, 8, 188, 10]
abbrev dktX3_init_0 : List UInt8 := dkwX3_init_0 ++ dktX3_init_1
theorem dksX3_init_0 : cX3_init.data.toList.drop 0 = dktX3_init_0 := by decide +kernel
theorem dksX3_init_1 : cX3_init.data.toList.drop 24 = dktX3_init_1 := dk_seg dksX3_init_0 24 rfl rfl
theorem dksX3_init_2 : cX3_init.data.toList.drop 48 = dktX3_init_2 := dk_seg dksX3_init_1 24 rfl rfl
theorem dksX3_init_3 : cX3_init.data.toList.drop 72 = dktX3_init_3 := dk_seg dksX3_init_2 24 rfl rfl
theorem dX3_init_0 : decode cX3_init 0 = .ok (.aload_n 0, 1) := dk_42 (dk_at dksX3_init_0 0 rfl rfl)
theorem dX3_init_1 : decode cX3_init 1 = .ok (.aload_n 1, 1) := dk_43 (dk_at dksX3_init_0 1 rfl rfl)
theorem dX3_init_2 : decode cX3_init 2 = .ok (.putfield 3, 3) := dk_181 0 3 (dk_at dksX3_init_0 2 rfl rfl)
theorem dX3_init_5 : decode cX3_init 5 = .ok (.aload_n 0, 1) := dk_42 (dk_at dksX3_init_0 5 rfl rfl)
theorem dX3_init_6 : decode cX3_init 6 = .ok (.invokespecial 9, 3) := dk_183 0 9 (dk_at dksX3_init_0 6 rfl rfl)
theorem dX3_init_9 : decode cX3_init 9 = .ok (.aload_n 0, 1) := dk_42 (dk_at dksX3_init_0 9 rfl rfl)
theorem dX3_init_10 : decode cX3_init 10 = .ok (.sipush 1800, 3) := dk_17 7 8 (dk_at dksX3_init_0 10 rfl rfl)
theorem dX3_init_13 : decode cX3_init 13 = .ok (.newarray .boolean, 2) := dk_188_4 (dk_at dksX3_init_0 13 rfl rfl)
theorem dX3_init_15 : decode cX3_init 15 = .ok (.putfield 15, 3) := dk_181 0 15 (dk_at dksX3_init_0 15 rfl rfl)
theorem dX3_init_18 : decode cX3_init 18 = .ok (.aload_n 0, 1) := dk_42 (dk_at dksX3_init_0 18 rfl rfl)
theorem dX3_init_19 : decode cX3_init 19 = .ok (.sipush 1800, 3) := dk_17 7 8 (dk_at dksX3_init_0 19 rfl rfl)
theorem dX3_init_22 : decode cX3_init 22 = .ok (.newarray .int, 2) := dk_188_10 (dk_at dksX3_init_0 22 rfl rfl)
theorem dX3_init_24 : decode cX3_init 24 = .ok (.putfield 19, 3) := dk_181 0 19 (dk_at dksX3_init_1 0 rfl rfl)
theorem dX3_init_27 : decode cX3_init 27 = .ok (.aload_n 0, 1) := dk_42 (dk_at dksX3_init_1 3 rfl rfl)
theorem dX3_init_28 : decode cX3_init 28 = .ok (.sipush 1000, 3) := dk_17 3 232 (dk_at dksX3_init_1 4 rfl rfl)
theorem dX3_init_31 : decode cX3_init 31 = .ok (.newarray .int, 2) := dk_188_10 (dk_at dksX3_init_1 7 rfl rfl)
theorem dX3_init_33 : decode cX3_init 33 = .ok (.putfield 23, 3) := dk_181 0 23 (dk_at dksX3_init_1 9 rfl rfl)
theorem dX3_init_36 : decode cX3_init 36 = .ok (.aload_n 0, 1) := dk_42 (dk_at dksX3_init_1 12 rfl rfl)
theorem dX3_init_37 : decode cX3_init 37 = .ok (.sipush 10000, 3) := dk_17 39 16 (dk_at dksX3_init_1 13 rfl rfl)
theorem dX3_init_40 : decode cX3_init 40 = .ok (.newarray .byte, 2) := dk_188_8 (dk_at dksX3_init_1 16 rfl rfl)
theorem dX3_init_42 : decode cX3_init 42 = .ok (.putfield 26, 3) := dk_181 0 26 (dk_at dksX3_init_1 18 rfl rfl)
theorem dX3_init_45 : decode cX3_init 45 = .ok (.aload_n 0, 1) := dk_42 (dk_at dksX3_init_1 21 rfl rfl)
theorem dX3_init_46 : decode cX3_init 46 = .ok (.bipush 11, 2) := dk_16 11 (dk_at dksX3_init_1 22 rfl rfl)
theorem dX3_init_48 : decode cX3_init 48 = .ok (.bipush 10, 2) := dk_16 10 (dk_at dksX3_init_2 0 rfl rfl)
theorem dX3_init_50 : decode cX3_init 50 = .ok (.multianewarray 30 2, 4) := by decide +kernel
theorem dX3_init_54 : decode cX3_init 54 = .ok (.putfield 32, 3) := dk_181 0 32 (dk_at dksX3_init_2 6 rfl rfl)
theorem dX3_init_57 : decode cX3_init 57 = .ok (.aload_n 0, 1) := dk_42 (dk_at dksX3_init_2 9 rfl rfl)
theorem dX3_init_58 : decode cX3_init 58 = .ok (.bipush 11, 2) := dk_16 11 (dk_at dksX3_init_2 10 rfl rfl)
theorem dX3_init_60 : decode cX3_init 60 = .ok (.bipush 10, 2) := dk_16 10 (dk_at dksX3_init_2 12 rfl rfl)
theorem dX3_init_62 : decode cX3_init 62 = .ok (.bipush 102, 2) := dk_16 102 (dk_at dksX3_init_2 14 rfl rfl)
theorem dX3_init_64 : decode cX3_init 64 = .ok (.multianewarray 35 3, 4) := by decide +kernel
theorem dX3_init_68 : decode cX3_init 68 = .ok (.putfield 37, 3) := dk_181 0 37 (dk_at dksX3_init_2 20 rfl rfl)
theorem dX3_init_71 : decode cX3_init 71 = .ok (.aload_n 0, 1) := dk_42 (dk_at dksX3_init_2 23 rfl rfl)
theorem dX3_init_72 : decode cX3_init 72 = .ok (.bipush 30, 2) := dk_16 30 (dk_at dksX3_init_3 0 rfl rfl)
theorem dX3_init_74 : decode cX3_init 74 = .ok (.newarray .int, 2) := dk_188_10 (dk_at dksX3_init_3 2 rfl rfl)
theorem dX3_init_76 : decode cX3_init 76 = .ok (.putfield 40, 3) := dk_181 0 40 (dk_at dksX3_init_3 4 rfl rfl)
theorem dX3_init_79 : decode cX3_init 79 = .ok (.return_, 1) := dk_177 (dk_at dksX3_init_3 7 rfl rfl)
abbrev cX3_look : ByteArray := prog_13_method_2_code
def yX3_look : MethodName := ⟨RX3, "look", "()V"⟩
def dkwX3_look_6 : List UInt8 := [132, 3, 1, 167, 255, 208, 132, 2, 1, 167, 255, 177, 132, 1, 1, 167, 255, 101, 177]
abbrev dktX3_look_6 : List UInt8 := dkwX3_look_6 ++ []
def dkwX3_look_5 : List UInt8 := [46, 42, 180, 0, 3, 29, 28, 27, 182, 0, 55, 153, 0, 9, 4, 29, 120, 167, 0, 4, 3, 128, 79]
abbrev dktX3_look_5 : List UInt8 := dkwX3_look_5 ++ dktX3_look_6
def dkwX3_look_4 : List UInt8 := [3, 62, 29, 42, 180, 0, 3, 180, 0, 43, 162, 0, 43, 42, 180, 0, 23, 16, 100, 28, 104, 27, 96, 92]
abbrev dktX3_look_4 : List UInt8 := dkwX3_look_4 ++ dktX3_look_5
def dkwX3_look_3 : List UInt8 := [61, 28, 42, 180, 0, 3, 180, 0, 43, 163, 0, 74, 42, 180, 0, 23, 16, 100, 28, 104, 27, 96, 3, 79]
abbrev dktX3_look_3 : List UInt8 := dkwX3_look_3 ++ dktX3_look_4
def dkwX3_look_2 : List UInt8 := [16, 100, 28, 104, 27, 96, 42, 180, 0, 3, 28, 27, 4, 182, 0, 51, 79, 132, 2, 1, 167, 255, 199, 3]
abbrev dktX3_look_2 : List UInt8 := dkwX3_look_2 ++ dktX3_look_3
def dkwX3_look_1 : List UInt8 := [180, 0, 15, 16, 100, 28, 104, 27, 96, 42, 180, 0, 3, 28, 27, 182, 0, 47, 84, 42, 180, 0, 19]
abbrev dktX3_look_1 : List UInt8 := dkwX3_look_1 ++ dktX3_look_2
def dkwX3_look_0 : List UInt8 := [3, 60, 27, 16, 100, 162, 0, 155, 3, 61, 28, 5, 42, 180, 0, 3, 180, 0, 43, 104, 162, 0, 50, 42]
abbrev dktX3_look_0 : List UInt8 := dkwX3_look_0 ++ dktX3_look_1
theorem dksX3_look_0 : cX3_look.data.toList.drop 0 = dktX3_look_0 := by decide +kernel
theorem dksX3_look_1 : cX3_look.data.toList.drop 24 = dktX3_look_1 := dk_seg dksX3_look_0 24 rfl rfl
theorem dksX3_look_2 : cX3_look.data.toList.drop 47 = dktX3_look_2 := dk_seg dksX3_look_1 23 rfl rfl
theorem dksX3_look_3 : cX3_look.data.toList.drop 71 = dktX3_look_3 := dk_seg dksX3_look_2 24 rfl rfl
theorem dksX3_look_4 : cX3_look.data.toList.drop 95 = dktX3_look_4 := dk_seg dksX3_look_3 24 rfl rfl
theorem dksX3_look_5 : cX3_look.data.toList.drop 119 = dktX3_look_5 := dk_seg dksX3_look_4 24 rfl rfl
theorem dksX3_look_6 : cX3_look.data.toList.drop 142 = dktX3_look_6 := dk_seg dksX3_look_5 23 rfl rfl
theorem dX3_look_0 : decode cX3_look 0 = .ok (.iconst 0, 1) := dk_3 (dk_at dksX3_look_0 0 rfl rfl)
theorem dX3_look_1 : decode cX3_look 1 = .ok (.istore_n 1, 1) := dk_60 (dk_at dksX3_look_0 1 rfl rfl)
theorem dX3_look_2 : decode cX3_look 2 = .ok (.iload_n 1, 1) := dk_27 (dk_at dksX3_look_0 2 rfl rfl)
theorem dX3_look_3 : decode cX3_look 3 = .ok (.bipush 100, 2) := dk_16 100 (dk_at dksX3_look_0 3 rfl rfl)
theorem dX3_look_5 : decode cX3_look 5 = .ok (.if_icmp .ge 155, 3) := dk_162 0 155 (dk_at dksX3_look_0 5 rfl rfl)
theorem dX3_look_8 : decode cX3_look 8 = .ok (.iconst 0, 1) := dk_3 (dk_at dksX3_look_0 8 rfl rfl)
theorem dX3_look_9 : decode cX3_look 9 = .ok (.istore_n 2, 1) := dk_61 (dk_at dksX3_look_0 9 rfl rfl)
theorem dX3_look_10 : decode cX3_look 10 = .ok (.iload_n 2, 1) := dk_28 (dk_at dksX3_look_0 10 rfl rfl)
theorem dX3_look_11 : decode cX3_look 11 = .ok (.iconst 2, 1) := dk_5 (dk_at dksX3_look_0 11 rfl rfl)
theorem dX3_look_12 : decode cX3_look 12 = .ok (.aload_n 0, 1) := dk_42 (dk_at dksX3_look_0 12 rfl rfl)
theorem dX3_look_13 : decode cX3_look 13 = .ok (.getfield 3, 3) := dk_180 0 3 (dk_at dksX3_look_0 13 rfl rfl)
theorem dX3_look_16 : decode cX3_look 16 = .ok (.getfield 43, 3) := dk_180 0 43 (dk_at dksX3_look_0 16 rfl rfl)
theorem dX3_look_19 : decode cX3_look 19 = .ok (.imul, 1) := dk_104 (dk_at dksX3_look_0 19 rfl rfl)
theorem dX3_look_20 : decode cX3_look 20 = .ok (.if_icmp .ge 50, 3) := dk_162 0 50 (dk_at dksX3_look_0 20 rfl rfl)
theorem dX3_look_23 : decode cX3_look 23 = .ok (.aload_n 0, 1) := dk_42 (dk_at dksX3_look_0 23 rfl rfl)
theorem dX3_look_24 : decode cX3_look 24 = .ok (.getfield 15, 3) := dk_180 0 15 (dk_at dksX3_look_1 0 rfl rfl)
theorem dX3_look_27 : decode cX3_look 27 = .ok (.bipush 100, 2) := dk_16 100 (dk_at dksX3_look_1 3 rfl rfl)
theorem dX3_look_29 : decode cX3_look 29 = .ok (.iload_n 2, 1) := dk_28 (dk_at dksX3_look_1 5 rfl rfl)
theorem dX3_look_30 : decode cX3_look 30 = .ok (.imul, 1) := dk_104 (dk_at dksX3_look_1 6 rfl rfl)
theorem dX3_look_31 : decode cX3_look 31 = .ok (.iload_n 1, 1) := dk_27 (dk_at dksX3_look_1 7 rfl rfl)
theorem dX3_look_32 : decode cX3_look 32 = .ok (.iadd, 1) := dk_96 (dk_at dksX3_look_1 8 rfl rfl)
theorem dX3_look_33 : decode cX3_look 33 = .ok (.aload_n 0, 1) := dk_42 (dk_at dksX3_look_1 9 rfl rfl)
theorem dX3_look_34 : decode cX3_look 34 = .ok (.getfield 3, 3) := dk_180 0 3 (dk_at dksX3_look_1 10 rfl rfl)
theorem dX3_look_37 : decode cX3_look 37 = .ok (.iload_n 2, 1) := dk_28 (dk_at dksX3_look_1 13 rfl rfl)
theorem dX3_look_38 : decode cX3_look 38 = .ok (.iload_n 1, 1) := dk_27 (dk_at dksX3_look_1 14 rfl rfl)
theorem dX3_look_39 : decode cX3_look 39 = .ok (.invokevirtual 47, 3) := dk_182 0 47 (dk_at dksX3_look_1 15 rfl rfl)
theorem dX3_look_42 : decode cX3_look 42 = .ok (.bastore, 1) := dk_84 (dk_at dksX3_look_1 18 rfl rfl)
theorem dX3_look_43 : decode cX3_look 43 = .ok (.aload_n 0, 1) := dk_42 (dk_at dksX3_look_1 19 rfl rfl)
theorem dX3_look_44 : decode cX3_look 44 = .ok (.getfield 19, 3) := dk_180 0 19 (dk_at dksX3_look_1 20 rfl rfl)
theorem dX3_look_47 : decode cX3_look 47 = .ok (.bipush 100, 2) := dk_16 100 (dk_at dksX3_look_2 0 rfl rfl)
theorem dX3_look_49 : decode cX3_look 49 = .ok (.iload_n 2, 1) := dk_28 (dk_at dksX3_look_2 2 rfl rfl)
theorem dX3_look_50 : decode cX3_look 50 = .ok (.imul, 1) := dk_104 (dk_at dksX3_look_2 3 rfl rfl)
theorem dX3_look_51 : decode cX3_look 51 = .ok (.iload_n 1, 1) := dk_27 (dk_at dksX3_look_2 4 rfl rfl)
theorem dX3_look_52 : decode cX3_look 52 = .ok (.iadd, 1) := dk_96 (dk_at dksX3_look_2 5 rfl rfl)
theorem dX3_look_53 : decode cX3_look 53 = .ok (.aload_n 0, 1) := dk_42 (dk_at dksX3_look_2 6 rfl rfl)
theorem dX3_look_54 : decode cX3_look 54 = .ok (.getfield 3, 3) := dk_180 0 3 (dk_at dksX3_look_2 7 rfl rfl)
theorem dX3_look_57 : decode cX3_look 57 = .ok (.iload_n 2, 1) := dk_28 (dk_at dksX3_look_2 10 rfl rfl)
theorem dX3_look_58 : decode cX3_look 58 = .ok (.iload_n 1, 1) := dk_27 (dk_at dksX3_look_2 11 rfl rfl)
theorem dX3_look_59 : decode cX3_look 59 = .ok (.iconst 1, 1) := dk_4 (dk_at dksX3_look_2 12 rfl rfl)
theorem dX3_look_60 : decode cX3_look 60 = .ok (.invokevirtual 51, 3) := dk_182 0 51 (dk_at dksX3_look_2 13 rfl rfl)
theorem dX3_look_63 : decode cX3_look 63 = .ok (.iastore, 1) := dk_79 (dk_at dksX3_look_2 16 rfl rfl)
theorem dX3_look_64 : decode cX3_look 64 = .ok (.iinc 2 1, 3) := dk_132 2 1 (dk_at dksX3_look_2 17 rfl rfl)
theorem dX3_look_67 : decode cX3_look 67 = .ok (.goto (-57), 3) := dk_167 255 199 (dk_at dksX3_look_2 20 rfl rfl)
theorem dX3_look_70 : decode cX3_look 70 = .ok (.iconst 0, 1) := dk_3 (dk_at dksX3_look_2 23 rfl rfl)
theorem dX3_look_71 : decode cX3_look 71 = .ok (.istore_n 2, 1) := dk_61 (dk_at dksX3_look_3 0 rfl rfl)
theorem dX3_look_72 : decode cX3_look 72 = .ok (.iload_n 2, 1) := dk_28 (dk_at dksX3_look_3 1 rfl rfl)
theorem dX3_look_73 : decode cX3_look 73 = .ok (.aload_n 0, 1) := dk_42 (dk_at dksX3_look_3 2 rfl rfl)
theorem dX3_look_74 : decode cX3_look 74 = .ok (.getfield 3, 3) := dk_180 0 3 (dk_at dksX3_look_3 3 rfl rfl)
theorem dX3_look_77 : decode cX3_look 77 = .ok (.getfield 43, 3) := dk_180 0 43 (dk_at dksX3_look_3 6 rfl rfl)
theorem dX3_look_80 : decode cX3_look 80 = .ok (.if_icmp .gt 74, 3) := dk_163 0 74 (dk_at dksX3_look_3 9 rfl rfl)
theorem dX3_look_83 : decode cX3_look 83 = .ok (.aload_n 0, 1) := dk_42 (dk_at dksX3_look_3 12 rfl rfl)
theorem dX3_look_84 : decode cX3_look 84 = .ok (.getfield 23, 3) := dk_180 0 23 (dk_at dksX3_look_3 13 rfl rfl)
theorem dX3_look_87 : decode cX3_look 87 = .ok (.bipush 100, 2) := dk_16 100 (dk_at dksX3_look_3 16 rfl rfl)
theorem dX3_look_89 : decode cX3_look 89 = .ok (.iload_n 2, 1) := dk_28 (dk_at dksX3_look_3 18 rfl rfl)
theorem dX3_look_90 : decode cX3_look 90 = .ok (.imul, 1) := dk_104 (dk_at dksX3_look_3 19 rfl rfl)
theorem dX3_look_91 : decode cX3_look 91 = .ok (.iload_n 1, 1) := dk_27 (dk_at dksX3_look_3 20 rfl rfl)
theorem dX3_look_92 : decode cX3_look 92 = .ok (.iadd, 1) := dk_96 (dk_at dksX3_look_3 21 rfl rfl)
theorem dX3_look_93 : decode cX3_look 93 = .ok (.iconst 0, 1) := dk_3 (dk_at dksX3_look_3 22 rfl rfl)
theorem dX3_look_94 : decode cX3_look 94 = .ok (.iastore, 1) := dk_79 (dk_at dksX3_look_3 23 rfl rfl)
theorem dX3_look_95 : decode cX3_look 95 = .ok (.iconst 0, 1) := dk_3 (dk_at dksX3_look_4 0 rfl rfl)
theorem dX3_look_96 : decode cX3_look 96 = .ok (.istore_n 3, 1) := dk_62 (dk_at dksX3_look_4 1 rfl rfl)
theorem dX3_look_97 : decode cX3_look 97 = .ok (.iload_n 3, 1) := dk_29 (dk_at dksX3_look_4 2 rfl rfl)
theorem dX3_look_98 : decode cX3_look 98 = .ok (.aload_n 0, 1) := dk_42 (dk_at dksX3_look_4 3 rfl rfl)
theorem dX3_look_99 : decode cX3_look 99 = .ok (.getfield 3, 3) := dk_180 0 3 (dk_at dksX3_look_4 4 rfl rfl)
theorem dX3_look_102 : decode cX3_look 102 = .ok (.getfield 43, 3) := dk_180 0 43 (dk_at dksX3_look_4 7 rfl rfl)
theorem dX3_look_105 : decode cX3_look 105 = .ok (.if_icmp .ge 43, 3) := dk_162 0 43 (dk_at dksX3_look_4 10 rfl rfl)
theorem dX3_look_108 : decode cX3_look 108 = .ok (.aload_n 0, 1) := dk_42 (dk_at dksX3_look_4 13 rfl rfl)
theorem dX3_look_109 : decode cX3_look 109 = .ok (.getfield 23, 3) := dk_180 0 23 (dk_at dksX3_look_4 14 rfl rfl)
theorem dX3_look_112 : decode cX3_look 112 = .ok (.bipush 100, 2) := dk_16 100 (dk_at dksX3_look_4 17 rfl rfl)
theorem dX3_look_114 : decode cX3_look 114 = .ok (.iload_n 2, 1) := dk_28 (dk_at dksX3_look_4 19 rfl rfl)
theorem dX3_look_115 : decode cX3_look 115 = .ok (.imul, 1) := dk_104 (dk_at dksX3_look_4 20 rfl rfl)
theorem dX3_look_116 : decode cX3_look 116 = .ok (.iload_n 1, 1) := dk_27 (dk_at dksX3_look_4 21 rfl rfl)
theorem dX3_look_117 : decode cX3_look 117 = .ok (.iadd, 1) := dk_96 (dk_at dksX3_look_4 22 rfl rfl)
theorem dX3_look_118 : decode cX3_look 118 = .ok (.dup2, 1) := dk_92 (dk_at dksX3_look_4 23 rfl rfl)
theorem dX3_look_119 : decode cX3_look 119 = .ok (.iaload, 1) := dk_46 (dk_at dksX3_look_5 0 rfl rfl)
theorem dX3_look_120 : decode cX3_look 120 = .ok (.aload_n 0, 1) := dk_42 (dk_at dksX3_look_5 1 rfl rfl)
theorem dX3_look_121 : decode cX3_look 121 = .ok (.getfield 3, 3) := dk_180 0 3 (dk_at dksX3_look_5 2 rfl rfl)
theorem dX3_look_124 : decode cX3_look 124 = .ok (.iload_n 3, 1) := dk_29 (dk_at dksX3_look_5 5 rfl rfl)
theorem dX3_look_125 : decode cX3_look 125 = .ok (.iload_n 2, 1) := dk_28 (dk_at dksX3_look_5 6 rfl rfl)
theorem dX3_look_126 : decode cX3_look 126 = .ok (.iload_n 1, 1) := dk_27 (dk_at dksX3_look_5 7 rfl rfl)
theorem dX3_look_127 : decode cX3_look 127 = .ok (.invokevirtual 55, 3) := dk_182 0 55 (dk_at dksX3_look_5 8 rfl rfl)
theorem dX3_look_130 : decode cX3_look 130 = .ok (.ifCond .eq 9, 3) := dk_153 0 9 (dk_at dksX3_look_5 11 rfl rfl)
theorem dX3_look_133 : decode cX3_look 133 = .ok (.iconst 1, 1) := dk_4 (dk_at dksX3_look_5 14 rfl rfl)
theorem dX3_look_134 : decode cX3_look 134 = .ok (.iload_n 3, 1) := dk_29 (dk_at dksX3_look_5 15 rfl rfl)
theorem dX3_look_135 : decode cX3_look 135 = .ok (.ishl, 1) := dk_120 (dk_at dksX3_look_5 16 rfl rfl)
theorem dX3_look_136 : decode cX3_look 136 = .ok (.goto 4, 3) := dk_167 0 4 (dk_at dksX3_look_5 17 rfl rfl)
theorem dX3_look_139 : decode cX3_look 139 = .ok (.iconst 0, 1) := dk_3 (dk_at dksX3_look_5 20 rfl rfl)
theorem dX3_look_140 : decode cX3_look 140 = .ok (.ior, 1) := dk_128 (dk_at dksX3_look_5 21 rfl rfl)
theorem dX3_look_141 : decode cX3_look 141 = .ok (.iastore, 1) := dk_79 (dk_at dksX3_look_5 22 rfl rfl)
theorem dX3_look_142 : decode cX3_look 142 = .ok (.iinc 3 1, 3) := dk_132 3 1 (dk_at dksX3_look_6 0 rfl rfl)
theorem dX3_look_145 : decode cX3_look 145 = .ok (.goto (-48), 3) := dk_167 255 208 (dk_at dksX3_look_6 3 rfl rfl)
theorem dX3_look_148 : decode cX3_look 148 = .ok (.iinc 2 1, 3) := dk_132 2 1 (dk_at dksX3_look_6 6 rfl rfl)
theorem dX3_look_151 : decode cX3_look 151 = .ok (.goto (-79), 3) := dk_167 255 177 (dk_at dksX3_look_6 9 rfl rfl)
theorem dX3_look_154 : decode cX3_look 154 = .ok (.iinc 1 1, 3) := dk_132 1 1 (dk_at dksX3_look_6 12 rfl rfl)
theorem dX3_look_157 : decode cX3_look 157 = .ok (.goto (-155), 3) := dk_167 255 101 (dk_at dksX3_look_6 15 rfl rfl)
theorem dX3_look_160 : decode cX3_look 160 = .ok (.return_, 1) := dk_177 (dk_at dksX3_look_6 18 rfl rfl)
abbrev cX3_gather : ByteArray := prog_13_method_4_code
def yX3_gather : MethodName := ⟨RX3, "gather", "(I)V"⟩
def dkwX3_gather_3 : List UInt8 := [132, 4, 1, 167, 255, 220, 132, 3, 1, 167, 255, 200, 132, 2, 1, 167, 255, 181, 177]
abbrev dktX3_gather_3 : List UInt8 := dkwX3_gather_3 ++ []
def dkwX3_gather_2 : List UInt8 := [16, 100, 16, 10, 28, 104, 29, 96, 104, 21, 4, 96, 42, 28, 29, 21, 4, 182, 0, 65, 145, 84]
abbrev dktX3_gather_2 : List UInt8 := dkwX3_gather_2 ++ dktX3_gather_3
def dkwX3_gather_1 : List UInt8 := [180, 0, 3, 180, 0, 43, 163, 0, 51, 3, 54, 4, 21, 4, 16, 100, 162, 0, 35, 42, 180, 0, 26]
abbrev dktX3_gather_1 : List UInt8 := dkwX3_gather_1 ++ dktX3_gather_2
def dkwX3_gather_0 : List UInt8 := [42, 27, 181, 0, 59, 3, 61, 28, 42, 180, 0, 3, 180, 0, 43, 163, 0, 70, 3, 62, 29, 42]
abbrev dktX3_gather_0 : List UInt8 := dkwX3_gather_0 ++ dktX3_gather_1
theorem dksX3_gather_0 : cX3_gather.data.toList.drop 0 = dktX3_gather_0 := by decide +kernel
theorem dksX3_gather_1 : cX3_gather.data.toList.drop 22 = dktX3_gather_1 := dk_seg dksX3_gather_0 22 rfl rfl
theorem dksX3_gather_2 : cX3_gather.data.toList.drop 45 = dktX3_gather_2 := dk_seg dksX3_gather_1 23 rfl rfl
theorem dksX3_gather_3 : cX3_gather.data.toList.drop 67 = dktX3_gather_3 := dk_seg dksX3_gather_2 22 rfl rfl
theorem dX3_gather_0 : decode cX3_gather 0 = .ok (.aload_n 0, 1) := dk_42 (dk_at dksX3_gather_0 0 rfl rfl)
theorem dX3_gather_1 : decode cX3_gather 1 = .ok (.iload_n 1, 1) := dk_27 (dk_at dksX3_gather_0 1 rfl rfl)
theorem dX3_gather_2 : decode cX3_gather 2 = .ok (.putfield 59, 3) := dk_181 0 59 (dk_at dksX3_gather_0 2 rfl rfl)
theorem dX3_gather_5 : decode cX3_gather 5 = .ok (.iconst 0, 1) := dk_3 (dk_at dksX3_gather_0 5 rfl rfl)
theorem dX3_gather_6 : decode cX3_gather 6 = .ok (.istore_n 2, 1) := dk_61 (dk_at dksX3_gather_0 6 rfl rfl)
theorem dX3_gather_7 : decode cX3_gather 7 = .ok (.iload_n 2, 1) := dk_28 (dk_at dksX3_gather_0 7 rfl rfl)
theorem dX3_gather_8 : decode cX3_gather 8 = .ok (.aload_n 0, 1) := dk_42 (dk_at dksX3_gather_0 8 rfl rfl)
theorem dX3_gather_9 : decode cX3_gather 9 = .ok (.getfield 3, 3) := dk_180 0 3 (dk_at dksX3_gather_0 9 rfl rfl)
theorem dX3_gather_12 : decode cX3_gather 12 = .ok (.getfield 43, 3) := dk_180 0 43 (dk_at dksX3_gather_0 12 rfl rfl)
theorem dX3_gather_15 : decode cX3_gather 15 = .ok (.if_icmp .gt 70, 3) := dk_163 0 70 (dk_at dksX3_gather_0 15 rfl rfl)
theorem dX3_gather_18 : decode cX3_gather 18 = .ok (.iconst 0, 1) := dk_3 (dk_at dksX3_gather_0 18 rfl rfl)
theorem dX3_gather_19 : decode cX3_gather 19 = .ok (.istore_n 3, 1) := dk_62 (dk_at dksX3_gather_0 19 rfl rfl)
theorem dX3_gather_20 : decode cX3_gather 20 = .ok (.iload_n 3, 1) := dk_29 (dk_at dksX3_gather_0 20 rfl rfl)
theorem dX3_gather_21 : decode cX3_gather 21 = .ok (.aload_n 0, 1) := dk_42 (dk_at dksX3_gather_0 21 rfl rfl)
theorem dX3_gather_22 : decode cX3_gather 22 = .ok (.getfield 3, 3) := dk_180 0 3 (dk_at dksX3_gather_1 0 rfl rfl)
theorem dX3_gather_25 : decode cX3_gather 25 = .ok (.getfield 43, 3) := dk_180 0 43 (dk_at dksX3_gather_1 3 rfl rfl)
theorem dX3_gather_28 : decode cX3_gather 28 = .ok (.if_icmp .gt 51, 3) := dk_163 0 51 (dk_at dksX3_gather_1 6 rfl rfl)
theorem dX3_gather_31 : decode cX3_gather 31 = .ok (.iconst 0, 1) := dk_3 (dk_at dksX3_gather_1 9 rfl rfl)
theorem dX3_gather_32 : decode cX3_gather 32 = .ok (.istore 4, 2) := dk_54 4 (dk_at dksX3_gather_1 10 rfl rfl)
theorem dX3_gather_34 : decode cX3_gather 34 = .ok (.iload 4, 2) := dk_21 4 (dk_at dksX3_gather_1 12 rfl rfl)
theorem dX3_gather_36 : decode cX3_gather 36 = .ok (.bipush 100, 2) := dk_16 100 (dk_at dksX3_gather_1 14 rfl rfl)
theorem dX3_gather_38 : decode cX3_gather 38 = .ok (.if_icmp .ge 35, 3) := dk_162 0 35 (dk_at dksX3_gather_1 16 rfl rfl)
theorem dX3_gather_41 : decode cX3_gather 41 = .ok (.aload_n 0, 1) := dk_42 (dk_at dksX3_gather_1 19 rfl rfl)
theorem dX3_gather_42 : decode cX3_gather 42 = .ok (.getfield 26, 3) := dk_180 0 26 (dk_at dksX3_gather_1 20 rfl rfl)
theorem dX3_gather_45 : decode cX3_gather 45 = .ok (.bipush 100, 2) := dk_16 100 (dk_at dksX3_gather_2 0 rfl rfl)
theorem dX3_gather_47 : decode cX3_gather 47 = .ok (.bipush 10, 2) := dk_16 10 (dk_at dksX3_gather_2 2 rfl rfl)
theorem dX3_gather_49 : decode cX3_gather 49 = .ok (.iload_n 2, 1) := dk_28 (dk_at dksX3_gather_2 4 rfl rfl)
theorem dX3_gather_50 : decode cX3_gather 50 = .ok (.imul, 1) := dk_104 (dk_at dksX3_gather_2 5 rfl rfl)
theorem dX3_gather_51 : decode cX3_gather 51 = .ok (.iload_n 3, 1) := dk_29 (dk_at dksX3_gather_2 6 rfl rfl)
theorem dX3_gather_52 : decode cX3_gather 52 = .ok (.iadd, 1) := dk_96 (dk_at dksX3_gather_2 7 rfl rfl)
theorem dX3_gather_53 : decode cX3_gather 53 = .ok (.imul, 1) := dk_104 (dk_at dksX3_gather_2 8 rfl rfl)
theorem dX3_gather_54 : decode cX3_gather 54 = .ok (.iload 4, 2) := dk_21 4 (dk_at dksX3_gather_2 9 rfl rfl)
theorem dX3_gather_56 : decode cX3_gather 56 = .ok (.iadd, 1) := dk_96 (dk_at dksX3_gather_2 11 rfl rfl)
theorem dX3_gather_57 : decode cX3_gather 57 = .ok (.aload_n 0, 1) := dk_42 (dk_at dksX3_gather_2 12 rfl rfl)
theorem dX3_gather_58 : decode cX3_gather 58 = .ok (.iload_n 2, 1) := dk_28 (dk_at dksX3_gather_2 13 rfl rfl)
theorem dX3_gather_59 : decode cX3_gather 59 = .ok (.iload_n 3, 1) := dk_29 (dk_at dksX3_gather_2 14 rfl rfl)
theorem dX3_gather_60 : decode cX3_gather 60 = .ok (.iload 4, 2) := dk_21 4 (dk_at dksX3_gather_2 15 rfl rfl)
theorem dX3_gather_62 : decode cX3_gather 62 = .ok (.invokevirtual 65, 3) := dk_182 0 65 (dk_at dksX3_gather_2 17 rfl rfl)
theorem dX3_gather_65 : decode cX3_gather 65 = .ok (.i2b, 1) := dk_145 (dk_at dksX3_gather_2 20 rfl rfl)
theorem dX3_gather_66 : decode cX3_gather 66 = .ok (.bastore, 1) := dk_84 (dk_at dksX3_gather_2 21 rfl rfl)
theorem dX3_gather_67 : decode cX3_gather 67 = .ok (.iinc 4 1, 3) := dk_132 4 1 (dk_at dksX3_gather_3 0 rfl rfl)
theorem dX3_gather_70 : decode cX3_gather 70 = .ok (.goto (-36), 3) := dk_167 255 220 (dk_at dksX3_gather_3 3 rfl rfl)
theorem dX3_gather_73 : decode cX3_gather 73 = .ok (.iinc 3 1, 3) := dk_132 3 1 (dk_at dksX3_gather_3 6 rfl rfl)
theorem dX3_gather_76 : decode cX3_gather 76 = .ok (.goto (-56), 3) := dk_167 255 200 (dk_at dksX3_gather_3 9 rfl rfl)
theorem dX3_gather_79 : decode cX3_gather 79 = .ok (.iinc 2 1, 3) := dk_132 2 1 (dk_at dksX3_gather_3 12 rfl rfl)
theorem dX3_gather_82 : decode cX3_gather 82 = .ok (.goto (-75), 3) := dk_167 255 181 (dk_at dksX3_gather_3 15 rfl rfl)
theorem dX3_gather_85 : decode cX3_gather 85 = .ok (.return_, 1) := dk_177 (dk_at dksX3_gather_3 18 rfl rfl)
abbrev cX3_least : ByteArray := prog_13_method_3_code
def yX3_least : MethodName := ⟨RX3, "least", "(III)I"⟩
def dkwX3_least_7 : List UInt8 := [167, 255, 137, 2, 172]
abbrev dktX3_least_7 : List UInt8 := dkwX3_least_7 ++ []
def dkwX3_least_6 : List UInt8 := [96, 46, 42, 180, 0, 59, 2, 130, 126, 154, 0, 6, 21, 5, 172, 132, 5, 1, 167, 255, 202, 132, 4, 1]
abbrev dktX3_least_6 : List UInt8 := dkwX3_least_6 ++ dktX3_least_7
def dkwX3_least_5 : List UInt8 := [180, 0, 15, 16, 100, 21, 5, 104, 29, 96, 51, 153, 0, 28, 42, 180, 0, 19, 16, 100, 21, 5, 104, 29]
abbrev dktX3_least_5 : List UInt8 := dkwX3_least_5 ++ dktX3_least_6
def dkwX3_least_4 : List UInt8 := [154, 0, 6, 167, 0, 66, 5, 21, 4, 104, 54, 5, 21, 5, 5, 21, 4, 104, 5, 96, 162, 0, 49, 42]
abbrev dktX3_least_4 : List UInt8 := dkwX3_least_4 ++ dktX3_least_5
def dkwX3_least_3 : List UInt8 := [180, 0, 3, 21, 4, 27, 182, 0, 62, 153, 0, 82, 42, 180, 0, 3, 21, 4, 28, 182, 0, 62]
abbrev dktX3_least_3 : List UInt8 := dkwX3_least_3 ++ dktX3_least_4
def dkwX3_least_2 : List UInt8 := [180, 0, 3, 180, 0, 43, 162, 0, 113, 42, 180, 0, 59, 21, 4, 122, 4, 126, 153, 0, 95, 42]
abbrev dktX3_least_2 : List UInt8 := dkwX3_least_2 ++ dktX3_least_3
def dkwX3_least_1 : List UInt8 := [29, 96, 46, 128, 42, 180, 0, 59, 2, 130, 126, 153, 0, 5, 2, 172, 3, 54, 4, 21, 4, 42]
abbrev dktX3_least_1 : List UInt8 := dkwX3_least_1 ++ dktX3_least_2
def dkwX3_least_0 : List UInt8 := [27, 28, 159, 0, 36, 42, 180, 0, 23, 16, 100, 27, 104, 29, 96, 46, 42, 180, 0, 23, 16, 100, 28, 104]
abbrev dktX3_least_0 : List UInt8 := dkwX3_least_0 ++ dktX3_least_1
theorem dksX3_least_0 : cX3_least.data.toList.drop 0 = dktX3_least_0 := by decide +kernel
theorem dksX3_least_1 : cX3_least.data.toList.drop 24 = dktX3_least_1 := dk_seg dksX3_least_0 24 rfl rfl
theorem dksX3_least_2 : cX3_least.data.toList.drop 46 = dktX3_least_2 := dk_seg dksX3_least_1 22 rfl rfl
theorem dksX3_least_3 : cX3_least.data.toList.drop 68 = dktX3_least_3 := dk_seg dksX3_least_2 22 rfl rfl
theorem dksX3_least_4 : cX3_least.data.toList.drop 90 = dktX3_least_4 := dk_seg dksX3_least_3 22 rfl rfl
theorem dksX3_least_5 : cX3_least.data.toList.drop 114 = dktX3_least_5 := dk_seg dksX3_least_4 24 rfl rfl
theorem dksX3_least_6 : cX3_least.data.toList.drop 138 = dktX3_least_6 := dk_seg dksX3_least_5 24 rfl rfl
theorem dksX3_least_7 : cX3_least.data.toList.drop 162 = dktX3_least_7 := dk_seg dksX3_least_6 24 rfl rfl
theorem dX3_least_0 : decode cX3_least 0 = .ok (.iload_n 1, 1) := dk_27 (dk_at dksX3_least_0 0 rfl rfl)
theorem dX3_least_1 : decode cX3_least 1 = .ok (.iload_n 2, 1) := dk_28 (dk_at dksX3_least_0 1 rfl rfl)
theorem dX3_least_2 : decode cX3_least 2 = .ok (.if_icmp .eq 36, 3) := dk_159 0 36 (dk_at dksX3_least_0 2 rfl rfl)
theorem dX3_least_5 : decode cX3_least 5 = .ok (.aload_n 0, 1) := dk_42 (dk_at dksX3_least_0 5 rfl rfl)
theorem dX3_least_6 : decode cX3_least 6 = .ok (.getfield 23, 3) := dk_180 0 23 (dk_at dksX3_least_0 6 rfl rfl)
theorem dX3_least_9 : decode cX3_least 9 = .ok (.bipush 100, 2) := dk_16 100 (dk_at dksX3_least_0 9 rfl rfl)
theorem dX3_least_11 : decode cX3_least 11 = .ok (.iload_n 1, 1) := dk_27 (dk_at dksX3_least_0 11 rfl rfl)
theorem dX3_least_12 : decode cX3_least 12 = .ok (.imul, 1) := dk_104 (dk_at dksX3_least_0 12 rfl rfl)
theorem dX3_least_13 : decode cX3_least 13 = .ok (.iload_n 3, 1) := dk_29 (dk_at dksX3_least_0 13 rfl rfl)
theorem dX3_least_14 : decode cX3_least 14 = .ok (.iadd, 1) := dk_96 (dk_at dksX3_least_0 14 rfl rfl)
theorem dX3_least_15 : decode cX3_least 15 = .ok (.iaload, 1) := dk_46 (dk_at dksX3_least_0 15 rfl rfl)
theorem dX3_least_16 : decode cX3_least 16 = .ok (.aload_n 0, 1) := dk_42 (dk_at dksX3_least_0 16 rfl rfl)
theorem dX3_least_17 : decode cX3_least 17 = .ok (.getfield 23, 3) := dk_180 0 23 (dk_at dksX3_least_0 17 rfl rfl)
theorem dX3_least_20 : decode cX3_least 20 = .ok (.bipush 100, 2) := dk_16 100 (dk_at dksX3_least_0 20 rfl rfl)
theorem dX3_least_22 : decode cX3_least 22 = .ok (.iload_n 2, 1) := dk_28 (dk_at dksX3_least_0 22 rfl rfl)
theorem dX3_least_23 : decode cX3_least 23 = .ok (.imul, 1) := dk_104 (dk_at dksX3_least_0 23 rfl rfl)
theorem dX3_least_24 : decode cX3_least 24 = .ok (.iload_n 3, 1) := dk_29 (dk_at dksX3_least_1 0 rfl rfl)
theorem dX3_least_25 : decode cX3_least 25 = .ok (.iadd, 1) := dk_96 (dk_at dksX3_least_1 1 rfl rfl)
theorem dX3_least_26 : decode cX3_least 26 = .ok (.iaload, 1) := dk_46 (dk_at dksX3_least_1 2 rfl rfl)
theorem dX3_least_27 : decode cX3_least 27 = .ok (.ior, 1) := dk_128 (dk_at dksX3_least_1 3 rfl rfl)
theorem dX3_least_28 : decode cX3_least 28 = .ok (.aload_n 0, 1) := dk_42 (dk_at dksX3_least_1 4 rfl rfl)
theorem dX3_least_29 : decode cX3_least 29 = .ok (.getfield 59, 3) := dk_180 0 59 (dk_at dksX3_least_1 5 rfl rfl)
theorem dX3_least_32 : decode cX3_least 32 = .ok (.iconst (-1), 1) := dk_2 (dk_at dksX3_least_1 8 rfl rfl)
theorem dX3_least_33 : decode cX3_least 33 = .ok (.ixor, 1) := dk_130 (dk_at dksX3_least_1 9 rfl rfl)
theorem dX3_least_34 : decode cX3_least 34 = .ok (.iand, 1) := dk_126 (dk_at dksX3_least_1 10 rfl rfl)
theorem dX3_least_35 : decode cX3_least 35 = .ok (.ifCond .eq 5, 3) := dk_153 0 5 (dk_at dksX3_least_1 11 rfl rfl)
theorem dX3_least_38 : decode cX3_least 38 = .ok (.iconst (-1), 1) := dk_2 (dk_at dksX3_least_1 14 rfl rfl)
theorem dX3_least_39 : decode cX3_least 39 = .ok (.ireturn, 1) := dk_172 (dk_at dksX3_least_1 15 rfl rfl)
theorem dX3_least_40 : decode cX3_least 40 = .ok (.iconst 0, 1) := dk_3 (dk_at dksX3_least_1 16 rfl rfl)
theorem dX3_least_41 : decode cX3_least 41 = .ok (.istore 4, 2) := dk_54 4 (dk_at dksX3_least_1 17 rfl rfl)
theorem dX3_least_43 : decode cX3_least 43 = .ok (.iload 4, 2) := dk_21 4 (dk_at dksX3_least_1 19 rfl rfl)
theorem dX3_least_45 : decode cX3_least 45 = .ok (.aload_n 0, 1) := dk_42 (dk_at dksX3_least_1 21 rfl rfl)
theorem dX3_least_46 : decode cX3_least 46 = .ok (.getfield 3, 3) := dk_180 0 3 (dk_at dksX3_least_2 0 rfl rfl)
theorem dX3_least_49 : decode cX3_least 49 = .ok (.getfield 43, 3) := dk_180 0 43 (dk_at dksX3_least_2 3 rfl rfl)
theorem dX3_least_52 : decode cX3_least 52 = .ok (.if_icmp .ge 113, 3) := dk_162 0 113 (dk_at dksX3_least_2 6 rfl rfl)
theorem dX3_least_55 : decode cX3_least 55 = .ok (.aload_n 0, 1) := dk_42 (dk_at dksX3_least_2 9 rfl rfl)
theorem dX3_least_56 : decode cX3_least 56 = .ok (.getfield 59, 3) := dk_180 0 59 (dk_at dksX3_least_2 10 rfl rfl)
theorem dX3_least_59 : decode cX3_least 59 = .ok (.iload 4, 2) := dk_21 4 (dk_at dksX3_least_2 13 rfl rfl)
theorem dX3_least_61 : decode cX3_least 61 = .ok (.ishr, 1) := dk_122 (dk_at dksX3_least_2 15 rfl rfl)
theorem dX3_least_62 : decode cX3_least 62 = .ok (.iconst 1, 1) := dk_4 (dk_at dksX3_least_2 16 rfl rfl)
theorem dX3_least_63 : decode cX3_least 63 = .ok (.iand, 1) := dk_126 (dk_at dksX3_least_2 17 rfl rfl)
theorem dX3_least_64 : decode cX3_least 64 = .ok (.ifCond .eq 95, 3) := dk_153 0 95 (dk_at dksX3_least_2 18 rfl rfl)
theorem dX3_least_67 : decode cX3_least 67 = .ok (.aload_n 0, 1) := dk_42 (dk_at dksX3_least_2 21 rfl rfl)
theorem dX3_least_68 : decode cX3_least 68 = .ok (.getfield 3, 3) := dk_180 0 3 (dk_at dksX3_least_3 0 rfl rfl)
theorem dX3_least_71 : decode cX3_least 71 = .ok (.iload 4, 2) := dk_21 4 (dk_at dksX3_least_3 3 rfl rfl)
theorem dX3_least_73 : decode cX3_least 73 = .ok (.iload_n 1, 1) := dk_27 (dk_at dksX3_least_3 5 rfl rfl)
theorem dX3_least_74 : decode cX3_least 74 = .ok (.invokevirtual 62, 3) := dk_182 0 62 (dk_at dksX3_least_3 6 rfl rfl)
theorem dX3_least_77 : decode cX3_least 77 = .ok (.ifCond .eq 82, 3) := dk_153 0 82 (dk_at dksX3_least_3 9 rfl rfl)
theorem dX3_least_80 : decode cX3_least 80 = .ok (.aload_n 0, 1) := dk_42 (dk_at dksX3_least_3 12 rfl rfl)
theorem dX3_least_81 : decode cX3_least 81 = .ok (.getfield 3, 3) := dk_180 0 3 (dk_at dksX3_least_3 13 rfl rfl)
theorem dX3_least_84 : decode cX3_least 84 = .ok (.iload 4, 2) := dk_21 4 (dk_at dksX3_least_3 16 rfl rfl)
theorem dX3_least_86 : decode cX3_least 86 = .ok (.iload_n 2, 1) := dk_28 (dk_at dksX3_least_3 18 rfl rfl)
theorem dX3_least_87 : decode cX3_least 87 = .ok (.invokevirtual 62, 3) := dk_182 0 62 (dk_at dksX3_least_3 19 rfl rfl)
theorem dX3_least_90 : decode cX3_least 90 = .ok (.ifCond .ne 6, 3) := dk_154 0 6 (dk_at dksX3_least_4 0 rfl rfl)
theorem dX3_least_93 : decode cX3_least 93 = .ok (.goto 66, 3) := dk_167 0 66 (dk_at dksX3_least_4 3 rfl rfl)
theorem dX3_least_96 : decode cX3_least 96 = .ok (.iconst 2, 1) := dk_5 (dk_at dksX3_least_4 6 rfl rfl)
theorem dX3_least_97 : decode cX3_least 97 = .ok (.iload 4, 2) := dk_21 4 (dk_at dksX3_least_4 7 rfl rfl)
theorem dX3_least_99 : decode cX3_least 99 = .ok (.imul, 1) := dk_104 (dk_at dksX3_least_4 9 rfl rfl)
theorem dX3_least_100 : decode cX3_least 100 = .ok (.istore 5, 2) := dk_54 5 (dk_at dksX3_least_4 10 rfl rfl)
theorem dX3_least_102 : decode cX3_least 102 = .ok (.iload 5, 2) := dk_21 5 (dk_at dksX3_least_4 12 rfl rfl)
theorem dX3_least_104 : decode cX3_least 104 = .ok (.iconst 2, 1) := dk_5 (dk_at dksX3_least_4 14 rfl rfl)
theorem dX3_least_105 : decode cX3_least 105 = .ok (.iload 4, 2) := dk_21 4 (dk_at dksX3_least_4 15 rfl rfl)
theorem dX3_least_107 : decode cX3_least 107 = .ok (.imul, 1) := dk_104 (dk_at dksX3_least_4 17 rfl rfl)
theorem dX3_least_108 : decode cX3_least 108 = .ok (.iconst 2, 1) := dk_5 (dk_at dksX3_least_4 18 rfl rfl)
theorem dX3_least_109 : decode cX3_least 109 = .ok (.iadd, 1) := dk_96 (dk_at dksX3_least_4 19 rfl rfl)
theorem dX3_least_110 : decode cX3_least 110 = .ok (.if_icmp .ge 49, 3) := dk_162 0 49 (dk_at dksX3_least_4 20 rfl rfl)
theorem dX3_least_113 : decode cX3_least 113 = .ok (.aload_n 0, 1) := dk_42 (dk_at dksX3_least_4 23 rfl rfl)
theorem dX3_least_114 : decode cX3_least 114 = .ok (.getfield 15, 3) := dk_180 0 15 (dk_at dksX3_least_5 0 rfl rfl)
theorem dX3_least_117 : decode cX3_least 117 = .ok (.bipush 100, 2) := dk_16 100 (dk_at dksX3_least_5 3 rfl rfl)
theorem dX3_least_119 : decode cX3_least 119 = .ok (.iload 5, 2) := dk_21 5 (dk_at dksX3_least_5 5 rfl rfl)
theorem dX3_least_121 : decode cX3_least 121 = .ok (.imul, 1) := dk_104 (dk_at dksX3_least_5 7 rfl rfl)
theorem dX3_least_122 : decode cX3_least 122 = .ok (.iload_n 3, 1) := dk_29 (dk_at dksX3_least_5 8 rfl rfl)
theorem dX3_least_123 : decode cX3_least 123 = .ok (.iadd, 1) := dk_96 (dk_at dksX3_least_5 9 rfl rfl)
theorem dX3_least_124 : decode cX3_least 124 = .ok (.baload, 1) := dk_51 (dk_at dksX3_least_5 10 rfl rfl)
theorem dX3_least_125 : decode cX3_least 125 = .ok (.ifCond .eq 28, 3) := dk_153 0 28 (dk_at dksX3_least_5 11 rfl rfl)
theorem dX3_least_128 : decode cX3_least 128 = .ok (.aload_n 0, 1) := dk_42 (dk_at dksX3_least_5 14 rfl rfl)
theorem dX3_least_129 : decode cX3_least 129 = .ok (.getfield 19, 3) := dk_180 0 19 (dk_at dksX3_least_5 15 rfl rfl)
theorem dX3_least_132 : decode cX3_least 132 = .ok (.bipush 100, 2) := dk_16 100 (dk_at dksX3_least_5 18 rfl rfl)
theorem dX3_least_134 : decode cX3_least 134 = .ok (.iload 5, 2) := dk_21 5 (dk_at dksX3_least_5 20 rfl rfl)
theorem dX3_least_136 : decode cX3_least 136 = .ok (.imul, 1) := dk_104 (dk_at dksX3_least_5 22 rfl rfl)
theorem dX3_least_137 : decode cX3_least 137 = .ok (.iload_n 3, 1) := dk_29 (dk_at dksX3_least_5 23 rfl rfl)
theorem dX3_least_138 : decode cX3_least 138 = .ok (.iadd, 1) := dk_96 (dk_at dksX3_least_6 0 rfl rfl)
theorem dX3_least_139 : decode cX3_least 139 = .ok (.iaload, 1) := dk_46 (dk_at dksX3_least_6 1 rfl rfl)
theorem dX3_least_140 : decode cX3_least 140 = .ok (.aload_n 0, 1) := dk_42 (dk_at dksX3_least_6 2 rfl rfl)
theorem dX3_least_141 : decode cX3_least 141 = .ok (.getfield 59, 3) := dk_180 0 59 (dk_at dksX3_least_6 3 rfl rfl)
theorem dX3_least_144 : decode cX3_least 144 = .ok (.iconst (-1), 1) := dk_2 (dk_at dksX3_least_6 6 rfl rfl)
theorem dX3_least_145 : decode cX3_least 145 = .ok (.ixor, 1) := dk_130 (dk_at dksX3_least_6 7 rfl rfl)
theorem dX3_least_146 : decode cX3_least 146 = .ok (.iand, 1) := dk_126 (dk_at dksX3_least_6 8 rfl rfl)
theorem dX3_least_147 : decode cX3_least 147 = .ok (.ifCond .ne 6, 3) := dk_154 0 6 (dk_at dksX3_least_6 9 rfl rfl)
theorem dX3_least_150 : decode cX3_least 150 = .ok (.iload 5, 2) := dk_21 5 (dk_at dksX3_least_6 12 rfl rfl)
theorem dX3_least_152 : decode cX3_least 152 = .ok (.ireturn, 1) := dk_172 (dk_at dksX3_least_6 14 rfl rfl)
theorem dX3_least_153 : decode cX3_least 153 = .ok (.iinc 5 1, 3) := dk_132 5 1 (dk_at dksX3_least_6 15 rfl rfl)
theorem dX3_least_156 : decode cX3_least 156 = .ok (.goto (-54), 3) := dk_167 255 202 (dk_at dksX3_least_6 18 rfl rfl)
theorem dX3_least_159 : decode cX3_least 159 = .ok (.iinc 4 1, 3) := dk_132 4 1 (dk_at dksX3_least_6 21 rfl rfl)
theorem dX3_least_162 : decode cX3_least 162 = .ok (.goto (-119), 3) := dk_167 255 137 (dk_at dksX3_least_7 0 rfl rfl)
theorem dX3_least_165 : decode cX3_least 165 = .ok (.iconst (-1), 1) := dk_2 (dk_at dksX3_least_7 3 rfl rfl)
theorem dX3_least_166 : decode cX3_least 166 = .ok (.ireturn, 1) := dk_172 (dk_at dksX3_least_7 4 rfl rfl)
abbrev cX3_seek : ByteArray := prog_13_method_6_code
def yX3_seek : MethodName := ⟨RX3, "seek", "(IIII)I"⟩
def dkwX3_seek_7 : List UInt8 := [132, 5, 1, 167, 255, 218, 42, 89, 180, 0, 78, 4, 96, 181, 0, 78, 167, 255, 167, 2, 172]
abbrev dktX3_seek_7 : List UInt8 := dkwX3_seek_7 ++ []
def dkwX3_seek_6 : List UInt8 := [180, 0, 32, 42, 180, 0, 78, 50, 21, 5, 46, 16, 100, 162, 0, 9, 42, 21, 5, 182, 0, 81]
abbrev dktX3_seek_6 : List UInt8 := dkwX3_seek_6 ++ dktX3_seek_7
def dkwX3_seek_5 : List UInt8 := [162, 0, 8, 42, 180, 0, 78, 172, 3, 54, 5, 21, 5, 42, 180, 0, 3, 180, 0, 43, 163, 0, 32, 42]
abbrev dktX3_seek_5 : List UInt8 := dkwX3_seek_5 ++ dktX3_seek_6
def dkwX3_seek_4 : List UInt8 := [180, 0, 3, 180, 0, 43, 163, 0, 81, 42, 180, 0, 32, 42, 180, 0, 78, 50, 28, 46, 16, 100]
abbrev dktX3_seek_4 : List UInt8 := dkwX3_seek_4 ++ dktX3_seek_5
def dkwX3_seek_3 : List UInt8 := [167, 255, 206, 42, 180, 0, 32, 3, 50, 27, 29, 4, 100, 79, 42, 3, 181, 0, 78, 42, 180, 0, 78, 42]
abbrev dktX3_seek_3 : List UInt8 := dkwX3_seek_3 ++ dktX3_seek_4
def dkwX3_seek_2 : List UInt8 := [163, 0, 21, 42, 180, 0, 32, 21, 5, 50, 21, 6, 16, 100, 79, 132, 6, 1, 167, 255, 229, 132, 5, 1]
abbrev dktX3_seek_2 : List UInt8 := dkwX3_seek_2 ++ dktX3_seek_3
def dkwX3_seek_1 : List UInt8 := [180, 0, 3, 180, 0, 43, 4, 96, 163, 0, 42, 3, 54, 6, 21, 6, 42, 180, 0, 3, 180, 0, 43]
abbrev dktX3_seek_1 : List UInt8 := dkwX3_seek_1 ++ dktX3_seek_2
def dkwX3_seek_0 : List UInt8 := [42, 28, 181, 0, 69, 42, 29, 181, 0, 72, 42, 21, 4, 181, 0, 75, 3, 54, 5, 21, 5, 42]
abbrev dktX3_seek_0 : List UInt8 := dkwX3_seek_0 ++ dktX3_seek_1
theorem dksX3_seek_0 : cX3_seek.data.toList.drop 0 = dktX3_seek_0 := by decide +kernel
theorem dksX3_seek_1 : cX3_seek.data.toList.drop 22 = dktX3_seek_1 := dk_seg dksX3_seek_0 22 rfl rfl
theorem dksX3_seek_2 : cX3_seek.data.toList.drop 45 = dktX3_seek_2 := dk_seg dksX3_seek_1 23 rfl rfl
theorem dksX3_seek_3 : cX3_seek.data.toList.drop 69 = dktX3_seek_3 := dk_seg dksX3_seek_2 24 rfl rfl
theorem dksX3_seek_4 : cX3_seek.data.toList.drop 93 = dktX3_seek_4 := dk_seg dksX3_seek_3 24 rfl rfl
theorem dksX3_seek_5 : cX3_seek.data.toList.drop 115 = dktX3_seek_5 := dk_seg dksX3_seek_4 22 rfl rfl
theorem dksX3_seek_6 : cX3_seek.data.toList.drop 139 = dktX3_seek_6 := dk_seg dksX3_seek_5 24 rfl rfl
theorem dksX3_seek_7 : cX3_seek.data.toList.drop 161 = dktX3_seek_7 := dk_seg dksX3_seek_6 22 rfl rfl
theorem dX3_seek_0 : decode cX3_seek 0 = .ok (.aload_n 0, 1) := dk_42 (dk_at dksX3_seek_0 0 rfl rfl)
theorem dX3_seek_1 : decode cX3_seek 1 = .ok (.iload_n 2, 1) := dk_28 (dk_at dksX3_seek_0 1 rfl rfl)
theorem dX3_seek_2 : decode cX3_seek 2 = .ok (.putfield 69, 3) := dk_181 0 69 (dk_at dksX3_seek_0 2 rfl rfl)
theorem dX3_seek_5 : decode cX3_seek 5 = .ok (.aload_n 0, 1) := dk_42 (dk_at dksX3_seek_0 5 rfl rfl)
theorem dX3_seek_6 : decode cX3_seek 6 = .ok (.iload_n 3, 1) := dk_29 (dk_at dksX3_seek_0 6 rfl rfl)
theorem dX3_seek_7 : decode cX3_seek 7 = .ok (.putfield 72, 3) := dk_181 0 72 (dk_at dksX3_seek_0 7 rfl rfl)
theorem dX3_seek_10 : decode cX3_seek 10 = .ok (.aload_n 0, 1) := dk_42 (dk_at dksX3_seek_0 10 rfl rfl)
theorem dX3_seek_11 : decode cX3_seek 11 = .ok (.iload 4, 2) := dk_21 4 (dk_at dksX3_seek_0 11 rfl rfl)
theorem dX3_seek_13 : decode cX3_seek 13 = .ok (.putfield 75, 3) := dk_181 0 75 (dk_at dksX3_seek_0 13 rfl rfl)
theorem dX3_seek_16 : decode cX3_seek 16 = .ok (.iconst 0, 1) := dk_3 (dk_at dksX3_seek_0 16 rfl rfl)
theorem dX3_seek_17 : decode cX3_seek 17 = .ok (.istore 5, 2) := dk_54 5 (dk_at dksX3_seek_0 17 rfl rfl)
theorem dX3_seek_19 : decode cX3_seek 19 = .ok (.iload 5, 2) := dk_21 5 (dk_at dksX3_seek_0 19 rfl rfl)
theorem dX3_seek_21 : decode cX3_seek 21 = .ok (.aload_n 0, 1) := dk_42 (dk_at dksX3_seek_0 21 rfl rfl)
theorem dX3_seek_22 : decode cX3_seek 22 = .ok (.getfield 3, 3) := dk_180 0 3 (dk_at dksX3_seek_1 0 rfl rfl)
theorem dX3_seek_25 : decode cX3_seek 25 = .ok (.getfield 43, 3) := dk_180 0 43 (dk_at dksX3_seek_1 3 rfl rfl)
theorem dX3_seek_28 : decode cX3_seek 28 = .ok (.iconst 1, 1) := dk_4 (dk_at dksX3_seek_1 6 rfl rfl)
theorem dX3_seek_29 : decode cX3_seek 29 = .ok (.iadd, 1) := dk_96 (dk_at dksX3_seek_1 7 rfl rfl)
theorem dX3_seek_30 : decode cX3_seek 30 = .ok (.if_icmp .gt 42, 3) := dk_163 0 42 (dk_at dksX3_seek_1 8 rfl rfl)
theorem dX3_seek_33 : decode cX3_seek 33 = .ok (.iconst 0, 1) := dk_3 (dk_at dksX3_seek_1 11 rfl rfl)
theorem dX3_seek_34 : decode cX3_seek 34 = .ok (.istore 6, 2) := dk_54 6 (dk_at dksX3_seek_1 12 rfl rfl)
theorem dX3_seek_36 : decode cX3_seek 36 = .ok (.iload 6, 2) := dk_21 6 (dk_at dksX3_seek_1 14 rfl rfl)
theorem dX3_seek_38 : decode cX3_seek 38 = .ok (.aload_n 0, 1) := dk_42 (dk_at dksX3_seek_1 16 rfl rfl)
theorem dX3_seek_39 : decode cX3_seek 39 = .ok (.getfield 3, 3) := dk_180 0 3 (dk_at dksX3_seek_1 17 rfl rfl)
theorem dX3_seek_42 : decode cX3_seek 42 = .ok (.getfield 43, 3) := dk_180 0 43 (dk_at dksX3_seek_1 20 rfl rfl)
theorem dX3_seek_45 : decode cX3_seek 45 = .ok (.if_icmp .gt 21, 3) := dk_163 0 21 (dk_at dksX3_seek_2 0 rfl rfl)
theorem dX3_seek_48 : decode cX3_seek 48 = .ok (.aload_n 0, 1) := dk_42 (dk_at dksX3_seek_2 3 rfl rfl)
theorem dX3_seek_49 : decode cX3_seek 49 = .ok (.getfield 32, 3) := dk_180 0 32 (dk_at dksX3_seek_2 4 rfl rfl)
theorem dX3_seek_52 : decode cX3_seek 52 = .ok (.iload 5, 2) := dk_21 5 (dk_at dksX3_seek_2 7 rfl rfl)
theorem dX3_seek_54 : decode cX3_seek 54 = .ok (.aaload, 1) := dk_50 (dk_at dksX3_seek_2 9 rfl rfl)
theorem dX3_seek_55 : decode cX3_seek 55 = .ok (.iload 6, 2) := dk_21 6 (dk_at dksX3_seek_2 10 rfl rfl)
theorem dX3_seek_57 : decode cX3_seek 57 = .ok (.bipush 100, 2) := dk_16 100 (dk_at dksX3_seek_2 12 rfl rfl)
theorem dX3_seek_59 : decode cX3_seek 59 = .ok (.iastore, 1) := dk_79 (dk_at dksX3_seek_2 14 rfl rfl)
theorem dX3_seek_60 : decode cX3_seek 60 = .ok (.iinc 6 1, 3) := dk_132 6 1 (dk_at dksX3_seek_2 15 rfl rfl)
theorem dX3_seek_63 : decode cX3_seek 63 = .ok (.goto (-27), 3) := dk_167 255 229 (dk_at dksX3_seek_2 18 rfl rfl)
theorem dX3_seek_66 : decode cX3_seek 66 = .ok (.iinc 5 1, 3) := dk_132 5 1 (dk_at dksX3_seek_2 21 rfl rfl)
theorem dX3_seek_69 : decode cX3_seek 69 = .ok (.goto (-50), 3) := dk_167 255 206 (dk_at dksX3_seek_3 0 rfl rfl)
theorem dX3_seek_72 : decode cX3_seek 72 = .ok (.aload_n 0, 1) := dk_42 (dk_at dksX3_seek_3 3 rfl rfl)
theorem dX3_seek_73 : decode cX3_seek 73 = .ok (.getfield 32, 3) := dk_180 0 32 (dk_at dksX3_seek_3 4 rfl rfl)
theorem dX3_seek_76 : decode cX3_seek 76 = .ok (.iconst 0, 1) := dk_3 (dk_at dksX3_seek_3 7 rfl rfl)
theorem dX3_seek_77 : decode cX3_seek 77 = .ok (.aaload, 1) := dk_50 (dk_at dksX3_seek_3 8 rfl rfl)
theorem dX3_seek_78 : decode cX3_seek 78 = .ok (.iload_n 1, 1) := dk_27 (dk_at dksX3_seek_3 9 rfl rfl)
theorem dX3_seek_79 : decode cX3_seek 79 = .ok (.iload_n 3, 1) := dk_29 (dk_at dksX3_seek_3 10 rfl rfl)
theorem dX3_seek_80 : decode cX3_seek 80 = .ok (.iconst 1, 1) := dk_4 (dk_at dksX3_seek_3 11 rfl rfl)
theorem dX3_seek_81 : decode cX3_seek 81 = .ok (.isub, 1) := dk_100 (dk_at dksX3_seek_3 12 rfl rfl)
theorem dX3_seek_82 : decode cX3_seek 82 = .ok (.iastore, 1) := dk_79 (dk_at dksX3_seek_3 13 rfl rfl)
theorem dX3_seek_83 : decode cX3_seek 83 = .ok (.aload_n 0, 1) := dk_42 (dk_at dksX3_seek_3 14 rfl rfl)
theorem dX3_seek_84 : decode cX3_seek 84 = .ok (.iconst 0, 1) := dk_3 (dk_at dksX3_seek_3 15 rfl rfl)
theorem dX3_seek_85 : decode cX3_seek 85 = .ok (.putfield 78, 3) := dk_181 0 78 (dk_at dksX3_seek_3 16 rfl rfl)
theorem dX3_seek_88 : decode cX3_seek 88 = .ok (.aload_n 0, 1) := dk_42 (dk_at dksX3_seek_3 19 rfl rfl)
theorem dX3_seek_89 : decode cX3_seek 89 = .ok (.getfield 78, 3) := dk_180 0 78 (dk_at dksX3_seek_3 20 rfl rfl)
theorem dX3_seek_92 : decode cX3_seek 92 = .ok (.aload_n 0, 1) := dk_42 (dk_at dksX3_seek_3 23 rfl rfl)
theorem dX3_seek_93 : decode cX3_seek 93 = .ok (.getfield 3, 3) := dk_180 0 3 (dk_at dksX3_seek_4 0 rfl rfl)
theorem dX3_seek_96 : decode cX3_seek 96 = .ok (.getfield 43, 3) := dk_180 0 43 (dk_at dksX3_seek_4 3 rfl rfl)
theorem dX3_seek_99 : decode cX3_seek 99 = .ok (.if_icmp .gt 81, 3) := dk_163 0 81 (dk_at dksX3_seek_4 6 rfl rfl)
theorem dX3_seek_102 : decode cX3_seek 102 = .ok (.aload_n 0, 1) := dk_42 (dk_at dksX3_seek_4 9 rfl rfl)
theorem dX3_seek_103 : decode cX3_seek 103 = .ok (.getfield 32, 3) := dk_180 0 32 (dk_at dksX3_seek_4 10 rfl rfl)
theorem dX3_seek_106 : decode cX3_seek 106 = .ok (.aload_n 0, 1) := dk_42 (dk_at dksX3_seek_4 13 rfl rfl)
theorem dX3_seek_107 : decode cX3_seek 107 = .ok (.getfield 78, 3) := dk_180 0 78 (dk_at dksX3_seek_4 14 rfl rfl)
theorem dX3_seek_110 : decode cX3_seek 110 = .ok (.aaload, 1) := dk_50 (dk_at dksX3_seek_4 17 rfl rfl)
theorem dX3_seek_111 : decode cX3_seek 111 = .ok (.iload_n 2, 1) := dk_28 (dk_at dksX3_seek_4 18 rfl rfl)
theorem dX3_seek_112 : decode cX3_seek 112 = .ok (.iaload, 1) := dk_46 (dk_at dksX3_seek_4 19 rfl rfl)
theorem dX3_seek_113 : decode cX3_seek 113 = .ok (.bipush 100, 2) := dk_16 100 (dk_at dksX3_seek_4 20 rfl rfl)
theorem dX3_seek_115 : decode cX3_seek 115 = .ok (.if_icmp .ge 8, 3) := dk_162 0 8 (dk_at dksX3_seek_5 0 rfl rfl)
theorem dX3_seek_118 : decode cX3_seek 118 = .ok (.aload_n 0, 1) := dk_42 (dk_at dksX3_seek_5 3 rfl rfl)
theorem dX3_seek_119 : decode cX3_seek 119 = .ok (.getfield 78, 3) := dk_180 0 78 (dk_at dksX3_seek_5 4 rfl rfl)
theorem dX3_seek_122 : decode cX3_seek 122 = .ok (.ireturn, 1) := dk_172 (dk_at dksX3_seek_5 7 rfl rfl)
theorem dX3_seek_123 : decode cX3_seek 123 = .ok (.iconst 0, 1) := dk_3 (dk_at dksX3_seek_5 8 rfl rfl)
theorem dX3_seek_124 : decode cX3_seek 124 = .ok (.istore 5, 2) := dk_54 5 (dk_at dksX3_seek_5 9 rfl rfl)
theorem dX3_seek_126 : decode cX3_seek 126 = .ok (.iload 5, 2) := dk_21 5 (dk_at dksX3_seek_5 11 rfl rfl)
theorem dX3_seek_128 : decode cX3_seek 128 = .ok (.aload_n 0, 1) := dk_42 (dk_at dksX3_seek_5 13 rfl rfl)
theorem dX3_seek_129 : decode cX3_seek 129 = .ok (.getfield 3, 3) := dk_180 0 3 (dk_at dksX3_seek_5 14 rfl rfl)
theorem dX3_seek_132 : decode cX3_seek 132 = .ok (.getfield 43, 3) := dk_180 0 43 (dk_at dksX3_seek_5 17 rfl rfl)
theorem dX3_seek_135 : decode cX3_seek 135 = .ok (.if_icmp .gt 32, 3) := dk_163 0 32 (dk_at dksX3_seek_5 20 rfl rfl)
theorem dX3_seek_138 : decode cX3_seek 138 = .ok (.aload_n 0, 1) := dk_42 (dk_at dksX3_seek_5 23 rfl rfl)
theorem dX3_seek_139 : decode cX3_seek 139 = .ok (.getfield 32, 3) := dk_180 0 32 (dk_at dksX3_seek_6 0 rfl rfl)
theorem dX3_seek_142 : decode cX3_seek 142 = .ok (.aload_n 0, 1) := dk_42 (dk_at dksX3_seek_6 3 rfl rfl)
theorem dX3_seek_143 : decode cX3_seek 143 = .ok (.getfield 78, 3) := dk_180 0 78 (dk_at dksX3_seek_6 4 rfl rfl)
theorem dX3_seek_146 : decode cX3_seek 146 = .ok (.aaload, 1) := dk_50 (dk_at dksX3_seek_6 7 rfl rfl)
theorem dX3_seek_147 : decode cX3_seek 147 = .ok (.iload 5, 2) := dk_21 5 (dk_at dksX3_seek_6 8 rfl rfl)
theorem dX3_seek_149 : decode cX3_seek 149 = .ok (.iaload, 1) := dk_46 (dk_at dksX3_seek_6 10 rfl rfl)
theorem dX3_seek_150 : decode cX3_seek 150 = .ok (.bipush 100, 2) := dk_16 100 (dk_at dksX3_seek_6 11 rfl rfl)
theorem dX3_seek_152 : decode cX3_seek 152 = .ok (.if_icmp .ge 9, 3) := dk_162 0 9 (dk_at dksX3_seek_6 13 rfl rfl)
theorem dX3_seek_155 : decode cX3_seek 155 = .ok (.aload_n 0, 1) := dk_42 (dk_at dksX3_seek_6 16 rfl rfl)
theorem dX3_seek_156 : decode cX3_seek 156 = .ok (.iload 5, 2) := dk_21 5 (dk_at dksX3_seek_6 17 rfl rfl)
theorem dX3_seek_158 : decode cX3_seek 158 = .ok (.invokevirtual 81, 3) := dk_182 0 81 (dk_at dksX3_seek_6 19 rfl rfl)
theorem dX3_seek_161 : decode cX3_seek 161 = .ok (.iinc 5 1, 3) := dk_132 5 1 (dk_at dksX3_seek_7 0 rfl rfl)
theorem dX3_seek_164 : decode cX3_seek 164 = .ok (.goto (-38), 3) := dk_167 255 218 (dk_at dksX3_seek_7 3 rfl rfl)
theorem dX3_seek_167 : decode cX3_seek 167 = .ok (.aload_n 0, 1) := dk_42 (dk_at dksX3_seek_7 6 rfl rfl)
theorem dX3_seek_168 : decode cX3_seek 168 = .ok (.dup, 1) := dk_89 (dk_at dksX3_seek_7 7 rfl rfl)
theorem dX3_seek_169 : decode cX3_seek 169 = .ok (.getfield 78, 3) := dk_180 0 78 (dk_at dksX3_seek_7 8 rfl rfl)
theorem dX3_seek_172 : decode cX3_seek 172 = .ok (.iconst 1, 1) := dk_4 (dk_at dksX3_seek_7 11 rfl rfl)
theorem dX3_seek_173 : decode cX3_seek 173 = .ok (.iadd, 1) := dk_96 (dk_at dksX3_seek_7 12 rfl rfl)
theorem dX3_seek_174 : decode cX3_seek 174 = .ok (.putfield 78, 3) := dk_181 0 78 (dk_at dksX3_seek_7 13 rfl rfl)
theorem dX3_seek_177 : decode cX3_seek 177 = .ok (.goto (-89), 3) := dk_167 255 167 (dk_at dksX3_seek_7 16 rfl rfl)
theorem dX3_seek_180 : decode cX3_seek 180 = .ok (.iconst (-1), 1) := dk_2 (dk_at dksX3_seek_7 19 rfl rfl)
theorem dX3_seek_181 : decode cX3_seek 181 = .ok (.ireturn, 1) := dk_172 (dk_at dksX3_seek_7 20 rfl rfl)
abbrev cX3_goesOn : ByteArray := prog_13_method_7_code
def yX3_goesOn : MethodName := ⟨RX3, "goesOn", "(I)V"⟩
def dkwX3_goesOn_4 : List UInt8 := [180, 0, 32, 42, 180, 0, 78, 4, 96, 50, 28, 29, 79, 132, 2, 1, 167, 255, 147, 177]
abbrev dktX3_goesOn_4 : List UInt8 := dkwX3_goesOn_4 ++ []
def dkwX3_goesOn_3 : List UInt8 := [180, 0, 75, 163, 0, 34, 29, 42, 180, 0, 32, 42, 180, 0, 78, 4, 96, 50, 28, 46, 162, 0, 17, 42]
abbrev dktX3_goesOn_3 : List UInt8 := dkwX3_goesOn_3 ++ dktX3_goesOn_4
def dkwX3_goesOn_2 : List UInt8 := [46, 162, 0, 20, 42, 27, 28, 29, 182, 0, 85, 2, 160, 0, 9, 132, 3, 1, 167, 255, 217, 29, 42]
abbrev dktX3_goesOn_2 : List UInt8 := dkwX3_goesOn_2 ++ dktX3_goesOn_3
def dkwX3_goesOn_1 : List UInt8 := [4, 96, 62, 29, 42, 180, 0, 75, 163, 0, 37, 29, 42, 180, 0, 32, 42, 180, 0, 78, 4, 96, 50, 28]
abbrev dktX3_goesOn_1 : List UInt8 := dkwX3_goesOn_1 ++ dktX3_goesOn_2
def dkwX3_goesOn_0 : List UInt8 := [3, 61, 28, 42, 180, 0, 3, 180, 0, 43, 163, 0, 104, 42, 180, 0, 32, 42, 180, 0, 78, 50, 27, 46]
abbrev dktX3_goesOn_0 : List UInt8 := dkwX3_goesOn_0 ++ dktX3_goesOn_1
theorem dksX3_goesOn_0 : cX3_goesOn.data.toList.drop 0 = dktX3_goesOn_0 := by decide +kernel
theorem dksX3_goesOn_1 : cX3_goesOn.data.toList.drop 24 = dktX3_goesOn_1 := dk_seg dksX3_goesOn_0 24 rfl rfl
theorem dksX3_goesOn_2 : cX3_goesOn.data.toList.drop 48 = dktX3_goesOn_2 := dk_seg dksX3_goesOn_1 24 rfl rfl
theorem dksX3_goesOn_3 : cX3_goesOn.data.toList.drop 71 = dktX3_goesOn_3 := dk_seg dksX3_goesOn_2 23 rfl rfl
theorem dksX3_goesOn_4 : cX3_goesOn.data.toList.drop 95 = dktX3_goesOn_4 := dk_seg dksX3_goesOn_3 24 rfl rfl
theorem dX3_goesOn_0 : decode cX3_goesOn 0 = .ok (.iconst 0, 1) := dk_3 (dk_at dksX3_goesOn_0 0 rfl rfl)
theorem dX3_goesOn_1 : decode cX3_goesOn 1 = .ok (.istore_n 2, 1) := dk_61 (dk_at dksX3_goesOn_0 1 rfl rfl)
theorem dX3_goesOn_2 : decode cX3_goesOn 2 = .ok (.iload_n 2, 1) := dk_28 (dk_at dksX3_goesOn_0 2 rfl rfl)
theorem dX3_goesOn_3 : decode cX3_goesOn 3 = .ok (.aload_n 0, 1) := dk_42 (dk_at dksX3_goesOn_0 3 rfl rfl)
theorem dX3_goesOn_4 : decode cX3_goesOn 4 = .ok (.getfield 3, 3) := dk_180 0 3 (dk_at dksX3_goesOn_0 4 rfl rfl)
theorem dX3_goesOn_7 : decode cX3_goesOn 7 = .ok (.getfield 43, 3) := dk_180 0 43 (dk_at dksX3_goesOn_0 7 rfl rfl)
theorem dX3_goesOn_10 : decode cX3_goesOn 10 = .ok (.if_icmp .gt 104, 3) := dk_163 0 104 (dk_at dksX3_goesOn_0 10 rfl rfl)
theorem dX3_goesOn_13 : decode cX3_goesOn 13 = .ok (.aload_n 0, 1) := dk_42 (dk_at dksX3_goesOn_0 13 rfl rfl)
theorem dX3_goesOn_14 : decode cX3_goesOn 14 = .ok (.getfield 32, 3) := dk_180 0 32 (dk_at dksX3_goesOn_0 14 rfl rfl)
theorem dX3_goesOn_17 : decode cX3_goesOn 17 = .ok (.aload_n 0, 1) := dk_42 (dk_at dksX3_goesOn_0 17 rfl rfl)
theorem dX3_goesOn_18 : decode cX3_goesOn 18 = .ok (.getfield 78, 3) := dk_180 0 78 (dk_at dksX3_goesOn_0 18 rfl rfl)
theorem dX3_goesOn_21 : decode cX3_goesOn 21 = .ok (.aaload, 1) := dk_50 (dk_at dksX3_goesOn_0 21 rfl rfl)
theorem dX3_goesOn_22 : decode cX3_goesOn 22 = .ok (.iload_n 1, 1) := dk_27 (dk_at dksX3_goesOn_0 22 rfl rfl)
theorem dX3_goesOn_23 : decode cX3_goesOn 23 = .ok (.iaload, 1) := dk_46 (dk_at dksX3_goesOn_0 23 rfl rfl)
theorem dX3_goesOn_24 : decode cX3_goesOn 24 = .ok (.iconst 1, 1) := dk_4 (dk_at dksX3_goesOn_1 0 rfl rfl)
theorem dX3_goesOn_25 : decode cX3_goesOn 25 = .ok (.iadd, 1) := dk_96 (dk_at dksX3_goesOn_1 1 rfl rfl)
theorem dX3_goesOn_26 : decode cX3_goesOn 26 = .ok (.istore_n 3, 1) := dk_62 (dk_at dksX3_goesOn_1 2 rfl rfl)
theorem dX3_goesOn_27 : decode cX3_goesOn 27 = .ok (.iload_n 3, 1) := dk_29 (dk_at dksX3_goesOn_1 3 rfl rfl)
theorem dX3_goesOn_28 : decode cX3_goesOn 28 = .ok (.aload_n 0, 1) := dk_42 (dk_at dksX3_goesOn_1 4 rfl rfl)
theorem dX3_goesOn_29 : decode cX3_goesOn 29 = .ok (.getfield 75, 3) := dk_180 0 75 (dk_at dksX3_goesOn_1 5 rfl rfl)
theorem dX3_goesOn_32 : decode cX3_goesOn 32 = .ok (.if_icmp .gt 37, 3) := dk_163 0 37 (dk_at dksX3_goesOn_1 8 rfl rfl)
theorem dX3_goesOn_35 : decode cX3_goesOn 35 = .ok (.iload_n 3, 1) := dk_29 (dk_at dksX3_goesOn_1 11 rfl rfl)
theorem dX3_goesOn_36 : decode cX3_goesOn 36 = .ok (.aload_n 0, 1) := dk_42 (dk_at dksX3_goesOn_1 12 rfl rfl)
theorem dX3_goesOn_37 : decode cX3_goesOn 37 = .ok (.getfield 32, 3) := dk_180 0 32 (dk_at dksX3_goesOn_1 13 rfl rfl)
theorem dX3_goesOn_40 : decode cX3_goesOn 40 = .ok (.aload_n 0, 1) := dk_42 (dk_at dksX3_goesOn_1 16 rfl rfl)
theorem dX3_goesOn_41 : decode cX3_goesOn 41 = .ok (.getfield 78, 3) := dk_180 0 78 (dk_at dksX3_goesOn_1 17 rfl rfl)
theorem dX3_goesOn_44 : decode cX3_goesOn 44 = .ok (.iconst 1, 1) := dk_4 (dk_at dksX3_goesOn_1 20 rfl rfl)
theorem dX3_goesOn_45 : decode cX3_goesOn 45 = .ok (.iadd, 1) := dk_96 (dk_at dksX3_goesOn_1 21 rfl rfl)
theorem dX3_goesOn_46 : decode cX3_goesOn 46 = .ok (.aaload, 1) := dk_50 (dk_at dksX3_goesOn_1 22 rfl rfl)
theorem dX3_goesOn_47 : decode cX3_goesOn 47 = .ok (.iload_n 2, 1) := dk_28 (dk_at dksX3_goesOn_1 23 rfl rfl)
theorem dX3_goesOn_48 : decode cX3_goesOn 48 = .ok (.iaload, 1) := dk_46 (dk_at dksX3_goesOn_2 0 rfl rfl)
theorem dX3_goesOn_49 : decode cX3_goesOn 49 = .ok (.if_icmp .ge 20, 3) := dk_162 0 20 (dk_at dksX3_goesOn_2 1 rfl rfl)
theorem dX3_goesOn_52 : decode cX3_goesOn 52 = .ok (.aload_n 0, 1) := dk_42 (dk_at dksX3_goesOn_2 4 rfl rfl)
theorem dX3_goesOn_53 : decode cX3_goesOn 53 = .ok (.iload_n 1, 1) := dk_27 (dk_at dksX3_goesOn_2 5 rfl rfl)
theorem dX3_goesOn_54 : decode cX3_goesOn 54 = .ok (.iload_n 2, 1) := dk_28 (dk_at dksX3_goesOn_2 6 rfl rfl)
theorem dX3_goesOn_55 : decode cX3_goesOn 55 = .ok (.iload_n 3, 1) := dk_29 (dk_at dksX3_goesOn_2 7 rfl rfl)
theorem dX3_goesOn_56 : decode cX3_goesOn 56 = .ok (.invokevirtual 85, 3) := dk_182 0 85 (dk_at dksX3_goesOn_2 8 rfl rfl)
theorem dX3_goesOn_59 : decode cX3_goesOn 59 = .ok (.iconst (-1), 1) := dk_2 (dk_at dksX3_goesOn_2 11 rfl rfl)
theorem dX3_goesOn_60 : decode cX3_goesOn 60 = .ok (.if_icmp .ne 9, 3) := dk_160 0 9 (dk_at dksX3_goesOn_2 12 rfl rfl)
theorem dX3_goesOn_63 : decode cX3_goesOn 63 = .ok (.iinc 3 1, 3) := dk_132 3 1 (dk_at dksX3_goesOn_2 15 rfl rfl)
theorem dX3_goesOn_66 : decode cX3_goesOn 66 = .ok (.goto (-39), 3) := dk_167 255 217 (dk_at dksX3_goesOn_2 18 rfl rfl)
theorem dX3_goesOn_69 : decode cX3_goesOn 69 = .ok (.iload_n 3, 1) := dk_29 (dk_at dksX3_goesOn_2 21 rfl rfl)
theorem dX3_goesOn_70 : decode cX3_goesOn 70 = .ok (.aload_n 0, 1) := dk_42 (dk_at dksX3_goesOn_2 22 rfl rfl)
theorem dX3_goesOn_71 : decode cX3_goesOn 71 = .ok (.getfield 75, 3) := dk_180 0 75 (dk_at dksX3_goesOn_3 0 rfl rfl)
theorem dX3_goesOn_74 : decode cX3_goesOn 74 = .ok (.if_icmp .gt 34, 3) := dk_163 0 34 (dk_at dksX3_goesOn_3 3 rfl rfl)
theorem dX3_goesOn_77 : decode cX3_goesOn 77 = .ok (.iload_n 3, 1) := dk_29 (dk_at dksX3_goesOn_3 6 rfl rfl)
theorem dX3_goesOn_78 : decode cX3_goesOn 78 = .ok (.aload_n 0, 1) := dk_42 (dk_at dksX3_goesOn_3 7 rfl rfl)
theorem dX3_goesOn_79 : decode cX3_goesOn 79 = .ok (.getfield 32, 3) := dk_180 0 32 (dk_at dksX3_goesOn_3 8 rfl rfl)
theorem dX3_goesOn_82 : decode cX3_goesOn 82 = .ok (.aload_n 0, 1) := dk_42 (dk_at dksX3_goesOn_3 11 rfl rfl)
theorem dX3_goesOn_83 : decode cX3_goesOn 83 = .ok (.getfield 78, 3) := dk_180 0 78 (dk_at dksX3_goesOn_3 12 rfl rfl)
theorem dX3_goesOn_86 : decode cX3_goesOn 86 = .ok (.iconst 1, 1) := dk_4 (dk_at dksX3_goesOn_3 15 rfl rfl)
theorem dX3_goesOn_87 : decode cX3_goesOn 87 = .ok (.iadd, 1) := dk_96 (dk_at dksX3_goesOn_3 16 rfl rfl)
theorem dX3_goesOn_88 : decode cX3_goesOn 88 = .ok (.aaload, 1) := dk_50 (dk_at dksX3_goesOn_3 17 rfl rfl)
theorem dX3_goesOn_89 : decode cX3_goesOn 89 = .ok (.iload_n 2, 1) := dk_28 (dk_at dksX3_goesOn_3 18 rfl rfl)
theorem dX3_goesOn_90 : decode cX3_goesOn 90 = .ok (.iaload, 1) := dk_46 (dk_at dksX3_goesOn_3 19 rfl rfl)
theorem dX3_goesOn_91 : decode cX3_goesOn 91 = .ok (.if_icmp .ge 17, 3) := dk_162 0 17 (dk_at dksX3_goesOn_3 20 rfl rfl)
theorem dX3_goesOn_94 : decode cX3_goesOn 94 = .ok (.aload_n 0, 1) := dk_42 (dk_at dksX3_goesOn_3 23 rfl rfl)
theorem dX3_goesOn_95 : decode cX3_goesOn 95 = .ok (.getfield 32, 3) := dk_180 0 32 (dk_at dksX3_goesOn_4 0 rfl rfl)
theorem dX3_goesOn_98 : decode cX3_goesOn 98 = .ok (.aload_n 0, 1) := dk_42 (dk_at dksX3_goesOn_4 3 rfl rfl)
theorem dX3_goesOn_99 : decode cX3_goesOn 99 = .ok (.getfield 78, 3) := dk_180 0 78 (dk_at dksX3_goesOn_4 4 rfl rfl)
theorem dX3_goesOn_102 : decode cX3_goesOn 102 = .ok (.iconst 1, 1) := dk_4 (dk_at dksX3_goesOn_4 7 rfl rfl)
theorem dX3_goesOn_103 : decode cX3_goesOn 103 = .ok (.iadd, 1) := dk_96 (dk_at dksX3_goesOn_4 8 rfl rfl)
theorem dX3_goesOn_104 : decode cX3_goesOn 104 = .ok (.aaload, 1) := dk_50 (dk_at dksX3_goesOn_4 9 rfl rfl)
theorem dX3_goesOn_105 : decode cX3_goesOn 105 = .ok (.iload_n 2, 1) := dk_28 (dk_at dksX3_goesOn_4 10 rfl rfl)
theorem dX3_goesOn_106 : decode cX3_goesOn 106 = .ok (.iload_n 3, 1) := dk_29 (dk_at dksX3_goesOn_4 11 rfl rfl)
theorem dX3_goesOn_107 : decode cX3_goesOn 107 = .ok (.iastore, 1) := dk_79 (dk_at dksX3_goesOn_4 12 rfl rfl)
theorem dX3_goesOn_108 : decode cX3_goesOn 108 = .ok (.iinc 2 1, 3) := dk_132 2 1 (dk_at dksX3_goesOn_4 13 rfl rfl)
theorem dX3_goesOn_111 : decode cX3_goesOn 111 = .ok (.goto (-109), 3) := dk_167 255 147 (dk_at dksX3_goesOn_4 16 rfl rfl)
theorem dX3_goesOn_114 : decode cX3_goesOn 114 = .ok (.return_, 1) := dk_177 (dk_at dksX3_goesOn_4 19 rfl rfl)
abbrev cX3_hand : ByteArray := prog_13_method_5_code
def yX3_hand : MethodName := ⟨RX3, "hand", "(III)I"⟩
def dkwX3_hand_0 : List UInt8 := [42, 180, 0, 26, 16, 100, 16, 10, 27, 104, 28, 96, 104, 29, 96, 51, 172]
abbrev dktX3_hand_0 : List UInt8 := dkwX3_hand_0 ++ []
theorem dksX3_hand_0 : cX3_hand.data.toList.drop 0 = dktX3_hand_0 := by decide +kernel
theorem dX3_hand_0 : decode cX3_hand 0 = .ok (.aload_n 0, 1) := dk_42 (dk_at dksX3_hand_0 0 rfl rfl)
theorem dX3_hand_1 : decode cX3_hand 1 = .ok (.getfield 26, 3) := dk_180 0 26 (dk_at dksX3_hand_0 1 rfl rfl)
theorem dX3_hand_4 : decode cX3_hand 4 = .ok (.bipush 100, 2) := dk_16 100 (dk_at dksX3_hand_0 4 rfl rfl)
theorem dX3_hand_6 : decode cX3_hand 6 = .ok (.bipush 10, 2) := dk_16 10 (dk_at dksX3_hand_0 6 rfl rfl)
theorem dX3_hand_8 : decode cX3_hand 8 = .ok (.iload_n 1, 1) := dk_27 (dk_at dksX3_hand_0 8 rfl rfl)
theorem dX3_hand_9 : decode cX3_hand 9 = .ok (.imul, 1) := dk_104 (dk_at dksX3_hand_0 9 rfl rfl)
theorem dX3_hand_10 : decode cX3_hand 10 = .ok (.iload_n 2, 1) := dk_28 (dk_at dksX3_hand_0 10 rfl rfl)
theorem dX3_hand_11 : decode cX3_hand 11 = .ok (.iadd, 1) := dk_96 (dk_at dksX3_hand_0 11 rfl rfl)
theorem dX3_hand_12 : decode cX3_hand 12 = .ok (.imul, 1) := dk_104 (dk_at dksX3_hand_0 12 rfl rfl)
theorem dX3_hand_13 : decode cX3_hand 13 = .ok (.iload_n 3, 1) := dk_29 (dk_at dksX3_hand_0 13 rfl rfl)
theorem dX3_hand_14 : decode cX3_hand 14 = .ok (.iadd, 1) := dk_96 (dk_at dksX3_hand_0 14 rfl rfl)
theorem dX3_hand_15 : decode cX3_hand 15 = .ok (.baload, 1) := dk_51 (dk_at dksX3_hand_0 15 rfl rfl)
theorem dX3_hand_16 : decode cX3_hand 16 = .ok (.ireturn, 1) := dk_172 (dk_at dksX3_hand_0 16 rfl rfl)
abbrev cX3_lay : ByteArray := prog_13_method_8_code
def yX3_lay : MethodName := ⟨RX3, "lay", "(I)V"⟩
def dkwX3_lay_17 : List UInt8 := [167, 255, 81, 177]
abbrev dktX3_lay_17 : List UInt8 := dkwX3_lay_17 ++ []
def dkwX3_lay_16 : List UInt8 := [21, 4, 79, 42, 180, 0, 40, 6, 21, 5, 104, 5, 96, 21, 7, 79, 21, 7, 62, 132, 5, 1]
abbrev dktX3_lay_16 : List UInt8 := dkwX3_lay_16 ++ dktX3_lay_17
def dkwX3_lay_15 : List UInt8 := [6, 21, 5, 104, 4, 96, 21, 9, 79, 132, 8, 1, 167, 255, 159, 42, 180, 0, 40, 6, 21, 5, 104]
abbrev dktX3_lay_15 : List UInt8 := dkwX3_lay_15 ++ dktX3_lay_16
def dkwX3_lay_14 : List UInt8 := [180, 0, 40, 6, 21, 5, 104, 4, 96, 46, 161, 0, 6, 167, 0, 20, 21, 8, 54, 7, 42, 180, 0, 40]
abbrev dktX3_lay_14 : List UInt8 := dkwX3_lay_14 ++ dktX3_lay_15
def dkwX3_lay_13 : List UInt8 := [21, 8, 21, 4, 182, 0, 85, 54, 9, 21, 9, 2, 159, 0, 45, 21, 7, 2, 159, 0, 22, 21, 9, 42]
abbrev dktX3_lay_13 : List UInt8 := dkwX3_lay_13 ++ dktX3_lay_14
def dkwX3_lay_12 : List UInt8 := [180, 0, 37, 21, 6, 4, 100, 50, 21, 8, 50, 21, 4, 4, 96, 51, 154, 0, 6, 167, 0, 62, 42, 29]
abbrev dktX3_lay_12 : List UInt8 := dkwX3_lay_12 ++ dktX3_lay_13
def dkwX3_lay_11 : List UInt8 := [167, 255, 241, 2, 54, 7, 3, 54, 8, 21, 8, 42, 180, 0, 3, 180, 0, 43, 163, 0, 91, 42]
abbrev dktX3_lay_11 : List UInt8 := dkwX3_lay_11 ++ dktX3_lay_12
def dkwX3_lay_10 : List UInt8 := [21, 5, 100, 54, 6, 132, 4, 1, 42, 21, 6, 29, 21, 4, 182, 0, 88, 154, 0, 9, 132, 4, 1]
abbrev dktX3_lay_10 : List UInt8 := dkwX3_lay_10 ++ dktX3_lay_11
def dkwX3_lay_9 : List UInt8 := [180, 0, 72, 4, 100, 54, 4, 3, 54, 5, 21, 5, 42, 180, 0, 78, 162, 0, 172, 42, 180, 0, 78]
abbrev dktX3_lay_9 : List UInt8 := dkwX3_lay_9 ++ dktX3_lay_10
def dkwX3_lay_8 : List UInt8 := [3, 84, 132, 5, 255, 167, 255, 192, 132, 4, 1, 167, 255, 155, 132, 3, 1, 167, 255, 138, 27, 62, 42]
abbrev dktX3_lay_8 : List UInt8 := dkwX3_lay_8 ++ dktX3_lay_9
def dkwX3_lay_7 : List UInt8 := [5, 96, 51, 154, 0, 17, 42, 29, 21, 4, 21, 5, 4, 96, 182, 0, 88, 153, 0, 7, 4, 167, 0, 4]
abbrev dktX3_lay_7 : List UInt8 := dkwX3_lay_7 ++ dktX3_lay_8
def dkwX3_lay_6 : List UInt8 := [42, 180, 0, 37, 29, 50, 21, 4, 50, 21, 5, 4, 96, 42, 180, 0, 37, 29, 50, 21, 4, 50, 21, 5]
abbrev dktX3_lay_6 : List UInt8 := dkwX3_lay_6 ++ dktX3_lay_7
def dkwX3_lay_5 : List UInt8 := [21, 4, 50, 28, 4, 96, 3, 84, 28, 4, 100, 54, 5, 21, 5, 42, 180, 0, 72, 4, 100, 161, 0, 59]
abbrev dktX3_lay_5 : List UInt8 := dkwX3_lay_5 ++ dktX3_lay_6
def dkwX3_lay_4 : List UInt8 := [163, 0, 116, 3, 54, 4, 21, 4, 42, 180, 0, 3, 180, 0, 43, 163, 0, 95, 42, 180, 0, 37, 29, 50]
abbrev dktX3_lay_4 : List UInt8 := dkwX3_lay_4 ++ dktX3_lay_5
def dkwX3_lay_3 : List UInt8 := [167, 0, 4, 3, 84, 132, 4, 1, 167, 255, 215, 132, 3, 1, 167, 255, 190, 4, 62, 29, 42, 180, 0, 78]
abbrev dktX3_lay_3 : List UInt8 := dkwX3_lay_3 ++ dktX3_lay_4
def dkwX3_lay_2 : List UInt8 := [3, 50, 29, 50, 21, 4, 4, 96, 29, 42, 180, 0, 69, 160, 0, 13, 21, 4, 28, 160, 0, 7, 4]
abbrev dktX3_lay_2 : List UInt8 := dkwX3_lay_2 ++ dktX3_lay_3
def dkwX3_lay_1 : List UInt8 := [180, 0, 43, 163, 0, 61, 42, 180, 0, 72, 4, 100, 54, 4, 21, 4, 28, 163, 0, 41, 42, 180, 0, 37]
abbrev dktX3_lay_1 : List UInt8 := dkwX3_lay_1 ++ dktX3_lay_2
def dkwX3_lay_0 : List UInt8 := [42, 180, 0, 32, 42, 180, 0, 78, 50, 42, 180, 0, 69, 46, 61, 3, 62, 29, 42, 180, 0, 3]
abbrev dktX3_lay_0 : List UInt8 := dkwX3_lay_0 ++ dktX3_lay_1
theorem dksX3_lay_0 : cX3_lay.data.toList.drop 0 = dktX3_lay_0 := by decide +kernel
theorem dksX3_lay_1 : cX3_lay.data.toList.drop 22 = dktX3_lay_1 := dk_seg dksX3_lay_0 22 rfl rfl
theorem dksX3_lay_2 : cX3_lay.data.toList.drop 46 = dktX3_lay_2 := dk_seg dksX3_lay_1 24 rfl rfl
theorem dksX3_lay_3 : cX3_lay.data.toList.drop 69 = dktX3_lay_3 := dk_seg dksX3_lay_2 23 rfl rfl
theorem dksX3_lay_4 : cX3_lay.data.toList.drop 93 = dktX3_lay_4 := dk_seg dksX3_lay_3 24 rfl rfl
theorem dksX3_lay_5 : cX3_lay.data.toList.drop 117 = dktX3_lay_5 := dk_seg dksX3_lay_4 24 rfl rfl
theorem dksX3_lay_6 : cX3_lay.data.toList.drop 141 = dktX3_lay_6 := dk_seg dksX3_lay_5 24 rfl rfl
theorem dksX3_lay_7 : cX3_lay.data.toList.drop 165 = dktX3_lay_7 := dk_seg dksX3_lay_6 24 rfl rfl
theorem dksX3_lay_8 : cX3_lay.data.toList.drop 189 = dktX3_lay_8 := dk_seg dksX3_lay_7 24 rfl rfl
theorem dksX3_lay_9 : cX3_lay.data.toList.drop 212 = dktX3_lay_9 := dk_seg dksX3_lay_8 23 rfl rfl
theorem dksX3_lay_10 : cX3_lay.data.toList.drop 235 = dktX3_lay_10 := dk_seg dksX3_lay_9 23 rfl rfl
theorem dksX3_lay_11 : cX3_lay.data.toList.drop 258 = dktX3_lay_11 := dk_seg dksX3_lay_10 23 rfl rfl
theorem dksX3_lay_12 : cX3_lay.data.toList.drop 280 = dktX3_lay_12 := dk_seg dksX3_lay_11 22 rfl rfl
theorem dksX3_lay_13 : cX3_lay.data.toList.drop 304 = dktX3_lay_13 := dk_seg dksX3_lay_12 24 rfl rfl
theorem dksX3_lay_14 : cX3_lay.data.toList.drop 328 = dktX3_lay_14 := dk_seg dksX3_lay_13 24 rfl rfl
theorem dksX3_lay_15 : cX3_lay.data.toList.drop 352 = dktX3_lay_15 := dk_seg dksX3_lay_14 24 rfl rfl
theorem dksX3_lay_16 : cX3_lay.data.toList.drop 375 = dktX3_lay_16 := dk_seg dksX3_lay_15 23 rfl rfl
theorem dksX3_lay_17 : cX3_lay.data.toList.drop 397 = dktX3_lay_17 := dk_seg dksX3_lay_16 22 rfl rfl
theorem dX3_lay_0 : decode cX3_lay 0 = .ok (.aload_n 0, 1) := dk_42 (dk_at dksX3_lay_0 0 rfl rfl)
theorem dX3_lay_1 : decode cX3_lay 1 = .ok (.getfield 32, 3) := dk_180 0 32 (dk_at dksX3_lay_0 1 rfl rfl)
theorem dX3_lay_4 : decode cX3_lay 4 = .ok (.aload_n 0, 1) := dk_42 (dk_at dksX3_lay_0 4 rfl rfl)
theorem dX3_lay_5 : decode cX3_lay 5 = .ok (.getfield 78, 3) := dk_180 0 78 (dk_at dksX3_lay_0 5 rfl rfl)
theorem dX3_lay_8 : decode cX3_lay 8 = .ok (.aaload, 1) := dk_50 (dk_at dksX3_lay_0 8 rfl rfl)
theorem dX3_lay_9 : decode cX3_lay 9 = .ok (.aload_n 0, 1) := dk_42 (dk_at dksX3_lay_0 9 rfl rfl)
theorem dX3_lay_10 : decode cX3_lay 10 = .ok (.getfield 69, 3) := dk_180 0 69 (dk_at dksX3_lay_0 10 rfl rfl)
theorem dX3_lay_13 : decode cX3_lay 13 = .ok (.iaload, 1) := dk_46 (dk_at dksX3_lay_0 13 rfl rfl)
theorem dX3_lay_14 : decode cX3_lay 14 = .ok (.istore_n 2, 1) := dk_61 (dk_at dksX3_lay_0 14 rfl rfl)
theorem dX3_lay_15 : decode cX3_lay 15 = .ok (.iconst 0, 1) := dk_3 (dk_at dksX3_lay_0 15 rfl rfl)
theorem dX3_lay_16 : decode cX3_lay 16 = .ok (.istore_n 3, 1) := dk_62 (dk_at dksX3_lay_0 16 rfl rfl)
theorem dX3_lay_17 : decode cX3_lay 17 = .ok (.iload_n 3, 1) := dk_29 (dk_at dksX3_lay_0 17 rfl rfl)
theorem dX3_lay_18 : decode cX3_lay 18 = .ok (.aload_n 0, 1) := dk_42 (dk_at dksX3_lay_0 18 rfl rfl)
theorem dX3_lay_19 : decode cX3_lay 19 = .ok (.getfield 3, 3) := dk_180 0 3 (dk_at dksX3_lay_0 19 rfl rfl)
theorem dX3_lay_22 : decode cX3_lay 22 = .ok (.getfield 43, 3) := dk_180 0 43 (dk_at dksX3_lay_1 0 rfl rfl)
theorem dX3_lay_25 : decode cX3_lay 25 = .ok (.if_icmp .gt 61, 3) := dk_163 0 61 (dk_at dksX3_lay_1 3 rfl rfl)
theorem dX3_lay_28 : decode cX3_lay 28 = .ok (.aload_n 0, 1) := dk_42 (dk_at dksX3_lay_1 6 rfl rfl)
theorem dX3_lay_29 : decode cX3_lay 29 = .ok (.getfield 72, 3) := dk_180 0 72 (dk_at dksX3_lay_1 7 rfl rfl)
theorem dX3_lay_32 : decode cX3_lay 32 = .ok (.iconst 1, 1) := dk_4 (dk_at dksX3_lay_1 10 rfl rfl)
theorem dX3_lay_33 : decode cX3_lay 33 = .ok (.isub, 1) := dk_100 (dk_at dksX3_lay_1 11 rfl rfl)
theorem dX3_lay_34 : decode cX3_lay 34 = .ok (.istore 4, 2) := dk_54 4 (dk_at dksX3_lay_1 12 rfl rfl)
theorem dX3_lay_36 : decode cX3_lay 36 = .ok (.iload 4, 2) := dk_21 4 (dk_at dksX3_lay_1 14 rfl rfl)
theorem dX3_lay_38 : decode cX3_lay 38 = .ok (.iload_n 2, 1) := dk_28 (dk_at dksX3_lay_1 16 rfl rfl)
theorem dX3_lay_39 : decode cX3_lay 39 = .ok (.if_icmp .gt 41, 3) := dk_163 0 41 (dk_at dksX3_lay_1 17 rfl rfl)
theorem dX3_lay_42 : decode cX3_lay 42 = .ok (.aload_n 0, 1) := dk_42 (dk_at dksX3_lay_1 20 rfl rfl)
theorem dX3_lay_43 : decode cX3_lay 43 = .ok (.getfield 37, 3) := dk_180 0 37 (dk_at dksX3_lay_1 21 rfl rfl)
theorem dX3_lay_46 : decode cX3_lay 46 = .ok (.iconst 0, 1) := dk_3 (dk_at dksX3_lay_2 0 rfl rfl)
theorem dX3_lay_47 : decode cX3_lay 47 = .ok (.aaload, 1) := dk_50 (dk_at dksX3_lay_2 1 rfl rfl)
theorem dX3_lay_48 : decode cX3_lay 48 = .ok (.iload_n 3, 1) := dk_29 (dk_at dksX3_lay_2 2 rfl rfl)
theorem dX3_lay_49 : decode cX3_lay 49 = .ok (.aaload, 1) := dk_50 (dk_at dksX3_lay_2 3 rfl rfl)
theorem dX3_lay_50 : decode cX3_lay 50 = .ok (.iload 4, 2) := dk_21 4 (dk_at dksX3_lay_2 4 rfl rfl)
theorem dX3_lay_52 : decode cX3_lay 52 = .ok (.iconst 1, 1) := dk_4 (dk_at dksX3_lay_2 6 rfl rfl)
theorem dX3_lay_53 : decode cX3_lay 53 = .ok (.iadd, 1) := dk_96 (dk_at dksX3_lay_2 7 rfl rfl)
theorem dX3_lay_54 : decode cX3_lay 54 = .ok (.iload_n 3, 1) := dk_29 (dk_at dksX3_lay_2 8 rfl rfl)
theorem dX3_lay_55 : decode cX3_lay 55 = .ok (.aload_n 0, 1) := dk_42 (dk_at dksX3_lay_2 9 rfl rfl)
theorem dX3_lay_56 : decode cX3_lay 56 = .ok (.getfield 69, 3) := dk_180 0 69 (dk_at dksX3_lay_2 10 rfl rfl)
theorem dX3_lay_59 : decode cX3_lay 59 = .ok (.if_icmp .ne 13, 3) := dk_160 0 13 (dk_at dksX3_lay_2 13 rfl rfl)
theorem dX3_lay_62 : decode cX3_lay 62 = .ok (.iload 4, 2) := dk_21 4 (dk_at dksX3_lay_2 16 rfl rfl)
theorem dX3_lay_64 : decode cX3_lay 64 = .ok (.iload_n 2, 1) := dk_28 (dk_at dksX3_lay_2 18 rfl rfl)
theorem dX3_lay_65 : decode cX3_lay 65 = .ok (.if_icmp .ne 7, 3) := dk_160 0 7 (dk_at dksX3_lay_2 19 rfl rfl)
theorem dX3_lay_68 : decode cX3_lay 68 = .ok (.iconst 1, 1) := dk_4 (dk_at dksX3_lay_2 22 rfl rfl)
theorem dX3_lay_69 : decode cX3_lay 69 = .ok (.goto 4, 3) := dk_167 0 4 (dk_at dksX3_lay_3 0 rfl rfl)
theorem dX3_lay_72 : decode cX3_lay 72 = .ok (.iconst 0, 1) := dk_3 (dk_at dksX3_lay_3 3 rfl rfl)
theorem dX3_lay_73 : decode cX3_lay 73 = .ok (.bastore, 1) := dk_84 (dk_at dksX3_lay_3 4 rfl rfl)
theorem dX3_lay_74 : decode cX3_lay 74 = .ok (.iinc 4 1, 3) := dk_132 4 1 (dk_at dksX3_lay_3 5 rfl rfl)
theorem dX3_lay_77 : decode cX3_lay 77 = .ok (.goto (-41), 3) := dk_167 255 215 (dk_at dksX3_lay_3 8 rfl rfl)
theorem dX3_lay_80 : decode cX3_lay 80 = .ok (.iinc 3 1, 3) := dk_132 3 1 (dk_at dksX3_lay_3 11 rfl rfl)
theorem dX3_lay_83 : decode cX3_lay 83 = .ok (.goto (-66), 3) := dk_167 255 190 (dk_at dksX3_lay_3 14 rfl rfl)
theorem dX3_lay_86 : decode cX3_lay 86 = .ok (.iconst 1, 1) := dk_4 (dk_at dksX3_lay_3 17 rfl rfl)
theorem dX3_lay_87 : decode cX3_lay 87 = .ok (.istore_n 3, 1) := dk_62 (dk_at dksX3_lay_3 18 rfl rfl)
theorem dX3_lay_88 : decode cX3_lay 88 = .ok (.iload_n 3, 1) := dk_29 (dk_at dksX3_lay_3 19 rfl rfl)
theorem dX3_lay_89 : decode cX3_lay 89 = .ok (.aload_n 0, 1) := dk_42 (dk_at dksX3_lay_3 20 rfl rfl)
theorem dX3_lay_90 : decode cX3_lay 90 = .ok (.getfield 78, 3) := dk_180 0 78 (dk_at dksX3_lay_3 21 rfl rfl)
theorem dX3_lay_93 : decode cX3_lay 93 = .ok (.if_icmp .gt 116, 3) := dk_163 0 116 (dk_at dksX3_lay_4 0 rfl rfl)
theorem dX3_lay_96 : decode cX3_lay 96 = .ok (.iconst 0, 1) := dk_3 (dk_at dksX3_lay_4 3 rfl rfl)
theorem dX3_lay_97 : decode cX3_lay 97 = .ok (.istore 4, 2) := dk_54 4 (dk_at dksX3_lay_4 4 rfl rfl)
theorem dX3_lay_99 : decode cX3_lay 99 = .ok (.iload 4, 2) := dk_21 4 (dk_at dksX3_lay_4 6 rfl rfl)
theorem dX3_lay_101 : decode cX3_lay 101 = .ok (.aload_n 0, 1) := dk_42 (dk_at dksX3_lay_4 8 rfl rfl)
theorem dX3_lay_102 : decode cX3_lay 102 = .ok (.getfield 3, 3) := dk_180 0 3 (dk_at dksX3_lay_4 9 rfl rfl)
theorem dX3_lay_105 : decode cX3_lay 105 = .ok (.getfield 43, 3) := dk_180 0 43 (dk_at dksX3_lay_4 12 rfl rfl)
theorem dX3_lay_108 : decode cX3_lay 108 = .ok (.if_icmp .gt 95, 3) := dk_163 0 95 (dk_at dksX3_lay_4 15 rfl rfl)
theorem dX3_lay_111 : decode cX3_lay 111 = .ok (.aload_n 0, 1) := dk_42 (dk_at dksX3_lay_4 18 rfl rfl)
theorem dX3_lay_112 : decode cX3_lay 112 = .ok (.getfield 37, 3) := dk_180 0 37 (dk_at dksX3_lay_4 19 rfl rfl)
theorem dX3_lay_115 : decode cX3_lay 115 = .ok (.iload_n 3, 1) := dk_29 (dk_at dksX3_lay_4 22 rfl rfl)
theorem dX3_lay_116 : decode cX3_lay 116 = .ok (.aaload, 1) := dk_50 (dk_at dksX3_lay_4 23 rfl rfl)
theorem dX3_lay_117 : decode cX3_lay 117 = .ok (.iload 4, 2) := dk_21 4 (dk_at dksX3_lay_5 0 rfl rfl)
theorem dX3_lay_119 : decode cX3_lay 119 = .ok (.aaload, 1) := dk_50 (dk_at dksX3_lay_5 2 rfl rfl)
theorem dX3_lay_120 : decode cX3_lay 120 = .ok (.iload_n 2, 1) := dk_28 (dk_at dksX3_lay_5 3 rfl rfl)
theorem dX3_lay_121 : decode cX3_lay 121 = .ok (.iconst 1, 1) := dk_4 (dk_at dksX3_lay_5 4 rfl rfl)
theorem dX3_lay_122 : decode cX3_lay 122 = .ok (.iadd, 1) := dk_96 (dk_at dksX3_lay_5 5 rfl rfl)
theorem dX3_lay_123 : decode cX3_lay 123 = .ok (.iconst 0, 1) := dk_3 (dk_at dksX3_lay_5 6 rfl rfl)
theorem dX3_lay_124 : decode cX3_lay 124 = .ok (.bastore, 1) := dk_84 (dk_at dksX3_lay_5 7 rfl rfl)
theorem dX3_lay_125 : decode cX3_lay 125 = .ok (.iload_n 2, 1) := dk_28 (dk_at dksX3_lay_5 8 rfl rfl)
theorem dX3_lay_126 : decode cX3_lay 126 = .ok (.iconst 1, 1) := dk_4 (dk_at dksX3_lay_5 9 rfl rfl)
theorem dX3_lay_127 : decode cX3_lay 127 = .ok (.isub, 1) := dk_100 (dk_at dksX3_lay_5 10 rfl rfl)
theorem dX3_lay_128 : decode cX3_lay 128 = .ok (.istore 5, 2) := dk_54 5 (dk_at dksX3_lay_5 11 rfl rfl)
theorem dX3_lay_130 : decode cX3_lay 130 = .ok (.iload 5, 2) := dk_21 5 (dk_at dksX3_lay_5 13 rfl rfl)
theorem dX3_lay_132 : decode cX3_lay 132 = .ok (.aload_n 0, 1) := dk_42 (dk_at dksX3_lay_5 15 rfl rfl)
theorem dX3_lay_133 : decode cX3_lay 133 = .ok (.getfield 72, 3) := dk_180 0 72 (dk_at dksX3_lay_5 16 rfl rfl)
theorem dX3_lay_136 : decode cX3_lay 136 = .ok (.iconst 1, 1) := dk_4 (dk_at dksX3_lay_5 19 rfl rfl)
theorem dX3_lay_137 : decode cX3_lay 137 = .ok (.isub, 1) := dk_100 (dk_at dksX3_lay_5 20 rfl rfl)
theorem dX3_lay_138 : decode cX3_lay 138 = .ok (.if_icmp .lt 59, 3) := dk_161 0 59 (dk_at dksX3_lay_5 21 rfl rfl)
theorem dX3_lay_141 : decode cX3_lay 141 = .ok (.aload_n 0, 1) := dk_42 (dk_at dksX3_lay_6 0 rfl rfl)
theorem dX3_lay_142 : decode cX3_lay 142 = .ok (.getfield 37, 3) := dk_180 0 37 (dk_at dksX3_lay_6 1 rfl rfl)
theorem dX3_lay_145 : decode cX3_lay 145 = .ok (.iload_n 3, 1) := dk_29 (dk_at dksX3_lay_6 4 rfl rfl)
theorem dX3_lay_146 : decode cX3_lay 146 = .ok (.aaload, 1) := dk_50 (dk_at dksX3_lay_6 5 rfl rfl)
theorem dX3_lay_147 : decode cX3_lay 147 = .ok (.iload 4, 2) := dk_21 4 (dk_at dksX3_lay_6 6 rfl rfl)
theorem dX3_lay_149 : decode cX3_lay 149 = .ok (.aaload, 1) := dk_50 (dk_at dksX3_lay_6 8 rfl rfl)
theorem dX3_lay_150 : decode cX3_lay 150 = .ok (.iload 5, 2) := dk_21 5 (dk_at dksX3_lay_6 9 rfl rfl)
theorem dX3_lay_152 : decode cX3_lay 152 = .ok (.iconst 1, 1) := dk_4 (dk_at dksX3_lay_6 11 rfl rfl)
theorem dX3_lay_153 : decode cX3_lay 153 = .ok (.iadd, 1) := dk_96 (dk_at dksX3_lay_6 12 rfl rfl)
theorem dX3_lay_154 : decode cX3_lay 154 = .ok (.aload_n 0, 1) := dk_42 (dk_at dksX3_lay_6 13 rfl rfl)
theorem dX3_lay_155 : decode cX3_lay 155 = .ok (.getfield 37, 3) := dk_180 0 37 (dk_at dksX3_lay_6 14 rfl rfl)
theorem dX3_lay_158 : decode cX3_lay 158 = .ok (.iload_n 3, 1) := dk_29 (dk_at dksX3_lay_6 17 rfl rfl)
theorem dX3_lay_159 : decode cX3_lay 159 = .ok (.aaload, 1) := dk_50 (dk_at dksX3_lay_6 18 rfl rfl)
theorem dX3_lay_160 : decode cX3_lay 160 = .ok (.iload 4, 2) := dk_21 4 (dk_at dksX3_lay_6 19 rfl rfl)
theorem dX3_lay_162 : decode cX3_lay 162 = .ok (.aaload, 1) := dk_50 (dk_at dksX3_lay_6 21 rfl rfl)
theorem dX3_lay_163 : decode cX3_lay 163 = .ok (.iload 5, 2) := dk_21 5 (dk_at dksX3_lay_6 22 rfl rfl)
theorem dX3_lay_165 : decode cX3_lay 165 = .ok (.iconst 2, 1) := dk_5 (dk_at dksX3_lay_7 0 rfl rfl)
theorem dX3_lay_166 : decode cX3_lay 166 = .ok (.iadd, 1) := dk_96 (dk_at dksX3_lay_7 1 rfl rfl)
theorem dX3_lay_167 : decode cX3_lay 167 = .ok (.baload, 1) := dk_51 (dk_at dksX3_lay_7 2 rfl rfl)
theorem dX3_lay_168 : decode cX3_lay 168 = .ok (.ifCond .ne 17, 3) := dk_154 0 17 (dk_at dksX3_lay_7 3 rfl rfl)
theorem dX3_lay_171 : decode cX3_lay 171 = .ok (.aload_n 0, 1) := dk_42 (dk_at dksX3_lay_7 6 rfl rfl)
theorem dX3_lay_172 : decode cX3_lay 172 = .ok (.iload_n 3, 1) := dk_29 (dk_at dksX3_lay_7 7 rfl rfl)
theorem dX3_lay_173 : decode cX3_lay 173 = .ok (.iload 4, 2) := dk_21 4 (dk_at dksX3_lay_7 8 rfl rfl)
theorem dX3_lay_175 : decode cX3_lay 175 = .ok (.iload 5, 2) := dk_21 5 (dk_at dksX3_lay_7 10 rfl rfl)
theorem dX3_lay_177 : decode cX3_lay 177 = .ok (.iconst 1, 1) := dk_4 (dk_at dksX3_lay_7 12 rfl rfl)
theorem dX3_lay_178 : decode cX3_lay 178 = .ok (.iadd, 1) := dk_96 (dk_at dksX3_lay_7 13 rfl rfl)
theorem dX3_lay_179 : decode cX3_lay 179 = .ok (.invokevirtual 88, 3) := dk_182 0 88 (dk_at dksX3_lay_7 14 rfl rfl)
theorem dX3_lay_182 : decode cX3_lay 182 = .ok (.ifCond .eq 7, 3) := dk_153 0 7 (dk_at dksX3_lay_7 17 rfl rfl)
theorem dX3_lay_185 : decode cX3_lay 185 = .ok (.iconst 1, 1) := dk_4 (dk_at dksX3_lay_7 20 rfl rfl)
theorem dX3_lay_186 : decode cX3_lay 186 = .ok (.goto 4, 3) := dk_167 0 4 (dk_at dksX3_lay_7 21 rfl rfl)
theorem dX3_lay_189 : decode cX3_lay 189 = .ok (.iconst 0, 1) := dk_3 (dk_at dksX3_lay_8 0 rfl rfl)
theorem dX3_lay_190 : decode cX3_lay 190 = .ok (.bastore, 1) := dk_84 (dk_at dksX3_lay_8 1 rfl rfl)
theorem dX3_lay_191 : decode cX3_lay 191 = .ok (.iinc 5 (-1), 3) := dk_132 5 255 (dk_at dksX3_lay_8 2 rfl rfl)
theorem dX3_lay_194 : decode cX3_lay 194 = .ok (.goto (-64), 3) := dk_167 255 192 (dk_at dksX3_lay_8 5 rfl rfl)
theorem dX3_lay_197 : decode cX3_lay 197 = .ok (.iinc 4 1, 3) := dk_132 4 1 (dk_at dksX3_lay_8 8 rfl rfl)
theorem dX3_lay_200 : decode cX3_lay 200 = .ok (.goto (-101), 3) := dk_167 255 155 (dk_at dksX3_lay_8 11 rfl rfl)
theorem dX3_lay_203 : decode cX3_lay 203 = .ok (.iinc 3 1, 3) := dk_132 3 1 (dk_at dksX3_lay_8 14 rfl rfl)
theorem dX3_lay_206 : decode cX3_lay 206 = .ok (.goto (-118), 3) := dk_167 255 138 (dk_at dksX3_lay_8 17 rfl rfl)
theorem dX3_lay_209 : decode cX3_lay 209 = .ok (.iload_n 1, 1) := dk_27 (dk_at dksX3_lay_8 20 rfl rfl)
theorem dX3_lay_210 : decode cX3_lay 210 = .ok (.istore_n 3, 1) := dk_62 (dk_at dksX3_lay_8 21 rfl rfl)
theorem dX3_lay_211 : decode cX3_lay 211 = .ok (.aload_n 0, 1) := dk_42 (dk_at dksX3_lay_8 22 rfl rfl)
theorem dX3_lay_212 : decode cX3_lay 212 = .ok (.getfield 72, 3) := dk_180 0 72 (dk_at dksX3_lay_9 0 rfl rfl)
theorem dX3_lay_215 : decode cX3_lay 215 = .ok (.iconst 1, 1) := dk_4 (dk_at dksX3_lay_9 3 rfl rfl)
theorem dX3_lay_216 : decode cX3_lay 216 = .ok (.isub, 1) := dk_100 (dk_at dksX3_lay_9 4 rfl rfl)
theorem dX3_lay_217 : decode cX3_lay 217 = .ok (.istore 4, 2) := dk_54 4 (dk_at dksX3_lay_9 5 rfl rfl)
theorem dX3_lay_219 : decode cX3_lay 219 = .ok (.iconst 0, 1) := dk_3 (dk_at dksX3_lay_9 7 rfl rfl)
theorem dX3_lay_220 : decode cX3_lay 220 = .ok (.istore 5, 2) := dk_54 5 (dk_at dksX3_lay_9 8 rfl rfl)
theorem dX3_lay_222 : decode cX3_lay 222 = .ok (.iload 5, 2) := dk_21 5 (dk_at dksX3_lay_9 10 rfl rfl)
theorem dX3_lay_224 : decode cX3_lay 224 = .ok (.aload_n 0, 1) := dk_42 (dk_at dksX3_lay_9 12 rfl rfl)
theorem dX3_lay_225 : decode cX3_lay 225 = .ok (.getfield 78, 3) := dk_180 0 78 (dk_at dksX3_lay_9 13 rfl rfl)
theorem dX3_lay_228 : decode cX3_lay 228 = .ok (.if_icmp .ge 172, 3) := dk_162 0 172 (dk_at dksX3_lay_9 16 rfl rfl)
theorem dX3_lay_231 : decode cX3_lay 231 = .ok (.aload_n 0, 1) := dk_42 (dk_at dksX3_lay_9 19 rfl rfl)
theorem dX3_lay_232 : decode cX3_lay 232 = .ok (.getfield 78, 3) := dk_180 0 78 (dk_at dksX3_lay_9 20 rfl rfl)
theorem dX3_lay_235 : decode cX3_lay 235 = .ok (.iload 5, 2) := dk_21 5 (dk_at dksX3_lay_10 0 rfl rfl)
theorem dX3_lay_237 : decode cX3_lay 237 = .ok (.isub, 1) := dk_100 (dk_at dksX3_lay_10 2 rfl rfl)
theorem dX3_lay_238 : decode cX3_lay 238 = .ok (.istore 6, 2) := dk_54 6 (dk_at dksX3_lay_10 3 rfl rfl)
theorem dX3_lay_240 : decode cX3_lay 240 = .ok (.iinc 4 1, 3) := dk_132 4 1 (dk_at dksX3_lay_10 5 rfl rfl)
theorem dX3_lay_243 : decode cX3_lay 243 = .ok (.aload_n 0, 1) := dk_42 (dk_at dksX3_lay_10 8 rfl rfl)
theorem dX3_lay_244 : decode cX3_lay 244 = .ok (.iload 6, 2) := dk_21 6 (dk_at dksX3_lay_10 9 rfl rfl)
theorem dX3_lay_246 : decode cX3_lay 246 = .ok (.iload_n 3, 1) := dk_29 (dk_at dksX3_lay_10 11 rfl rfl)
theorem dX3_lay_247 : decode cX3_lay 247 = .ok (.iload 4, 2) := dk_21 4 (dk_at dksX3_lay_10 12 rfl rfl)
theorem dX3_lay_249 : decode cX3_lay 249 = .ok (.invokevirtual 88, 3) := dk_182 0 88 (dk_at dksX3_lay_10 14 rfl rfl)
theorem dX3_lay_252 : decode cX3_lay 252 = .ok (.ifCond .ne 9, 3) := dk_154 0 9 (dk_at dksX3_lay_10 17 rfl rfl)
theorem dX3_lay_255 : decode cX3_lay 255 = .ok (.iinc 4 1, 3) := dk_132 4 1 (dk_at dksX3_lay_10 20 rfl rfl)
theorem dX3_lay_258 : decode cX3_lay 258 = .ok (.goto (-15), 3) := dk_167 255 241 (dk_at dksX3_lay_11 0 rfl rfl)
theorem dX3_lay_261 : decode cX3_lay 261 = .ok (.iconst (-1), 1) := dk_2 (dk_at dksX3_lay_11 3 rfl rfl)
theorem dX3_lay_262 : decode cX3_lay 262 = .ok (.istore 7, 2) := dk_54 7 (dk_at dksX3_lay_11 4 rfl rfl)
theorem dX3_lay_264 : decode cX3_lay 264 = .ok (.iconst 0, 1) := dk_3 (dk_at dksX3_lay_11 6 rfl rfl)
theorem dX3_lay_265 : decode cX3_lay 265 = .ok (.istore 8, 2) := dk_54 8 (dk_at dksX3_lay_11 7 rfl rfl)
theorem dX3_lay_267 : decode cX3_lay 267 = .ok (.iload 8, 2) := dk_21 8 (dk_at dksX3_lay_11 9 rfl rfl)
theorem dX3_lay_269 : decode cX3_lay 269 = .ok (.aload_n 0, 1) := dk_42 (dk_at dksX3_lay_11 11 rfl rfl)
theorem dX3_lay_270 : decode cX3_lay 270 = .ok (.getfield 3, 3) := dk_180 0 3 (dk_at dksX3_lay_11 12 rfl rfl)
theorem dX3_lay_273 : decode cX3_lay 273 = .ok (.getfield 43, 3) := dk_180 0 43 (dk_at dksX3_lay_11 15 rfl rfl)
theorem dX3_lay_276 : decode cX3_lay 276 = .ok (.if_icmp .gt 91, 3) := dk_163 0 91 (dk_at dksX3_lay_11 18 rfl rfl)
theorem dX3_lay_279 : decode cX3_lay 279 = .ok (.aload_n 0, 1) := dk_42 (dk_at dksX3_lay_11 21 rfl rfl)
theorem dX3_lay_280 : decode cX3_lay 280 = .ok (.getfield 37, 3) := dk_180 0 37 (dk_at dksX3_lay_12 0 rfl rfl)
theorem dX3_lay_283 : decode cX3_lay 283 = .ok (.iload 6, 2) := dk_21 6 (dk_at dksX3_lay_12 3 rfl rfl)
theorem dX3_lay_285 : decode cX3_lay 285 = .ok (.iconst 1, 1) := dk_4 (dk_at dksX3_lay_12 5 rfl rfl)
theorem dX3_lay_286 : decode cX3_lay 286 = .ok (.isub, 1) := dk_100 (dk_at dksX3_lay_12 6 rfl rfl)
theorem dX3_lay_287 : decode cX3_lay 287 = .ok (.aaload, 1) := dk_50 (dk_at dksX3_lay_12 7 rfl rfl)
theorem dX3_lay_288 : decode cX3_lay 288 = .ok (.iload 8, 2) := dk_21 8 (dk_at dksX3_lay_12 8 rfl rfl)
theorem dX3_lay_290 : decode cX3_lay 290 = .ok (.aaload, 1) := dk_50 (dk_at dksX3_lay_12 10 rfl rfl)
theorem dX3_lay_291 : decode cX3_lay 291 = .ok (.iload 4, 2) := dk_21 4 (dk_at dksX3_lay_12 11 rfl rfl)
theorem dX3_lay_293 : decode cX3_lay 293 = .ok (.iconst 1, 1) := dk_4 (dk_at dksX3_lay_12 13 rfl rfl)
theorem dX3_lay_294 : decode cX3_lay 294 = .ok (.iadd, 1) := dk_96 (dk_at dksX3_lay_12 14 rfl rfl)
theorem dX3_lay_295 : decode cX3_lay 295 = .ok (.baload, 1) := dk_51 (dk_at dksX3_lay_12 15 rfl rfl)
theorem dX3_lay_296 : decode cX3_lay 296 = .ok (.ifCond .ne 6, 3) := dk_154 0 6 (dk_at dksX3_lay_12 16 rfl rfl)
theorem dX3_lay_299 : decode cX3_lay 299 = .ok (.goto 62, 3) := dk_167 0 62 (dk_at dksX3_lay_12 19 rfl rfl)
theorem dX3_lay_302 : decode cX3_lay 302 = .ok (.aload_n 0, 1) := dk_42 (dk_at dksX3_lay_12 22 rfl rfl)
theorem dX3_lay_303 : decode cX3_lay 303 = .ok (.iload_n 3, 1) := dk_29 (dk_at dksX3_lay_12 23 rfl rfl)
theorem dX3_lay_304 : decode cX3_lay 304 = .ok (.iload 8, 2) := dk_21 8 (dk_at dksX3_lay_13 0 rfl rfl)
theorem dX3_lay_306 : decode cX3_lay 306 = .ok (.iload 4, 2) := dk_21 4 (dk_at dksX3_lay_13 2 rfl rfl)
theorem dX3_lay_308 : decode cX3_lay 308 = .ok (.invokevirtual 85, 3) := dk_182 0 85 (dk_at dksX3_lay_13 4 rfl rfl)
theorem dX3_lay_311 : decode cX3_lay 311 = .ok (.istore 9, 2) := dk_54 9 (dk_at dksX3_lay_13 7 rfl rfl)
theorem dX3_lay_313 : decode cX3_lay 313 = .ok (.iload 9, 2) := dk_21 9 (dk_at dksX3_lay_13 9 rfl rfl)
theorem dX3_lay_315 : decode cX3_lay 315 = .ok (.iconst (-1), 1) := dk_2 (dk_at dksX3_lay_13 11 rfl rfl)
theorem dX3_lay_316 : decode cX3_lay 316 = .ok (.if_icmp .eq 45, 3) := dk_159 0 45 (dk_at dksX3_lay_13 12 rfl rfl)
theorem dX3_lay_319 : decode cX3_lay 319 = .ok (.iload 7, 2) := dk_21 7 (dk_at dksX3_lay_13 15 rfl rfl)
theorem dX3_lay_321 : decode cX3_lay 321 = .ok (.iconst (-1), 1) := dk_2 (dk_at dksX3_lay_13 17 rfl rfl)
theorem dX3_lay_322 : decode cX3_lay 322 = .ok (.if_icmp .eq 22, 3) := dk_159 0 22 (dk_at dksX3_lay_13 18 rfl rfl)
theorem dX3_lay_325 : decode cX3_lay 325 = .ok (.iload 9, 2) := dk_21 9 (dk_at dksX3_lay_13 21 rfl rfl)
theorem dX3_lay_327 : decode cX3_lay 327 = .ok (.aload_n 0, 1) := dk_42 (dk_at dksX3_lay_13 23 rfl rfl)
theorem dX3_lay_328 : decode cX3_lay 328 = .ok (.getfield 40, 3) := dk_180 0 40 (dk_at dksX3_lay_14 0 rfl rfl)
theorem dX3_lay_331 : decode cX3_lay 331 = .ok (.iconst 3, 1) := dk_6 (dk_at dksX3_lay_14 3 rfl rfl)
theorem dX3_lay_332 : decode cX3_lay 332 = .ok (.iload 5, 2) := dk_21 5 (dk_at dksX3_lay_14 4 rfl rfl)
theorem dX3_lay_334 : decode cX3_lay 334 = .ok (.imul, 1) := dk_104 (dk_at dksX3_lay_14 6 rfl rfl)
theorem dX3_lay_335 : decode cX3_lay 335 = .ok (.iconst 1, 1) := dk_4 (dk_at dksX3_lay_14 7 rfl rfl)
theorem dX3_lay_336 : decode cX3_lay 336 = .ok (.iadd, 1) := dk_96 (dk_at dksX3_lay_14 8 rfl rfl)
theorem dX3_lay_337 : decode cX3_lay 337 = .ok (.iaload, 1) := dk_46 (dk_at dksX3_lay_14 9 rfl rfl)
theorem dX3_lay_338 : decode cX3_lay 338 = .ok (.if_icmp .lt 6, 3) := dk_161 0 6 (dk_at dksX3_lay_14 10 rfl rfl)
theorem dX3_lay_341 : decode cX3_lay 341 = .ok (.goto 20, 3) := dk_167 0 20 (dk_at dksX3_lay_14 13 rfl rfl)
theorem dX3_lay_344 : decode cX3_lay 344 = .ok (.iload 8, 2) := dk_21 8 (dk_at dksX3_lay_14 16 rfl rfl)
theorem dX3_lay_346 : decode cX3_lay 346 = .ok (.istore 7, 2) := dk_54 7 (dk_at dksX3_lay_14 18 rfl rfl)
theorem dX3_lay_348 : decode cX3_lay 348 = .ok (.aload_n 0, 1) := dk_42 (dk_at dksX3_lay_14 20 rfl rfl)
theorem dX3_lay_349 : decode cX3_lay 349 = .ok (.getfield 40, 3) := dk_180 0 40 (dk_at dksX3_lay_14 21 rfl rfl)
theorem dX3_lay_352 : decode cX3_lay 352 = .ok (.iconst 3, 1) := dk_6 (dk_at dksX3_lay_15 0 rfl rfl)
theorem dX3_lay_353 : decode cX3_lay 353 = .ok (.iload 5, 2) := dk_21 5 (dk_at dksX3_lay_15 1 rfl rfl)
theorem dX3_lay_355 : decode cX3_lay 355 = .ok (.imul, 1) := dk_104 (dk_at dksX3_lay_15 3 rfl rfl)
theorem dX3_lay_356 : decode cX3_lay 356 = .ok (.iconst 1, 1) := dk_4 (dk_at dksX3_lay_15 4 rfl rfl)
theorem dX3_lay_357 : decode cX3_lay 357 = .ok (.iadd, 1) := dk_96 (dk_at dksX3_lay_15 5 rfl rfl)
theorem dX3_lay_358 : decode cX3_lay 358 = .ok (.iload 9, 2) := dk_21 9 (dk_at dksX3_lay_15 6 rfl rfl)
theorem dX3_lay_360 : decode cX3_lay 360 = .ok (.iastore, 1) := dk_79 (dk_at dksX3_lay_15 8 rfl rfl)
theorem dX3_lay_361 : decode cX3_lay 361 = .ok (.iinc 8 1, 3) := dk_132 8 1 (dk_at dksX3_lay_15 9 rfl rfl)
theorem dX3_lay_364 : decode cX3_lay 364 = .ok (.goto (-97), 3) := dk_167 255 159 (dk_at dksX3_lay_15 12 rfl rfl)
theorem dX3_lay_367 : decode cX3_lay 367 = .ok (.aload_n 0, 1) := dk_42 (dk_at dksX3_lay_15 15 rfl rfl)
theorem dX3_lay_368 : decode cX3_lay 368 = .ok (.getfield 40, 3) := dk_180 0 40 (dk_at dksX3_lay_15 16 rfl rfl)
theorem dX3_lay_371 : decode cX3_lay 371 = .ok (.iconst 3, 1) := dk_6 (dk_at dksX3_lay_15 19 rfl rfl)
theorem dX3_lay_372 : decode cX3_lay 372 = .ok (.iload 5, 2) := dk_21 5 (dk_at dksX3_lay_15 20 rfl rfl)
theorem dX3_lay_374 : decode cX3_lay 374 = .ok (.imul, 1) := dk_104 (dk_at dksX3_lay_15 22 rfl rfl)
theorem dX3_lay_375 : decode cX3_lay 375 = .ok (.iload 4, 2) := dk_21 4 (dk_at dksX3_lay_16 0 rfl rfl)
theorem dX3_lay_377 : decode cX3_lay 377 = .ok (.iastore, 1) := dk_79 (dk_at dksX3_lay_16 2 rfl rfl)
theorem dX3_lay_378 : decode cX3_lay 378 = .ok (.aload_n 0, 1) := dk_42 (dk_at dksX3_lay_16 3 rfl rfl)
theorem dX3_lay_379 : decode cX3_lay 379 = .ok (.getfield 40, 3) := dk_180 0 40 (dk_at dksX3_lay_16 4 rfl rfl)
theorem dX3_lay_382 : decode cX3_lay 382 = .ok (.iconst 3, 1) := dk_6 (dk_at dksX3_lay_16 7 rfl rfl)
theorem dX3_lay_383 : decode cX3_lay 383 = .ok (.iload 5, 2) := dk_21 5 (dk_at dksX3_lay_16 8 rfl rfl)
theorem dX3_lay_385 : decode cX3_lay 385 = .ok (.imul, 1) := dk_104 (dk_at dksX3_lay_16 10 rfl rfl)
theorem dX3_lay_386 : decode cX3_lay 386 = .ok (.iconst 2, 1) := dk_5 (dk_at dksX3_lay_16 11 rfl rfl)
theorem dX3_lay_387 : decode cX3_lay 387 = .ok (.iadd, 1) := dk_96 (dk_at dksX3_lay_16 12 rfl rfl)
theorem dX3_lay_388 : decode cX3_lay 388 = .ok (.iload 7, 2) := dk_21 7 (dk_at dksX3_lay_16 13 rfl rfl)
theorem dX3_lay_390 : decode cX3_lay 390 = .ok (.iastore, 1) := dk_79 (dk_at dksX3_lay_16 15 rfl rfl)
theorem dX3_lay_391 : decode cX3_lay 391 = .ok (.iload 7, 2) := dk_21 7 (dk_at dksX3_lay_16 16 rfl rfl)
theorem dX3_lay_393 : decode cX3_lay 393 = .ok (.istore_n 3, 1) := dk_62 (dk_at dksX3_lay_16 18 rfl rfl)
theorem dX3_lay_394 : decode cX3_lay 394 = .ok (.iinc 5 1, 3) := dk_132 5 1 (dk_at dksX3_lay_16 19 rfl rfl)
theorem dX3_lay_397 : decode cX3_lay 397 = .ok (.goto (-175), 3) := dk_167 255 81 (dk_at dksX3_lay_17 0 rfl rfl)
theorem dX3_lay_400 : decode cX3_lay 400 = .ok (.return_, 1) := dk_177 (dk_at dksX3_lay_17 3 rfl rfl)
abbrev cX3_isHop : ByteArray := prog_13_method_9_code
def yX3_isHop : MethodName := ⟨RX3, "isHop", "(III)Z"⟩
def dkwX3_isHop_2 : List UInt8 := [132, 4, 1, 167, 255, 209, 3, 172]
abbrev dktX3_isHop_2 : List UInt8 := dkwX3_isHop_2 ++ []
def dkwX3_isHop_1 : List UInt8 := [21, 4, 50, 29, 4, 96, 51, 153, 0, 17, 42, 28, 21, 4, 29, 182, 0, 85, 2, 159, 0, 5, 4, 172]
abbrev dktX3_isHop_1 : List UInt8 := dkwX3_isHop_1 ++ dktX3_isHop_2
def dkwX3_isHop_0 : List UInt8 := [3, 54, 4, 21, 4, 42, 180, 0, 3, 180, 0, 43, 163, 0, 41, 42, 180, 0, 37, 27, 4, 100, 50]
abbrev dktX3_isHop_0 : List UInt8 := dkwX3_isHop_0 ++ dktX3_isHop_1
theorem dksX3_isHop_0 : cX3_isHop.data.toList.drop 0 = dktX3_isHop_0 := by decide +kernel
theorem dksX3_isHop_1 : cX3_isHop.data.toList.drop 23 = dktX3_isHop_1 := dk_seg dksX3_isHop_0 23 rfl rfl
theorem dksX3_isHop_2 : cX3_isHop.data.toList.drop 47 = dktX3_isHop_2 := dk_seg dksX3_isHop_1 24 rfl rfl
theorem dX3_isHop_0 : decode cX3_isHop 0 = .ok (.iconst 0, 1) := dk_3 (dk_at dksX3_isHop_0 0 rfl rfl)
theorem dX3_isHop_1 : decode cX3_isHop 1 = .ok (.istore 4, 2) := dk_54 4 (dk_at dksX3_isHop_0 1 rfl rfl)
theorem dX3_isHop_3 : decode cX3_isHop 3 = .ok (.iload 4, 2) := dk_21 4 (dk_at dksX3_isHop_0 3 rfl rfl)
theorem dX3_isHop_5 : decode cX3_isHop 5 = .ok (.aload_n 0, 1) := dk_42 (dk_at dksX3_isHop_0 5 rfl rfl)
theorem dX3_isHop_6 : decode cX3_isHop 6 = .ok (.getfield 3, 3) := dk_180 0 3 (dk_at dksX3_isHop_0 6 rfl rfl)
theorem dX3_isHop_9 : decode cX3_isHop 9 = .ok (.getfield 43, 3) := dk_180 0 43 (dk_at dksX3_isHop_0 9 rfl rfl)
theorem dX3_isHop_12 : decode cX3_isHop 12 = .ok (.if_icmp .gt 41, 3) := dk_163 0 41 (dk_at dksX3_isHop_0 12 rfl rfl)
theorem dX3_isHop_15 : decode cX3_isHop 15 = .ok (.aload_n 0, 1) := dk_42 (dk_at dksX3_isHop_0 15 rfl rfl)
theorem dX3_isHop_16 : decode cX3_isHop 16 = .ok (.getfield 37, 3) := dk_180 0 37 (dk_at dksX3_isHop_0 16 rfl rfl)
theorem dX3_isHop_19 : decode cX3_isHop 19 = .ok (.iload_n 1, 1) := dk_27 (dk_at dksX3_isHop_0 19 rfl rfl)
theorem dX3_isHop_20 : decode cX3_isHop 20 = .ok (.iconst 1, 1) := dk_4 (dk_at dksX3_isHop_0 20 rfl rfl)
theorem dX3_isHop_21 : decode cX3_isHop 21 = .ok (.isub, 1) := dk_100 (dk_at dksX3_isHop_0 21 rfl rfl)
theorem dX3_isHop_22 : decode cX3_isHop 22 = .ok (.aaload, 1) := dk_50 (dk_at dksX3_isHop_0 22 rfl rfl)
theorem dX3_isHop_23 : decode cX3_isHop 23 = .ok (.iload 4, 2) := dk_21 4 (dk_at dksX3_isHop_1 0 rfl rfl)
theorem dX3_isHop_25 : decode cX3_isHop 25 = .ok (.aaload, 1) := dk_50 (dk_at dksX3_isHop_1 2 rfl rfl)
theorem dX3_isHop_26 : decode cX3_isHop 26 = .ok (.iload_n 3, 1) := dk_29 (dk_at dksX3_isHop_1 3 rfl rfl)
theorem dX3_isHop_27 : decode cX3_isHop 27 = .ok (.iconst 1, 1) := dk_4 (dk_at dksX3_isHop_1 4 rfl rfl)
theorem dX3_isHop_28 : decode cX3_isHop 28 = .ok (.iadd, 1) := dk_96 (dk_at dksX3_isHop_1 5 rfl rfl)
theorem dX3_isHop_29 : decode cX3_isHop 29 = .ok (.baload, 1) := dk_51 (dk_at dksX3_isHop_1 6 rfl rfl)
theorem dX3_isHop_30 : decode cX3_isHop 30 = .ok (.ifCond .eq 17, 3) := dk_153 0 17 (dk_at dksX3_isHop_1 7 rfl rfl)
theorem dX3_isHop_33 : decode cX3_isHop 33 = .ok (.aload_n 0, 1) := dk_42 (dk_at dksX3_isHop_1 10 rfl rfl)
theorem dX3_isHop_34 : decode cX3_isHop 34 = .ok (.iload_n 2, 1) := dk_28 (dk_at dksX3_isHop_1 11 rfl rfl)
theorem dX3_isHop_35 : decode cX3_isHop 35 = .ok (.iload 4, 2) := dk_21 4 (dk_at dksX3_isHop_1 12 rfl rfl)
theorem dX3_isHop_37 : decode cX3_isHop 37 = .ok (.iload_n 3, 1) := dk_29 (dk_at dksX3_isHop_1 14 rfl rfl)
theorem dX3_isHop_38 : decode cX3_isHop 38 = .ok (.invokevirtual 85, 3) := dk_182 0 85 (dk_at dksX3_isHop_1 15 rfl rfl)
theorem dX3_isHop_41 : decode cX3_isHop 41 = .ok (.iconst (-1), 1) := dk_2 (dk_at dksX3_isHop_1 18 rfl rfl)
theorem dX3_isHop_42 : decode cX3_isHop 42 = .ok (.if_icmp .eq 5, 3) := dk_159 0 5 (dk_at dksX3_isHop_1 19 rfl rfl)
theorem dX3_isHop_45 : decode cX3_isHop 45 = .ok (.iconst 1, 1) := dk_4 (dk_at dksX3_isHop_1 22 rfl rfl)
theorem dX3_isHop_46 : decode cX3_isHop 46 = .ok (.ireturn, 1) := dk_172 (dk_at dksX3_isHop_1 23 rfl rfl)
theorem dX3_isHop_47 : decode cX3_isHop 47 = .ok (.iinc 4 1, 3) := dk_132 4 1 (dk_at dksX3_isHop_2 0 rfl rfl)
theorem dX3_isHop_50 : decode cX3_isHop 50 = .ok (.goto (-47), 3) := dk_167 255 209 (dk_at dksX3_isHop_2 3 rfl rfl)
theorem dX3_isHop_53 : decode cX3_isHop 53 = .ok (.iconst 0, 1) := dk_3 (dk_at dksX3_isHop_2 6 rfl rfl)
theorem dX3_isHop_54 : decode cX3_isHop 54 = .ok (.ireturn, 1) := dk_172 (dk_at dksX3_isHop_2 7 rfl rfl)
abbrev cX5_init : ByteArray := prog_11_method_1_code
def yX5_init : MethodName := ⟨RX5, "<init>", "(IIII)V"⟩
def dkwX5_init_1 : List UInt8 := [181, 0, 19, 177]
abbrev dktX5_init_1 : List UInt8 := dkwX5_init_1 ++ []
def dkwX5_init_0 : List UInt8 := [42, 183, 0, 1, 42, 27, 181, 0, 7, 42, 28, 181, 0, 13, 42, 29, 181, 0, 16, 42, 21, 4]
abbrev dktX5_init_0 : List UInt8 := dkwX5_init_0 ++ dktX5_init_1
theorem dksX5_init_0 : cX5_init.data.toList.drop 0 = dktX5_init_0 := by decide +kernel
theorem dksX5_init_1 : cX5_init.data.toList.drop 22 = dktX5_init_1 := dk_seg dksX5_init_0 22 rfl rfl
theorem dX5_init_0 : decode cX5_init 0 = .ok (.aload_n 0, 1) := dk_42 (dk_at dksX5_init_0 0 rfl rfl)
theorem dX5_init_1 : decode cX5_init 1 = .ok (.invokespecial 1, 3) := dk_183 0 1 (dk_at dksX5_init_0 1 rfl rfl)
theorem dX5_init_4 : decode cX5_init 4 = .ok (.aload_n 0, 1) := dk_42 (dk_at dksX5_init_0 4 rfl rfl)
theorem dX5_init_5 : decode cX5_init 5 = .ok (.iload_n 1, 1) := dk_27 (dk_at dksX5_init_0 5 rfl rfl)
theorem dX5_init_6 : decode cX5_init 6 = .ok (.putfield 7, 3) := dk_181 0 7 (dk_at dksX5_init_0 6 rfl rfl)
theorem dX5_init_9 : decode cX5_init 9 = .ok (.aload_n 0, 1) := dk_42 (dk_at dksX5_init_0 9 rfl rfl)
theorem dX5_init_10 : decode cX5_init 10 = .ok (.iload_n 2, 1) := dk_28 (dk_at dksX5_init_0 10 rfl rfl)
theorem dX5_init_11 : decode cX5_init 11 = .ok (.putfield 13, 3) := dk_181 0 13 (dk_at dksX5_init_0 11 rfl rfl)
theorem dX5_init_14 : decode cX5_init 14 = .ok (.aload_n 0, 1) := dk_42 (dk_at dksX5_init_0 14 rfl rfl)
theorem dX5_init_15 : decode cX5_init 15 = .ok (.iload_n 3, 1) := dk_29 (dk_at dksX5_init_0 15 rfl rfl)
theorem dX5_init_16 : decode cX5_init 16 = .ok (.putfield 16, 3) := dk_181 0 16 (dk_at dksX5_init_0 16 rfl rfl)
theorem dX5_init_19 : decode cX5_init 19 = .ok (.aload_n 0, 1) := dk_42 (dk_at dksX5_init_0 19 rfl rfl)
theorem dX5_init_20 : decode cX5_init 20 = .ok (.iload 4, 2) := dk_21 4 (dk_at dksX5_init_0 20 rfl rfl)
theorem dX5_init_22 : decode cX5_init 22 = .ok (.putfield 19, 3) := dk_181 0 19 (dk_at dksX5_init_1 0 rfl rfl)
theorem dX5_init_25 : decode cX5_init 25 = .ok (.return_, 1) := dk_177 (dk_at dksX5_init_1 3 rfl rfl)
abbrev cX5_holds : ByteArray := prog_11_method_2_code
def yX5_holds : MethodName := ⟨RX5, "holds", "(I)Z"⟩
def dkwX5_holds_0 : List UInt8 := [27, 42, 180, 0, 16, 161, 0, 15, 27, 42, 180, 0, 19, 163, 0, 7, 4, 167, 0, 4, 3, 172]
abbrev dktX5_holds_0 : List UInt8 := dkwX5_holds_0 ++ []
theorem dksX5_holds_0 : cX5_holds.data.toList.drop 0 = dktX5_holds_0 := by decide +kernel
theorem dX5_holds_0 : decode cX5_holds 0 = .ok (.iload_n 1, 1) := dk_27 (dk_at dksX5_holds_0 0 rfl rfl)
theorem dX5_holds_1 : decode cX5_holds 1 = .ok (.aload_n 0, 1) := dk_42 (dk_at dksX5_holds_0 1 rfl rfl)
theorem dX5_holds_2 : decode cX5_holds 2 = .ok (.getfield 16, 3) := dk_180 0 16 (dk_at dksX5_holds_0 2 rfl rfl)
theorem dX5_holds_5 : decode cX5_holds 5 = .ok (.if_icmp .lt 15, 3) := dk_161 0 15 (dk_at dksX5_holds_0 5 rfl rfl)
theorem dX5_holds_8 : decode cX5_holds 8 = .ok (.iload_n 1, 1) := dk_27 (dk_at dksX5_holds_0 8 rfl rfl)
theorem dX5_holds_9 : decode cX5_holds 9 = .ok (.aload_n 0, 1) := dk_42 (dk_at dksX5_holds_0 9 rfl rfl)
theorem dX5_holds_10 : decode cX5_holds 10 = .ok (.getfield 19, 3) := dk_180 0 19 (dk_at dksX5_holds_0 10 rfl rfl)
theorem dX5_holds_13 : decode cX5_holds 13 = .ok (.if_icmp .gt 7, 3) := dk_163 0 7 (dk_at dksX5_holds_0 13 rfl rfl)
theorem dX5_holds_16 : decode cX5_holds 16 = .ok (.iconst 1, 1) := dk_4 (dk_at dksX5_holds_0 16 rfl rfl)
theorem dX5_holds_17 : decode cX5_holds 17 = .ok (.goto 4, 3) := dk_167 0 4 (dk_at dksX5_holds_0 17 rfl rfl)
theorem dX5_holds_20 : decode cX5_holds 20 = .ok (.iconst 0, 1) := dk_3 (dk_at dksX5_holds_0 20 rfl rfl)
theorem dX5_holds_21 : decode cX5_holds 21 = .ok (.ireturn, 1) := dk_172 (dk_at dksX5_holds_0 21 rfl rfl)
abbrev cX6_init : ByteArray := prog_12_method_1_code
def yX6_init : MethodName := ⟨RX6, "<init>", "(IIIII)V"⟩
def dkwX6_init_1 : List UInt8 := [181, 0, 19, 42, 21, 5, 181, 0, 22, 177]
abbrev dktX6_init_1 : List UInt8 := dkwX6_init_1 ++ []
def dkwX6_init_0 : List UInt8 := [42, 183, 0, 1, 42, 27, 181, 0, 7, 42, 28, 181, 0, 13, 42, 29, 181, 0, 16, 42, 21, 4]
abbrev dktX6_init_0 : List UInt8 := dkwX6_init_0 ++ dktX6_init_1
theorem dksX6_init_0 : cX6_init.data.toList.drop 0 = dktX6_init_0 := by decide +kernel
theorem dksX6_init_1 : cX6_init.data.toList.drop 22 = dktX6_init_1 := dk_seg dksX6_init_0 22 rfl rfl
theorem dX6_init_0 : decode cX6_init 0 = .ok (.aload_n 0, 1) := dk_42 (dk_at dksX6_init_0 0 rfl rfl)
theorem dX6_init_1 : decode cX6_init 1 = .ok (.invokespecial 1, 3) := dk_183 0 1 (dk_at dksX6_init_0 1 rfl rfl)
theorem dX6_init_4 : decode cX6_init 4 = .ok (.aload_n 0, 1) := dk_42 (dk_at dksX6_init_0 4 rfl rfl)
theorem dX6_init_5 : decode cX6_init 5 = .ok (.iload_n 1, 1) := dk_27 (dk_at dksX6_init_0 5 rfl rfl)
theorem dX6_init_6 : decode cX6_init 6 = .ok (.putfield 7, 3) := dk_181 0 7 (dk_at dksX6_init_0 6 rfl rfl)
theorem dX6_init_9 : decode cX6_init 9 = .ok (.aload_n 0, 1) := dk_42 (dk_at dksX6_init_0 9 rfl rfl)
theorem dX6_init_10 : decode cX6_init 10 = .ok (.iload_n 2, 1) := dk_28 (dk_at dksX6_init_0 10 rfl rfl)
theorem dX6_init_11 : decode cX6_init 11 = .ok (.putfield 13, 3) := dk_181 0 13 (dk_at dksX6_init_0 11 rfl rfl)
theorem dX6_init_14 : decode cX6_init 14 = .ok (.aload_n 0, 1) := dk_42 (dk_at dksX6_init_0 14 rfl rfl)
theorem dX6_init_15 : decode cX6_init 15 = .ok (.iload_n 3, 1) := dk_29 (dk_at dksX6_init_0 15 rfl rfl)
theorem dX6_init_16 : decode cX6_init 16 = .ok (.putfield 16, 3) := dk_181 0 16 (dk_at dksX6_init_0 16 rfl rfl)
theorem dX6_init_19 : decode cX6_init 19 = .ok (.aload_n 0, 1) := dk_42 (dk_at dksX6_init_0 19 rfl rfl)
theorem dX6_init_20 : decode cX6_init 20 = .ok (.iload 4, 2) := dk_21 4 (dk_at dksX6_init_0 20 rfl rfl)
theorem dX6_init_22 : decode cX6_init 22 = .ok (.putfield 19, 3) := dk_181 0 19 (dk_at dksX6_init_1 0 rfl rfl)
theorem dX6_init_25 : decode cX6_init 25 = .ok (.aload_n 0, 1) := dk_42 (dk_at dksX6_init_1 3 rfl rfl)
theorem dX6_init_26 : decode cX6_init 26 = .ok (.iload 5, 2) := dk_21 5 (dk_at dksX6_init_1 4 rfl rfl)
theorem dX6_init_28 : decode cX6_init 28 = .ok (.putfield 22, 3) := dk_181 0 22 (dk_at dksX6_init_1 6 rfl rfl)
theorem dX6_init_31 : decode cX6_init 31 = .ok (.return_, 1) := dk_177 (dk_at dksX6_init_1 9 rfl rfl)
abbrev cX7_init : ByteArray := prog_14_method_1_code
def yX7_init : MethodName := ⟨RX7, "<init>", "(LRapTable;I)V"⟩
def dkwX7_init_1 : List UInt8 := [181, 0, 24, 42, 28, 181, 0, 28, 177]
abbrev dktX7_init_1 : List UInt8 := dkwX7_init_1 ++ []
def dkwX7_init_0 : List UInt8 := [42, 43, 181, 0, 3, 42, 183, 0, 9, 42, 187, 0, 15, 89, 4, 183, 0, 17, 181, 0, 20, 42, 2]
abbrev dktX7_init_0 : List UInt8 := dkwX7_init_0 ++ dktX7_init_1
theorem dksX7_init_0 : cX7_init.data.toList.drop 0 = dktX7_init_0 := by decide +kernel
theorem dksX7_init_1 : cX7_init.data.toList.drop 23 = dktX7_init_1 := dk_seg dksX7_init_0 23 rfl rfl
theorem dX7_init_0 : decode cX7_init 0 = .ok (.aload_n 0, 1) := dk_42 (dk_at dksX7_init_0 0 rfl rfl)
theorem dX7_init_1 : decode cX7_init 1 = .ok (.aload_n 1, 1) := dk_43 (dk_at dksX7_init_0 1 rfl rfl)
theorem dX7_init_2 : decode cX7_init 2 = .ok (.putfield 3, 3) := dk_181 0 3 (dk_at dksX7_init_0 2 rfl rfl)
theorem dX7_init_5 : decode cX7_init 5 = .ok (.aload_n 0, 1) := dk_42 (dk_at dksX7_init_0 5 rfl rfl)
theorem dX7_init_6 : decode cX7_init 6 = .ok (.invokespecial 9, 3) := dk_183 0 9 (dk_at dksX7_init_0 6 rfl rfl)
theorem dX7_init_9 : decode cX7_init 9 = .ok (.aload_n 0, 1) := dk_42 (dk_at dksX7_init_0 9 rfl rfl)
theorem dX7_init_10 : decode cX7_init 10 = .ok (.new 15, 3) := dk_187 0 15 (dk_at dksX7_init_0 10 rfl rfl)
theorem dX7_init_13 : decode cX7_init 13 = .ok (.dup, 1) := dk_89 (dk_at dksX7_init_0 13 rfl rfl)
theorem dX7_init_14 : decode cX7_init 14 = .ok (.iconst 1, 1) := dk_4 (dk_at dksX7_init_0 14 rfl rfl)
theorem dX7_init_15 : decode cX7_init 15 = .ok (.invokespecial 17, 3) := dk_183 0 17 (dk_at dksX7_init_0 15 rfl rfl)
theorem dX7_init_18 : decode cX7_init 18 = .ok (.putfield 20, 3) := dk_181 0 20 (dk_at dksX7_init_0 18 rfl rfl)
theorem dX7_init_21 : decode cX7_init 21 = .ok (.aload_n 0, 1) := dk_42 (dk_at dksX7_init_0 21 rfl rfl)
theorem dX7_init_22 : decode cX7_init 22 = .ok (.iconst (-1), 1) := dk_2 (dk_at dksX7_init_0 22 rfl rfl)
theorem dX7_init_23 : decode cX7_init 23 = .ok (.putfield 24, 3) := dk_181 0 24 (dk_at dksX7_init_1 0 rfl rfl)
theorem dX7_init_26 : decode cX7_init 26 = .ok (.aload_n 0, 1) := dk_42 (dk_at dksX7_init_1 3 rfl rfl)
theorem dX7_init_27 : decode cX7_init 27 = .ok (.iload_n 2, 1) := dk_28 (dk_at dksX7_init_1 4 rfl rfl)
theorem dX7_init_28 : decode cX7_init 28 = .ok (.putfield 28, 3) := dk_181 0 28 (dk_at dksX7_init_1 5 rfl rfl)
theorem dX7_init_31 : decode cX7_init 31 = .ok (.return_, 1) := dk_177 (dk_at dksX7_init_1 8 rfl rfl)
abbrev cX7_all : ByteArray := prog_14_method_13_code
def yX7_all : MethodName := ⟨RX7, "all", "()V"⟩
def dkwX7_all_3 : List UInt8 := [5, 182, 0, 115, 42, 180, 0, 70, 154, 255, 181, 42, 182, 0, 118, 167, 255, 174, 177]
abbrev dktX7_all_3 : List UInt8 := dkwX7_all_3 ++ []
def dkwX7_all_2 : List UInt8 := [167, 0, 8, 42, 5, 182, 0, 115, 42, 180, 0, 70, 154, 0, 16, 42, 180, 0, 57, 6, 159, 0, 8, 42]
abbrev dktX7_all_2 : List UInt8 := dkwX7_all_2 ++ dktX7_all_3
def dkwX7_all_1 : List UInt8 := [153, 0, 10, 42, 182, 0, 121, 167, 0, 24, 42, 18, 89, 182, 0, 85, 153, 0, 10, 42, 182, 0, 123]
abbrev dktX7_all_1 : List UInt8 := dkwX7_all_1 ++ dktX7_all_2
def dkwX7_all_0 : List UInt8 := [42, 182, 0, 118, 42, 180, 0, 70, 154, 0, 81, 42, 180, 0, 57, 153, 0, 74, 42, 18, 83, 182, 0, 85]
abbrev dktX7_all_0 : List UInt8 := dkwX7_all_0 ++ dktX7_all_1
theorem dksX7_all_0 : cX7_all.data.toList.drop 0 = dktX7_all_0 := by decide +kernel
theorem dksX7_all_1 : cX7_all.data.toList.drop 24 = dktX7_all_1 := dk_seg dksX7_all_0 24 rfl rfl
theorem dksX7_all_2 : cX7_all.data.toList.drop 47 = dktX7_all_2 := dk_seg dksX7_all_1 23 rfl rfl
theorem dksX7_all_3 : cX7_all.data.toList.drop 71 = dktX7_all_3 := dk_seg dksX7_all_2 24 rfl rfl
theorem dX7_all_0 : decode cX7_all 0 = .ok (.aload_n 0, 1) := dk_42 (dk_at dksX7_all_0 0 rfl rfl)
theorem dX7_all_1 : decode cX7_all 1 = .ok (.invokevirtual 118, 3) := dk_182 0 118 (dk_at dksX7_all_0 1 rfl rfl)
theorem dX7_all_4 : decode cX7_all 4 = .ok (.aload_n 0, 1) := dk_42 (dk_at dksX7_all_0 4 rfl rfl)
theorem dX7_all_5 : decode cX7_all 5 = .ok (.getfield 70, 3) := dk_180 0 70 (dk_at dksX7_all_0 5 rfl rfl)
theorem dX7_all_8 : decode cX7_all 8 = .ok (.ifCond .ne 81, 3) := dk_154 0 81 (dk_at dksX7_all_0 8 rfl rfl)
theorem dX7_all_11 : decode cX7_all 11 = .ok (.aload_n 0, 1) := dk_42 (dk_at dksX7_all_0 11 rfl rfl)
theorem dX7_all_12 : decode cX7_all 12 = .ok (.getfield 57, 3) := dk_180 0 57 (dk_at dksX7_all_0 12 rfl rfl)
theorem dX7_all_15 : decode cX7_all 15 = .ok (.ifCond .eq 74, 3) := dk_153 0 74 (dk_at dksX7_all_0 15 rfl rfl)
theorem dX7_all_18 : decode cX7_all 18 = .ok (.aload_n 0, 1) := dk_42 (dk_at dksX7_all_0 18 rfl rfl)
theorem dX7_all_19 : decode cX7_all 19 = .ok (.ldc 83, 2) := dk_18 83 (dk_at dksX7_all_0 19 rfl rfl)
theorem dX7_all_21 : decode cX7_all 21 = .ok (.invokevirtual 85, 3) := dk_182 0 85 (dk_at dksX7_all_0 21 rfl rfl)
theorem dX7_all_24 : decode cX7_all 24 = .ok (.ifCond .eq 10, 3) := dk_153 0 10 (dk_at dksX7_all_1 0 rfl rfl)
theorem dX7_all_27 : decode cX7_all 27 = .ok (.aload_n 0, 1) := dk_42 (dk_at dksX7_all_1 3 rfl rfl)
theorem dX7_all_28 : decode cX7_all 28 = .ok (.invokevirtual 121, 3) := dk_182 0 121 (dk_at dksX7_all_1 4 rfl rfl)
theorem dX7_all_31 : decode cX7_all 31 = .ok (.goto 24, 3) := dk_167 0 24 (dk_at dksX7_all_1 7 rfl rfl)
theorem dX7_all_34 : decode cX7_all 34 = .ok (.aload_n 0, 1) := dk_42 (dk_at dksX7_all_1 10 rfl rfl)
theorem dX7_all_35 : decode cX7_all 35 = .ok (.ldc 89, 2) := dk_18 89 (dk_at dksX7_all_1 11 rfl rfl)
theorem dX7_all_37 : decode cX7_all 37 = .ok (.invokevirtual 85, 3) := dk_182 0 85 (dk_at dksX7_all_1 13 rfl rfl)
theorem dX7_all_40 : decode cX7_all 40 = .ok (.ifCond .eq 10, 3) := dk_153 0 10 (dk_at dksX7_all_1 16 rfl rfl)
theorem dX7_all_43 : decode cX7_all 43 = .ok (.aload_n 0, 1) := dk_42 (dk_at dksX7_all_1 19 rfl rfl)
theorem dX7_all_44 : decode cX7_all 44 = .ok (.invokevirtual 123, 3) := dk_182 0 123 (dk_at dksX7_all_1 20 rfl rfl)
theorem dX7_all_47 : decode cX7_all 47 = .ok (.goto 8, 3) := dk_167 0 8 (dk_at dksX7_all_2 0 rfl rfl)
theorem dX7_all_50 : decode cX7_all 50 = .ok (.aload_n 0, 1) := dk_42 (dk_at dksX7_all_2 3 rfl rfl)
theorem dX7_all_51 : decode cX7_all 51 = .ok (.iconst 2, 1) := dk_5 (dk_at dksX7_all_2 4 rfl rfl)
theorem dX7_all_52 : decode cX7_all 52 = .ok (.invokevirtual 115, 3) := dk_182 0 115 (dk_at dksX7_all_2 5 rfl rfl)
theorem dX7_all_55 : decode cX7_all 55 = .ok (.aload_n 0, 1) := dk_42 (dk_at dksX7_all_2 8 rfl rfl)
theorem dX7_all_56 : decode cX7_all 56 = .ok (.getfield 70, 3) := dk_180 0 70 (dk_at dksX7_all_2 9 rfl rfl)
theorem dX7_all_59 : decode cX7_all 59 = .ok (.ifCond .ne 16, 3) := dk_154 0 16 (dk_at dksX7_all_2 12 rfl rfl)
theorem dX7_all_62 : decode cX7_all 62 = .ok (.aload_n 0, 1) := dk_42 (dk_at dksX7_all_2 15 rfl rfl)
theorem dX7_all_63 : decode cX7_all 63 = .ok (.getfield 57, 3) := dk_180 0 57 (dk_at dksX7_all_2 16 rfl rfl)
theorem dX7_all_66 : decode cX7_all 66 = .ok (.iconst 3, 1) := dk_6 (dk_at dksX7_all_2 19 rfl rfl)
theorem dX7_all_67 : decode cX7_all 67 = .ok (.if_icmp .eq 8, 3) := dk_159 0 8 (dk_at dksX7_all_2 20 rfl rfl)
theorem dX7_all_70 : decode cX7_all 70 = .ok (.aload_n 0, 1) := dk_42 (dk_at dksX7_all_2 23 rfl rfl)
theorem dX7_all_71 : decode cX7_all 71 = .ok (.iconst 2, 1) := dk_5 (dk_at dksX7_all_3 0 rfl rfl)
theorem dX7_all_72 : decode cX7_all 72 = .ok (.invokevirtual 115, 3) := dk_182 0 115 (dk_at dksX7_all_3 1 rfl rfl)
theorem dX7_all_75 : decode cX7_all 75 = .ok (.aload_n 0, 1) := dk_42 (dk_at dksX7_all_3 4 rfl rfl)
theorem dX7_all_76 : decode cX7_all 76 = .ok (.getfield 70, 3) := dk_180 0 70 (dk_at dksX7_all_3 5 rfl rfl)
theorem dX7_all_79 : decode cX7_all 79 = .ok (.ifCond .ne (-75), 3) := dk_154 255 181 (dk_at dksX7_all_3 8 rfl rfl)
theorem dX7_all_82 : decode cX7_all 82 = .ok (.aload_n 0, 1) := dk_42 (dk_at dksX7_all_3 11 rfl rfl)
theorem dX7_all_83 : decode cX7_all 83 = .ok (.invokevirtual 118, 3) := dk_182 0 118 (dk_at dksX7_all_3 12 rfl rfl)
theorem dX7_all_86 : decode cX7_all 86 = .ok (.goto (-82), 3) := dk_167 255 174 (dk_at dksX7_all_3 15 rfl rfl)
theorem dX7_all_89 : decode cX7_all 89 = .ok (.return_, 1) := dk_177 (dk_at dksX7_all_3 18 rfl rfl)
abbrev cX7_next : ByteArray := prog_14_method_5_code
def yX7_next : MethodName := ⟨RX7, "next", "()V"⟩
def dkwX7_next_11 : List UInt8 := [181, 0, 57, 42, 89, 180, 0, 51, 4, 96, 181, 0, 51, 177]
abbrev dktX7_next_11 : List UInt8 := dkwX7_next_11 ++ []
def dkwX7_next_10 : List UInt8 := [181, 0, 57, 177, 42, 42, 42, 180, 0, 51, 182, 0, 35, 16, 59, 160, 0, 7, 6, 167, 0, 4, 7]
abbrev dktX7_next_10 : List UInt8 := dkwX7_next_10 ++ dktX7_next_11
def dkwX7_next_9 : List UInt8 := [167, 255, 199, 42, 42, 180, 0, 51, 42, 180, 0, 54, 100, 6, 164, 0, 7, 7, 167, 0, 4, 5]
abbrev dktX7_next_9 : List UInt8 := dkwX7_next_9 ++ dktX7_next_10
def dkwX7_next_8 : List UInt8 := [180, 0, 51, 182, 0, 35, 96, 16, 48, 100, 181, 0, 67, 42, 89, 180, 0, 51, 4, 96, 181, 0, 51]
abbrev dktX7_next_8 : List UInt8 := dkwX7_next_8 ++ dktX7_next_9
def dkwX7_next_7 : List UInt8 := [180, 0, 51, 42, 180, 0, 54, 100, 6, 162, 0, 26, 42, 16, 10, 42, 180, 0, 67, 104, 42, 42]
abbrev dktX7_next_7 : List UInt8 := dkwX7_next_7 ++ dktX7_next_8
def dkwX7_next_6 : List UInt8 := [182, 0, 64, 153, 0, 91, 42, 3, 181, 0, 67, 42, 42, 180, 0, 51, 182, 0, 64, 153, 0, 52, 42]
abbrev dktX7_next_6 : List UInt8 := dkwX7_next_6 ++ dktX7_next_7
def dkwX7_next_5 : List UInt8 := [180, 0, 54, 100, 16, 8, 164, 0, 7, 7, 167, 0, 4, 4, 181, 0, 57, 177, 42, 42, 180, 0, 51]
abbrev dktX7_next_5 : List UInt8 := dkwX7_next_5 ++ dktX7_next_6
def dkwX7_next_4 : List UInt8 := [153, 0, 16, 42, 89, 180, 0, 51, 4, 96, 181, 0, 51, 167, 255, 235, 42, 42, 180, 0, 51, 42]
abbrev dktX7_next_4 : List UInt8 := dkwX7_next_4 ++ dktX7_next_5
def dkwX7_next_3 : List UInt8 := [181, 0, 57, 177, 42, 42, 180, 0, 51, 182, 0, 60, 153, 0, 51, 42, 42, 180, 0, 51, 182, 0, 60]
abbrev dktX7_next_3 : List UInt8 := dkwX7_next_3 ++ dktX7_next_4
def dkwX7_next_2 : List UInt8 := [167, 255, 209, 42, 42, 180, 0, 51, 181, 0, 54, 42, 180, 0, 51, 42, 180, 0, 28, 161, 0, 9, 42, 3]
abbrev dktX7_next_2 : List UInt8 := dkwX7_next_2 ++ dktX7_next_3
def dkwX7_next_1 : List UInt8 := [42, 42, 180, 0, 51, 182, 0, 35, 16, 10, 160, 0, 16, 42, 89, 180, 0, 51, 4, 96, 181, 0, 51]
abbrev dktX7_next_1 : List UInt8 := dkwX7_next_1 ++ dktX7_next_2
def dkwX7_next_0 : List UInt8 := [42, 180, 0, 51, 42, 180, 0, 28, 162, 0, 42, 42, 42, 180, 0, 51, 182, 0, 35, 16, 32, 159, 0, 16]
abbrev dktX7_next_0 : List UInt8 := dkwX7_next_0 ++ dktX7_next_1
theorem dksX7_next_0 : cX7_next.data.toList.drop 0 = dktX7_next_0 := by decide +kernel
theorem dksX7_next_1 : cX7_next.data.toList.drop 24 = dktX7_next_1 := dk_seg dksX7_next_0 24 rfl rfl
theorem dksX7_next_2 : cX7_next.data.toList.drop 47 = dktX7_next_2 := dk_seg dksX7_next_1 23 rfl rfl
theorem dksX7_next_3 : cX7_next.data.toList.drop 71 = dktX7_next_3 := dk_seg dksX7_next_2 24 rfl rfl
theorem dksX7_next_4 : cX7_next.data.toList.drop 94 = dktX7_next_4 := dk_seg dksX7_next_3 23 rfl rfl
theorem dksX7_next_5 : cX7_next.data.toList.drop 116 = dktX7_next_5 := dk_seg dksX7_next_4 22 rfl rfl
theorem dksX7_next_6 : cX7_next.data.toList.drop 139 = dktX7_next_6 := dk_seg dksX7_next_5 23 rfl rfl
theorem dksX7_next_7 : cX7_next.data.toList.drop 162 = dktX7_next_7 := dk_seg dksX7_next_6 23 rfl rfl
theorem dksX7_next_8 : cX7_next.data.toList.drop 184 = dktX7_next_8 := dk_seg dksX7_next_7 22 rfl rfl
theorem dksX7_next_9 : cX7_next.data.toList.drop 207 = dktX7_next_9 := dk_seg dksX7_next_8 23 rfl rfl
theorem dksX7_next_10 : cX7_next.data.toList.drop 229 = dktX7_next_10 := dk_seg dksX7_next_9 22 rfl rfl
theorem dksX7_next_11 : cX7_next.data.toList.drop 252 = dktX7_next_11 := dk_seg dksX7_next_10 23 rfl rfl
theorem dX7_next_0 : decode cX7_next 0 = .ok (.aload_n 0, 1) := dk_42 (dk_at dksX7_next_0 0 rfl rfl)
theorem dX7_next_1 : decode cX7_next 1 = .ok (.getfield 51, 3) := dk_180 0 51 (dk_at dksX7_next_0 1 rfl rfl)
theorem dX7_next_4 : decode cX7_next 4 = .ok (.aload_n 0, 1) := dk_42 (dk_at dksX7_next_0 4 rfl rfl)
theorem dX7_next_5 : decode cX7_next 5 = .ok (.getfield 28, 3) := dk_180 0 28 (dk_at dksX7_next_0 5 rfl rfl)
theorem dX7_next_8 : decode cX7_next 8 = .ok (.if_icmp .ge 42, 3) := dk_162 0 42 (dk_at dksX7_next_0 8 rfl rfl)
theorem dX7_next_11 : decode cX7_next 11 = .ok (.aload_n 0, 1) := dk_42 (dk_at dksX7_next_0 11 rfl rfl)
theorem dX7_next_12 : decode cX7_next 12 = .ok (.aload_n 0, 1) := dk_42 (dk_at dksX7_next_0 12 rfl rfl)
theorem dX7_next_13 : decode cX7_next 13 = .ok (.getfield 51, 3) := dk_180 0 51 (dk_at dksX7_next_0 13 rfl rfl)
theorem dX7_next_16 : decode cX7_next 16 = .ok (.invokevirtual 35, 3) := dk_182 0 35 (dk_at dksX7_next_0 16 rfl rfl)
theorem dX7_next_19 : decode cX7_next 19 = .ok (.bipush 32, 2) := dk_16 32 (dk_at dksX7_next_0 19 rfl rfl)
theorem dX7_next_21 : decode cX7_next 21 = .ok (.if_icmp .eq 16, 3) := dk_159 0 16 (dk_at dksX7_next_0 21 rfl rfl)
theorem dX7_next_24 : decode cX7_next 24 = .ok (.aload_n 0, 1) := dk_42 (dk_at dksX7_next_1 0 rfl rfl)
theorem dX7_next_25 : decode cX7_next 25 = .ok (.aload_n 0, 1) := dk_42 (dk_at dksX7_next_1 1 rfl rfl)
theorem dX7_next_26 : decode cX7_next 26 = .ok (.getfield 51, 3) := dk_180 0 51 (dk_at dksX7_next_1 2 rfl rfl)
theorem dX7_next_29 : decode cX7_next 29 = .ok (.invokevirtual 35, 3) := dk_182 0 35 (dk_at dksX7_next_1 5 rfl rfl)
theorem dX7_next_32 : decode cX7_next 32 = .ok (.bipush 10, 2) := dk_16 10 (dk_at dksX7_next_1 8 rfl rfl)
theorem dX7_next_34 : decode cX7_next 34 = .ok (.if_icmp .ne 16, 3) := dk_160 0 16 (dk_at dksX7_next_1 10 rfl rfl)
theorem dX7_next_37 : decode cX7_next 37 = .ok (.aload_n 0, 1) := dk_42 (dk_at dksX7_next_1 13 rfl rfl)
theorem dX7_next_38 : decode cX7_next 38 = .ok (.dup, 1) := dk_89 (dk_at dksX7_next_1 14 rfl rfl)
theorem dX7_next_39 : decode cX7_next 39 = .ok (.getfield 51, 3) := dk_180 0 51 (dk_at dksX7_next_1 15 rfl rfl)
theorem dX7_next_42 : decode cX7_next 42 = .ok (.iconst 1, 1) := dk_4 (dk_at dksX7_next_1 18 rfl rfl)
theorem dX7_next_43 : decode cX7_next 43 = .ok (.iadd, 1) := dk_96 (dk_at dksX7_next_1 19 rfl rfl)
theorem dX7_next_44 : decode cX7_next 44 = .ok (.putfield 51, 3) := dk_181 0 51 (dk_at dksX7_next_1 20 rfl rfl)
theorem dX7_next_47 : decode cX7_next 47 = .ok (.goto (-47), 3) := dk_167 255 209 (dk_at dksX7_next_2 0 rfl rfl)
theorem dX7_next_50 : decode cX7_next 50 = .ok (.aload_n 0, 1) := dk_42 (dk_at dksX7_next_2 3 rfl rfl)
theorem dX7_next_51 : decode cX7_next 51 = .ok (.aload_n 0, 1) := dk_42 (dk_at dksX7_next_2 4 rfl rfl)
theorem dX7_next_52 : decode cX7_next 52 = .ok (.getfield 51, 3) := dk_180 0 51 (dk_at dksX7_next_2 5 rfl rfl)
theorem dX7_next_55 : decode cX7_next 55 = .ok (.putfield 54, 3) := dk_181 0 54 (dk_at dksX7_next_2 8 rfl rfl)
theorem dX7_next_58 : decode cX7_next 58 = .ok (.aload_n 0, 1) := dk_42 (dk_at dksX7_next_2 11 rfl rfl)
theorem dX7_next_59 : decode cX7_next 59 = .ok (.getfield 51, 3) := dk_180 0 51 (dk_at dksX7_next_2 12 rfl rfl)
theorem dX7_next_62 : decode cX7_next 62 = .ok (.aload_n 0, 1) := dk_42 (dk_at dksX7_next_2 15 rfl rfl)
theorem dX7_next_63 : decode cX7_next 63 = .ok (.getfield 28, 3) := dk_180 0 28 (dk_at dksX7_next_2 16 rfl rfl)
theorem dX7_next_66 : decode cX7_next 66 = .ok (.if_icmp .lt 9, 3) := dk_161 0 9 (dk_at dksX7_next_2 19 rfl rfl)
theorem dX7_next_69 : decode cX7_next 69 = .ok (.aload_n 0, 1) := dk_42 (dk_at dksX7_next_2 22 rfl rfl)
theorem dX7_next_70 : decode cX7_next 70 = .ok (.iconst 0, 1) := dk_3 (dk_at dksX7_next_2 23 rfl rfl)
theorem dX7_next_71 : decode cX7_next 71 = .ok (.putfield 57, 3) := dk_181 0 57 (dk_at dksX7_next_3 0 rfl rfl)
theorem dX7_next_74 : decode cX7_next 74 = .ok (.return_, 1) := dk_177 (dk_at dksX7_next_3 3 rfl rfl)
theorem dX7_next_75 : decode cX7_next 75 = .ok (.aload_n 0, 1) := dk_42 (dk_at dksX7_next_3 4 rfl rfl)
theorem dX7_next_76 : decode cX7_next 76 = .ok (.aload_n 0, 1) := dk_42 (dk_at dksX7_next_3 5 rfl rfl)
theorem dX7_next_77 : decode cX7_next 77 = .ok (.getfield 51, 3) := dk_180 0 51 (dk_at dksX7_next_3 6 rfl rfl)
theorem dX7_next_80 : decode cX7_next 80 = .ok (.invokevirtual 60, 3) := dk_182 0 60 (dk_at dksX7_next_3 9 rfl rfl)
theorem dX7_next_83 : decode cX7_next 83 = .ok (.ifCond .eq 51, 3) := dk_153 0 51 (dk_at dksX7_next_3 12 rfl rfl)
theorem dX7_next_86 : decode cX7_next 86 = .ok (.aload_n 0, 1) := dk_42 (dk_at dksX7_next_3 15 rfl rfl)
theorem dX7_next_87 : decode cX7_next 87 = .ok (.aload_n 0, 1) := dk_42 (dk_at dksX7_next_3 16 rfl rfl)
theorem dX7_next_88 : decode cX7_next 88 = .ok (.getfield 51, 3) := dk_180 0 51 (dk_at dksX7_next_3 17 rfl rfl)
theorem dX7_next_91 : decode cX7_next 91 = .ok (.invokevirtual 60, 3) := dk_182 0 60 (dk_at dksX7_next_3 20 rfl rfl)
theorem dX7_next_94 : decode cX7_next 94 = .ok (.ifCond .eq 16, 3) := dk_153 0 16 (dk_at dksX7_next_4 0 rfl rfl)
theorem dX7_next_97 : decode cX7_next 97 = .ok (.aload_n 0, 1) := dk_42 (dk_at dksX7_next_4 3 rfl rfl)
theorem dX7_next_98 : decode cX7_next 98 = .ok (.dup, 1) := dk_89 (dk_at dksX7_next_4 4 rfl rfl)
theorem dX7_next_99 : decode cX7_next 99 = .ok (.getfield 51, 3) := dk_180 0 51 (dk_at dksX7_next_4 5 rfl rfl)
theorem dX7_next_102 : decode cX7_next 102 = .ok (.iconst 1, 1) := dk_4 (dk_at dksX7_next_4 8 rfl rfl)
theorem dX7_next_103 : decode cX7_next 103 = .ok (.iadd, 1) := dk_96 (dk_at dksX7_next_4 9 rfl rfl)
theorem dX7_next_104 : decode cX7_next 104 = .ok (.putfield 51, 3) := dk_181 0 51 (dk_at dksX7_next_4 10 rfl rfl)
theorem dX7_next_107 : decode cX7_next 107 = .ok (.goto (-21), 3) := dk_167 255 235 (dk_at dksX7_next_4 13 rfl rfl)
theorem dX7_next_110 : decode cX7_next 110 = .ok (.aload_n 0, 1) := dk_42 (dk_at dksX7_next_4 16 rfl rfl)
theorem dX7_next_111 : decode cX7_next 111 = .ok (.aload_n 0, 1) := dk_42 (dk_at dksX7_next_4 17 rfl rfl)
theorem dX7_next_112 : decode cX7_next 112 = .ok (.getfield 51, 3) := dk_180 0 51 (dk_at dksX7_next_4 18 rfl rfl)
theorem dX7_next_115 : decode cX7_next 115 = .ok (.aload_n 0, 1) := dk_42 (dk_at dksX7_next_4 21 rfl rfl)
theorem dX7_next_116 : decode cX7_next 116 = .ok (.getfield 54, 3) := dk_180 0 54 (dk_at dksX7_next_5 0 rfl rfl)
theorem dX7_next_119 : decode cX7_next 119 = .ok (.isub, 1) := dk_100 (dk_at dksX7_next_5 3 rfl rfl)
theorem dX7_next_120 : decode cX7_next 120 = .ok (.bipush 8, 2) := dk_16 8 (dk_at dksX7_next_5 4 rfl rfl)
theorem dX7_next_122 : decode cX7_next 122 = .ok (.if_icmp .le 7, 3) := dk_164 0 7 (dk_at dksX7_next_5 6 rfl rfl)
theorem dX7_next_125 : decode cX7_next 125 = .ok (.iconst 4, 1) := dk_7 (dk_at dksX7_next_5 9 rfl rfl)
theorem dX7_next_126 : decode cX7_next 126 = .ok (.goto 4, 3) := dk_167 0 4 (dk_at dksX7_next_5 10 rfl rfl)
theorem dX7_next_129 : decode cX7_next 129 = .ok (.iconst 1, 1) := dk_4 (dk_at dksX7_next_5 13 rfl rfl)
theorem dX7_next_130 : decode cX7_next 130 = .ok (.putfield 57, 3) := dk_181 0 57 (dk_at dksX7_next_5 14 rfl rfl)
theorem dX7_next_133 : decode cX7_next 133 = .ok (.return_, 1) := dk_177 (dk_at dksX7_next_5 17 rfl rfl)
theorem dX7_next_134 : decode cX7_next 134 = .ok (.aload_n 0, 1) := dk_42 (dk_at dksX7_next_5 18 rfl rfl)
theorem dX7_next_135 : decode cX7_next 135 = .ok (.aload_n 0, 1) := dk_42 (dk_at dksX7_next_5 19 rfl rfl)
theorem dX7_next_136 : decode cX7_next 136 = .ok (.getfield 51, 3) := dk_180 0 51 (dk_at dksX7_next_5 20 rfl rfl)
theorem dX7_next_139 : decode cX7_next 139 = .ok (.invokevirtual 64, 3) := dk_182 0 64 (dk_at dksX7_next_6 0 rfl rfl)
theorem dX7_next_142 : decode cX7_next 142 = .ok (.ifCond .eq 91, 3) := dk_153 0 91 (dk_at dksX7_next_6 3 rfl rfl)
theorem dX7_next_145 : decode cX7_next 145 = .ok (.aload_n 0, 1) := dk_42 (dk_at dksX7_next_6 6 rfl rfl)
theorem dX7_next_146 : decode cX7_next 146 = .ok (.iconst 0, 1) := dk_3 (dk_at dksX7_next_6 7 rfl rfl)
theorem dX7_next_147 : decode cX7_next 147 = .ok (.putfield 67, 3) := dk_181 0 67 (dk_at dksX7_next_6 8 rfl rfl)
theorem dX7_next_150 : decode cX7_next 150 = .ok (.aload_n 0, 1) := dk_42 (dk_at dksX7_next_6 11 rfl rfl)
theorem dX7_next_151 : decode cX7_next 151 = .ok (.aload_n 0, 1) := dk_42 (dk_at dksX7_next_6 12 rfl rfl)
theorem dX7_next_152 : decode cX7_next 152 = .ok (.getfield 51, 3) := dk_180 0 51 (dk_at dksX7_next_6 13 rfl rfl)
theorem dX7_next_155 : decode cX7_next 155 = .ok (.invokevirtual 64, 3) := dk_182 0 64 (dk_at dksX7_next_6 16 rfl rfl)
theorem dX7_next_158 : decode cX7_next 158 = .ok (.ifCond .eq 52, 3) := dk_153 0 52 (dk_at dksX7_next_6 19 rfl rfl)
theorem dX7_next_161 : decode cX7_next 161 = .ok (.aload_n 0, 1) := dk_42 (dk_at dksX7_next_6 22 rfl rfl)
theorem dX7_next_162 : decode cX7_next 162 = .ok (.getfield 51, 3) := dk_180 0 51 (dk_at dksX7_next_7 0 rfl rfl)
theorem dX7_next_165 : decode cX7_next 165 = .ok (.aload_n 0, 1) := dk_42 (dk_at dksX7_next_7 3 rfl rfl)
theorem dX7_next_166 : decode cX7_next 166 = .ok (.getfield 54, 3) := dk_180 0 54 (dk_at dksX7_next_7 4 rfl rfl)
theorem dX7_next_169 : decode cX7_next 169 = .ok (.isub, 1) := dk_100 (dk_at dksX7_next_7 7 rfl rfl)
theorem dX7_next_170 : decode cX7_next 170 = .ok (.iconst 3, 1) := dk_6 (dk_at dksX7_next_7 8 rfl rfl)
theorem dX7_next_171 : decode cX7_next 171 = .ok (.if_icmp .ge 26, 3) := dk_162 0 26 (dk_at dksX7_next_7 9 rfl rfl)
theorem dX7_next_174 : decode cX7_next 174 = .ok (.aload_n 0, 1) := dk_42 (dk_at dksX7_next_7 12 rfl rfl)
theorem dX7_next_175 : decode cX7_next 175 = .ok (.bipush 10, 2) := dk_16 10 (dk_at dksX7_next_7 13 rfl rfl)
theorem dX7_next_177 : decode cX7_next 177 = .ok (.aload_n 0, 1) := dk_42 (dk_at dksX7_next_7 15 rfl rfl)
theorem dX7_next_178 : decode cX7_next 178 = .ok (.getfield 67, 3) := dk_180 0 67 (dk_at dksX7_next_7 16 rfl rfl)
theorem dX7_next_181 : decode cX7_next 181 = .ok (.imul, 1) := dk_104 (dk_at dksX7_next_7 19 rfl rfl)
theorem dX7_next_182 : decode cX7_next 182 = .ok (.aload_n 0, 1) := dk_42 (dk_at dksX7_next_7 20 rfl rfl)
theorem dX7_next_183 : decode cX7_next 183 = .ok (.aload_n 0, 1) := dk_42 (dk_at dksX7_next_7 21 rfl rfl)
theorem dX7_next_184 : decode cX7_next 184 = .ok (.getfield 51, 3) := dk_180 0 51 (dk_at dksX7_next_8 0 rfl rfl)
theorem dX7_next_187 : decode cX7_next 187 = .ok (.invokevirtual 35, 3) := dk_182 0 35 (dk_at dksX7_next_8 3 rfl rfl)
theorem dX7_next_190 : decode cX7_next 190 = .ok (.iadd, 1) := dk_96 (dk_at dksX7_next_8 6 rfl rfl)
theorem dX7_next_191 : decode cX7_next 191 = .ok (.bipush 48, 2) := dk_16 48 (dk_at dksX7_next_8 7 rfl rfl)
theorem dX7_next_193 : decode cX7_next 193 = .ok (.isub, 1) := dk_100 (dk_at dksX7_next_8 9 rfl rfl)
theorem dX7_next_194 : decode cX7_next 194 = .ok (.putfield 67, 3) := dk_181 0 67 (dk_at dksX7_next_8 10 rfl rfl)
theorem dX7_next_197 : decode cX7_next 197 = .ok (.aload_n 0, 1) := dk_42 (dk_at dksX7_next_8 13 rfl rfl)
theorem dX7_next_198 : decode cX7_next 198 = .ok (.dup, 1) := dk_89 (dk_at dksX7_next_8 14 rfl rfl)
theorem dX7_next_199 : decode cX7_next 199 = .ok (.getfield 51, 3) := dk_180 0 51 (dk_at dksX7_next_8 15 rfl rfl)
theorem dX7_next_202 : decode cX7_next 202 = .ok (.iconst 1, 1) := dk_4 (dk_at dksX7_next_8 18 rfl rfl)
theorem dX7_next_203 : decode cX7_next 203 = .ok (.iadd, 1) := dk_96 (dk_at dksX7_next_8 19 rfl rfl)
theorem dX7_next_204 : decode cX7_next 204 = .ok (.putfield 51, 3) := dk_181 0 51 (dk_at dksX7_next_8 20 rfl rfl)
theorem dX7_next_207 : decode cX7_next 207 = .ok (.goto (-57), 3) := dk_167 255 199 (dk_at dksX7_next_9 0 rfl rfl)
theorem dX7_next_210 : decode cX7_next 210 = .ok (.aload_n 0, 1) := dk_42 (dk_at dksX7_next_9 3 rfl rfl)
theorem dX7_next_211 : decode cX7_next 211 = .ok (.aload_n 0, 1) := dk_42 (dk_at dksX7_next_9 4 rfl rfl)
theorem dX7_next_212 : decode cX7_next 212 = .ok (.getfield 51, 3) := dk_180 0 51 (dk_at dksX7_next_9 5 rfl rfl)
theorem dX7_next_215 : decode cX7_next 215 = .ok (.aload_n 0, 1) := dk_42 (dk_at dksX7_next_9 8 rfl rfl)
theorem dX7_next_216 : decode cX7_next 216 = .ok (.getfield 54, 3) := dk_180 0 54 (dk_at dksX7_next_9 9 rfl rfl)
theorem dX7_next_219 : decode cX7_next 219 = .ok (.isub, 1) := dk_100 (dk_at dksX7_next_9 12 rfl rfl)
theorem dX7_next_220 : decode cX7_next 220 = .ok (.iconst 3, 1) := dk_6 (dk_at dksX7_next_9 13 rfl rfl)
theorem dX7_next_221 : decode cX7_next 221 = .ok (.if_icmp .le 7, 3) := dk_164 0 7 (dk_at dksX7_next_9 14 rfl rfl)
theorem dX7_next_224 : decode cX7_next 224 = .ok (.iconst 4, 1) := dk_7 (dk_at dksX7_next_9 17 rfl rfl)
theorem dX7_next_225 : decode cX7_next 225 = .ok (.goto 4, 3) := dk_167 0 4 (dk_at dksX7_next_9 18 rfl rfl)
theorem dX7_next_228 : decode cX7_next 228 = .ok (.iconst 2, 1) := dk_5 (dk_at dksX7_next_9 21 rfl rfl)
theorem dX7_next_229 : decode cX7_next 229 = .ok (.putfield 57, 3) := dk_181 0 57 (dk_at dksX7_next_10 0 rfl rfl)
theorem dX7_next_232 : decode cX7_next 232 = .ok (.return_, 1) := dk_177 (dk_at dksX7_next_10 3 rfl rfl)
theorem dX7_next_233 : decode cX7_next 233 = .ok (.aload_n 0, 1) := dk_42 (dk_at dksX7_next_10 4 rfl rfl)
theorem dX7_next_234 : decode cX7_next 234 = .ok (.aload_n 0, 1) := dk_42 (dk_at dksX7_next_10 5 rfl rfl)
theorem dX7_next_235 : decode cX7_next 235 = .ok (.aload_n 0, 1) := dk_42 (dk_at dksX7_next_10 6 rfl rfl)
theorem dX7_next_236 : decode cX7_next 236 = .ok (.getfield 51, 3) := dk_180 0 51 (dk_at dksX7_next_10 7 rfl rfl)
theorem dX7_next_239 : decode cX7_next 239 = .ok (.invokevirtual 35, 3) := dk_182 0 35 (dk_at dksX7_next_10 10 rfl rfl)
theorem dX7_next_242 : decode cX7_next 242 = .ok (.bipush 59, 2) := dk_16 59 (dk_at dksX7_next_10 13 rfl rfl)
theorem dX7_next_244 : decode cX7_next 244 = .ok (.if_icmp .ne 7, 3) := dk_160 0 7 (dk_at dksX7_next_10 15 rfl rfl)
theorem dX7_next_247 : decode cX7_next 247 = .ok (.iconst 3, 1) := dk_6 (dk_at dksX7_next_10 18 rfl rfl)
theorem dX7_next_248 : decode cX7_next 248 = .ok (.goto 4, 3) := dk_167 0 4 (dk_at dksX7_next_10 19 rfl rfl)
theorem dX7_next_251 : decode cX7_next 251 = .ok (.iconst 4, 1) := dk_7 (dk_at dksX7_next_10 22 rfl rfl)
theorem dX7_next_252 : decode cX7_next 252 = .ok (.putfield 57, 3) := dk_181 0 57 (dk_at dksX7_next_11 0 rfl rfl)
theorem dX7_next_255 : decode cX7_next 255 = .ok (.aload_n 0, 1) := dk_42 (dk_at dksX7_next_11 3 rfl rfl)
theorem dX7_next_256 : decode cX7_next 256 = .ok (.dup, 1) := dk_89 (dk_at dksX7_next_11 4 rfl rfl)
theorem dX7_next_257 : decode cX7_next 257 = .ok (.getfield 51, 3) := dk_180 0 51 (dk_at dksX7_next_11 5 rfl rfl)
theorem dX7_next_260 : decode cX7_next 260 = .ok (.iconst 1, 1) := dk_4 (dk_at dksX7_next_11 8 rfl rfl)
theorem dX7_next_261 : decode cX7_next 261 = .ok (.iadd, 1) := dk_96 (dk_at dksX7_next_11 9 rfl rfl)
theorem dX7_next_262 : decode cX7_next 262 = .ok (.putfield 51, 3) := dk_181 0 51 (dk_at dksX7_next_11 10 rfl rfl)
theorem dX7_next_265 : decode cX7_next 265 = .ok (.return_, 1) := dk_177 (dk_at dksX7_next_11 13 rfl rfl)
abbrev cX7_see : ByteArray := prog_14_method_2_code
def yX7_see : MethodName := ⟨RX7, "see", "(I)I"⟩
def dkwX7_see_1 : List UInt8 := [3, 172]
abbrev dktX7_see_1 : List UInt8 := dkwX7_see_1 ++ []
def dkwX7_see_0 : List UInt8 := [27, 42, 180, 0, 28, 162, 0, 19, 42, 180, 0, 3, 180, 0, 31, 27, 51, 17, 0, 255, 126, 167, 0, 4]
abbrev dktX7_see_0 : List UInt8 := dkwX7_see_0 ++ dktX7_see_1
theorem dksX7_see_0 : cX7_see.data.toList.drop 0 = dktX7_see_0 := by decide +kernel
theorem dksX7_see_1 : cX7_see.data.toList.drop 24 = dktX7_see_1 := dk_seg dksX7_see_0 24 rfl rfl
theorem dX7_see_0 : decode cX7_see 0 = .ok (.iload_n 1, 1) := dk_27 (dk_at dksX7_see_0 0 rfl rfl)
theorem dX7_see_1 : decode cX7_see 1 = .ok (.aload_n 0, 1) := dk_42 (dk_at dksX7_see_0 1 rfl rfl)
theorem dX7_see_2 : decode cX7_see 2 = .ok (.getfield 28, 3) := dk_180 0 28 (dk_at dksX7_see_0 2 rfl rfl)
theorem dX7_see_5 : decode cX7_see 5 = .ok (.if_icmp .ge 19, 3) := dk_162 0 19 (dk_at dksX7_see_0 5 rfl rfl)
theorem dX7_see_8 : decode cX7_see 8 = .ok (.aload_n 0, 1) := dk_42 (dk_at dksX7_see_0 8 rfl rfl)
theorem dX7_see_9 : decode cX7_see 9 = .ok (.getfield 3, 3) := dk_180 0 3 (dk_at dksX7_see_0 9 rfl rfl)
theorem dX7_see_12 : decode cX7_see 12 = .ok (.getfield 31, 3) := dk_180 0 31 (dk_at dksX7_see_0 12 rfl rfl)
theorem dX7_see_15 : decode cX7_see 15 = .ok (.iload_n 1, 1) := dk_27 (dk_at dksX7_see_0 15 rfl rfl)
theorem dX7_see_16 : decode cX7_see 16 = .ok (.baload, 1) := dk_51 (dk_at dksX7_see_0 16 rfl rfl)
theorem dX7_see_17 : decode cX7_see 17 = .ok (.sipush 255, 3) := dk_17 0 255 (dk_at dksX7_see_0 17 rfl rfl)
theorem dX7_see_20 : decode cX7_see 20 = .ok (.iand, 1) := dk_126 (dk_at dksX7_see_0 20 rfl rfl)
theorem dX7_see_21 : decode cX7_see 21 = .ok (.goto 4, 3) := dk_167 0 4 (dk_at dksX7_see_0 21 rfl rfl)
theorem dX7_see_24 : decode cX7_see 24 = .ok (.iconst 0, 1) := dk_3 (dk_at dksX7_see_1 0 rfl rfl)
theorem dX7_see_25 : decode cX7_see 25 = .ok (.ireturn, 1) := dk_172 (dk_at dksX7_see_1 1 rfl rfl)
abbrev cX7_isSmall : ByteArray := prog_14_method_3_code
def yX7_isSmall : MethodName := ⟨RX7, "isSmall", "(I)Z"⟩
def dkwX7_isSmall_0 : List UInt8 := [42, 27, 182, 0, 35, 133, 20, 0, 39, 20, 0, 41, 184, 0, 43, 172]
abbrev dktX7_isSmall_0 : List UInt8 := dkwX7_isSmall_0 ++ []
theorem dksX7_isSmall_0 : cX7_isSmall.data.toList.drop 0 = dktX7_isSmall_0 := by decide +kernel
theorem dX7_isSmall_0 : decode cX7_isSmall 0 = .ok (.aload_n 0, 1) := dk_42 (dk_at dksX7_isSmall_0 0 rfl rfl)
theorem dX7_isSmall_1 : decode cX7_isSmall 1 = .ok (.iload_n 1, 1) := dk_27 (dk_at dksX7_isSmall_0 1 rfl rfl)
theorem dX7_isSmall_2 : decode cX7_isSmall 2 = .ok (.invokevirtual 35, 3) := dk_182 0 35 (dk_at dksX7_isSmall_0 2 rfl rfl)
theorem dX7_isSmall_5 : decode cX7_isSmall 5 = .ok (.i2l, 1) := dk_133 (dk_at dksX7_isSmall_0 5 rfl rfl)
theorem dX7_isSmall_6 : decode cX7_isSmall 6 = .ok (.ldc2_w 39, 3) := dk_20 0 39 (dk_at dksX7_isSmall_0 6 rfl rfl)
theorem dX7_isSmall_9 : decode cX7_isSmall 9 = .ok (.ldc2_w 41, 3) := dk_20 0 41 (dk_at dksX7_isSmall_0 9 rfl rfl)
theorem dX7_isSmall_12 : decode cX7_isSmall 12 = .ok (.invokestatic 43, 3) := dk_184 0 43 (dk_at dksX7_isSmall_0 12 rfl rfl)
theorem dX7_isSmall_15 : decode cX7_isSmall 15 = .ok (.ireturn, 1) := dk_172 (dk_at dksX7_isSmall_0 15 rfl rfl)
abbrev cX7_isDigit : ByteArray := prog_14_method_4_code
def yX7_isDigit : MethodName := ⟨RX7, "isDigit", "(I)Z"⟩
def dkwX7_isDigit_0 : List UInt8 := [42, 27, 182, 0, 35, 133, 20, 0, 47, 20, 0, 49, 184, 0, 43, 172]
abbrev dktX7_isDigit_0 : List UInt8 := dkwX7_isDigit_0 ++ []
theorem dksX7_isDigit_0 : cX7_isDigit.data.toList.drop 0 = dktX7_isDigit_0 := by decide +kernel
theorem dX7_isDigit_0 : decode cX7_isDigit 0 = .ok (.aload_n 0, 1) := dk_42 (dk_at dksX7_isDigit_0 0 rfl rfl)
theorem dX7_isDigit_1 : decode cX7_isDigit 1 = .ok (.iload_n 1, 1) := dk_27 (dk_at dksX7_isDigit_0 1 rfl rfl)
theorem dX7_isDigit_2 : decode cX7_isDigit 2 = .ok (.invokevirtual 35, 3) := dk_182 0 35 (dk_at dksX7_isDigit_0 2 rfl rfl)
theorem dX7_isDigit_5 : decode cX7_isDigit 5 = .ok (.i2l, 1) := dk_133 (dk_at dksX7_isDigit_0 5 rfl rfl)
theorem dX7_isDigit_6 : decode cX7_isDigit 6 = .ok (.ldc2_w 47, 3) := dk_20 0 47 (dk_at dksX7_isDigit_0 6 rfl rfl)
theorem dX7_isDigit_9 : decode cX7_isDigit 9 = .ok (.ldc2_w 49, 3) := dk_20 0 49 (dk_at dksX7_isDigit_0 9 rfl rfl)
theorem dX7_isDigit_12 : decode cX7_isDigit 12 = .ok (.invokestatic 43, 3) := dk_184 0 43 (dk_at dksX7_isDigit_0 12 rfl rfl)
theorem dX7_isDigit_15 : decode cX7_isDigit 15 = .ok (.ireturn, 1) := dk_172 (dk_at dksX7_isDigit_0 15 rfl rfl)
abbrev cX7_is : ByteArray := prog_14_method_7_code
def yX7_is : MethodName := ⟨RX7, "is", "(Ljava/lang/String;)Z"⟩
def dkwX7_is_2 : List UInt8 := [28, 96, 182, 0, 35, 43, 28, 182, 0, 79, 159, 0, 5, 3, 172, 132, 2, 1, 167, 255, 225, 4, 172]
abbrev dktX7_is_2 : List UInt8 := dkwX7_is_2 ++ []
def dkwX7_is_1 : List UInt8 := [43, 182, 0, 73, 159, 0, 5, 3, 172, 3, 61, 28, 43, 182, 0, 73, 162, 0, 29, 42, 42, 180, 0, 54]
abbrev dktX7_is_1 : List UInt8 := dkwX7_is_1 ++ dktX7_is_2
def dkwX7_is_0 : List UInt8 := [42, 180, 0, 70, 154, 0, 27, 42, 180, 0, 57, 4, 160, 0, 19, 42, 180, 0, 51, 42, 180, 0, 54, 100]
abbrev dktX7_is_0 : List UInt8 := dkwX7_is_0 ++ dktX7_is_1
theorem dksX7_is_0 : cX7_is.data.toList.drop 0 = dktX7_is_0 := by decide +kernel
theorem dksX7_is_1 : cX7_is.data.toList.drop 24 = dktX7_is_1 := dk_seg dksX7_is_0 24 rfl rfl
theorem dksX7_is_2 : cX7_is.data.toList.drop 48 = dktX7_is_2 := dk_seg dksX7_is_1 24 rfl rfl
theorem dX7_is_0 : decode cX7_is 0 = .ok (.aload_n 0, 1) := dk_42 (dk_at dksX7_is_0 0 rfl rfl)
theorem dX7_is_1 : decode cX7_is 1 = .ok (.getfield 70, 3) := dk_180 0 70 (dk_at dksX7_is_0 1 rfl rfl)
theorem dX7_is_4 : decode cX7_is 4 = .ok (.ifCond .ne 27, 3) := dk_154 0 27 (dk_at dksX7_is_0 4 rfl rfl)
theorem dX7_is_7 : decode cX7_is 7 = .ok (.aload_n 0, 1) := dk_42 (dk_at dksX7_is_0 7 rfl rfl)
theorem dX7_is_8 : decode cX7_is 8 = .ok (.getfield 57, 3) := dk_180 0 57 (dk_at dksX7_is_0 8 rfl rfl)
theorem dX7_is_11 : decode cX7_is 11 = .ok (.iconst 1, 1) := dk_4 (dk_at dksX7_is_0 11 rfl rfl)
theorem dX7_is_12 : decode cX7_is 12 = .ok (.if_icmp .ne 19, 3) := dk_160 0 19 (dk_at dksX7_is_0 12 rfl rfl)
theorem dX7_is_15 : decode cX7_is 15 = .ok (.aload_n 0, 1) := dk_42 (dk_at dksX7_is_0 15 rfl rfl)
theorem dX7_is_16 : decode cX7_is 16 = .ok (.getfield 51, 3) := dk_180 0 51 (dk_at dksX7_is_0 16 rfl rfl)
theorem dX7_is_19 : decode cX7_is 19 = .ok (.aload_n 0, 1) := dk_42 (dk_at dksX7_is_0 19 rfl rfl)
theorem dX7_is_20 : decode cX7_is 20 = .ok (.getfield 54, 3) := dk_180 0 54 (dk_at dksX7_is_0 20 rfl rfl)
theorem dX7_is_23 : decode cX7_is 23 = .ok (.isub, 1) := dk_100 (dk_at dksX7_is_0 23 rfl rfl)
theorem dX7_is_24 : decode cX7_is 24 = .ok (.aload_n 1, 1) := dk_43 (dk_at dksX7_is_1 0 rfl rfl)
theorem dX7_is_25 : decode cX7_is 25 = .ok (.invokevirtual 73, 3) := dk_182 0 73 (dk_at dksX7_is_1 1 rfl rfl)
theorem dX7_is_28 : decode cX7_is 28 = .ok (.if_icmp .eq 5, 3) := dk_159 0 5 (dk_at dksX7_is_1 4 rfl rfl)
theorem dX7_is_31 : decode cX7_is 31 = .ok (.iconst 0, 1) := dk_3 (dk_at dksX7_is_1 7 rfl rfl)
theorem dX7_is_32 : decode cX7_is 32 = .ok (.ireturn, 1) := dk_172 (dk_at dksX7_is_1 8 rfl rfl)
theorem dX7_is_33 : decode cX7_is 33 = .ok (.iconst 0, 1) := dk_3 (dk_at dksX7_is_1 9 rfl rfl)
theorem dX7_is_34 : decode cX7_is 34 = .ok (.istore_n 2, 1) := dk_61 (dk_at dksX7_is_1 10 rfl rfl)
theorem dX7_is_35 : decode cX7_is 35 = .ok (.iload_n 2, 1) := dk_28 (dk_at dksX7_is_1 11 rfl rfl)
theorem dX7_is_36 : decode cX7_is 36 = .ok (.aload_n 1, 1) := dk_43 (dk_at dksX7_is_1 12 rfl rfl)
theorem dX7_is_37 : decode cX7_is 37 = .ok (.invokevirtual 73, 3) := dk_182 0 73 (dk_at dksX7_is_1 13 rfl rfl)
theorem dX7_is_40 : decode cX7_is 40 = .ok (.if_icmp .ge 29, 3) := dk_162 0 29 (dk_at dksX7_is_1 16 rfl rfl)
theorem dX7_is_43 : decode cX7_is 43 = .ok (.aload_n 0, 1) := dk_42 (dk_at dksX7_is_1 19 rfl rfl)
theorem dX7_is_44 : decode cX7_is 44 = .ok (.aload_n 0, 1) := dk_42 (dk_at dksX7_is_1 20 rfl rfl)
theorem dX7_is_45 : decode cX7_is 45 = .ok (.getfield 54, 3) := dk_180 0 54 (dk_at dksX7_is_1 21 rfl rfl)
theorem dX7_is_48 : decode cX7_is 48 = .ok (.iload_n 2, 1) := dk_28 (dk_at dksX7_is_2 0 rfl rfl)
theorem dX7_is_49 : decode cX7_is 49 = .ok (.iadd, 1) := dk_96 (dk_at dksX7_is_2 1 rfl rfl)
theorem dX7_is_50 : decode cX7_is 50 = .ok (.invokevirtual 35, 3) := dk_182 0 35 (dk_at dksX7_is_2 2 rfl rfl)
theorem dX7_is_53 : decode cX7_is 53 = .ok (.aload_n 1, 1) := dk_43 (dk_at dksX7_is_2 5 rfl rfl)
theorem dX7_is_54 : decode cX7_is 54 = .ok (.iload_n 2, 1) := dk_28 (dk_at dksX7_is_2 6 rfl rfl)
theorem dX7_is_55 : decode cX7_is 55 = .ok (.invokevirtual 79, 3) := dk_182 0 79 (dk_at dksX7_is_2 7 rfl rfl)
theorem dX7_is_58 : decode cX7_is 58 = .ok (.if_icmp .eq 5, 3) := dk_159 0 5 (dk_at dksX7_is_2 10 rfl rfl)
theorem dX7_is_61 : decode cX7_is 61 = .ok (.iconst 0, 1) := dk_3 (dk_at dksX7_is_2 13 rfl rfl)
theorem dX7_is_62 : decode cX7_is 62 = .ok (.ireturn, 1) := dk_172 (dk_at dksX7_is_2 14 rfl rfl)
theorem dX7_is_63 : decode cX7_is 63 = .ok (.iinc 2 1, 3) := dk_132 2 1 (dk_at dksX7_is_2 15 rfl rfl)
theorem dX7_is_66 : decode cX7_is 66 = .ok (.goto (-31), 3) := dk_167 255 225 (dk_at dksX7_is_2 18 rfl rfl)
theorem dX7_is_69 : decode cX7_is 69 = .ok (.iconst 1, 1) := dk_4 (dk_at dksX7_is_2 21 rfl rfl)
theorem dX7_is_70 : decode cX7_is 70 = .ok (.ireturn, 1) := dk_172 (dk_at dksX7_is_2 22 rfl rfl)
abbrev cX7_way : ByteArray := prog_14_method_15_code
def yX7_way : MethodName := ⟨RX7, "way", "()V"⟩
def dkwX7_way_7 : List UInt8 := [43, 182, 0, 170, 87, 177]
abbrev dktX7_way_7 : List UInt8 := dkwX7_way_7 ++ []
def dkwX7_way_6 : List UInt8 := [42, 182, 0, 162, 77, 42, 180, 0, 70, 154, 0, 8, 43, 44, 182, 0, 166, 167, 255, 214, 42, 180, 0, 20]
abbrev dktX7_way_6 : List UInt8 := dkwX7_way_6 ++ dktX7_way_7
def dkwX7_way_5 : List UInt8 := [182, 0, 91, 153, 0, 41, 43, 180, 0, 159, 182, 0, 135, 16, 8, 160, 0, 9, 42, 8, 182, 0, 115, 177]
abbrev dktX7_way_5 : List UInt8 := dkwX7_way_5 ++ dktX7_way_6
def dkwX7_way_4 : List UInt8 := [182, 0, 115, 132, 2, 1, 167, 255, 216, 42, 180, 0, 70, 153, 0, 4, 177, 42, 182, 0, 118, 42]
abbrev dktX7_way_4 : List UInt8 := dkwX7_way_4 ++ dktX7_way_5
def dkwX7_way_3 : List UInt8 := [180, 0, 20, 28, 182, 0, 149, 192, 0, 140, 43, 180, 0, 153, 182, 0, 155, 153, 0, 8, 42, 7]
abbrev dktX7_way_3 : List UInt8 := dkwX7_way_3 ++ dktX7_way_4
def dkwX7_way_2 : List UInt8 := [42, 182, 0, 142, 183, 0, 146, 76, 3, 61, 28, 42, 180, 0, 20, 182, 0, 135, 162, 0, 35, 42]
abbrev dktX7_way_2 : List UInt8 := dkwX7_way_2 ++ dktX7_way_3
def dkwX7_way_1 : List UInt8 := [180, 0, 57, 4, 160, 0, 10, 42, 182, 0, 137, 153, 0, 9, 42, 5, 182, 0, 115, 177, 187, 0, 140, 89]
abbrev dktX7_way_1 : List UInt8 := dkwX7_way_1 ++ dktX7_way_2
def dkwX7_way_0 : List UInt8 := [42, 180, 0, 20, 182, 0, 135, 16, 8, 160, 0, 9, 42, 8, 182, 0, 115, 177, 42, 182, 0, 118, 42]
abbrev dktX7_way_0 : List UInt8 := dkwX7_way_0 ++ dktX7_way_1
theorem dksX7_way_0 : cX7_way.data.toList.drop 0 = dktX7_way_0 := by decide +kernel
theorem dksX7_way_1 : cX7_way.data.toList.drop 23 = dktX7_way_1 := dk_seg dksX7_way_0 23 rfl rfl
theorem dksX7_way_2 : cX7_way.data.toList.drop 47 = dktX7_way_2 := dk_seg dksX7_way_1 24 rfl rfl
theorem dksX7_way_3 : cX7_way.data.toList.drop 69 = dktX7_way_3 := dk_seg dksX7_way_2 22 rfl rfl
theorem dksX7_way_4 : cX7_way.data.toList.drop 91 = dktX7_way_4 := dk_seg dksX7_way_3 22 rfl rfl
theorem dksX7_way_5 : cX7_way.data.toList.drop 113 = dktX7_way_5 := dk_seg dksX7_way_4 22 rfl rfl
theorem dksX7_way_6 : cX7_way.data.toList.drop 137 = dktX7_way_6 := dk_seg dksX7_way_5 24 rfl rfl
theorem dksX7_way_7 : cX7_way.data.toList.drop 161 = dktX7_way_7 := dk_seg dksX7_way_6 24 rfl rfl
theorem dX7_way_0 : decode cX7_way 0 = .ok (.aload_n 0, 1) := dk_42 (dk_at dksX7_way_0 0 rfl rfl)
theorem dX7_way_1 : decode cX7_way 1 = .ok (.getfield 20, 3) := dk_180 0 20 (dk_at dksX7_way_0 1 rfl rfl)
theorem dX7_way_4 : decode cX7_way 4 = .ok (.invokevirtual 135, 3) := dk_182 0 135 (dk_at dksX7_way_0 4 rfl rfl)
theorem dX7_way_7 : decode cX7_way 7 = .ok (.bipush 8, 2) := dk_16 8 (dk_at dksX7_way_0 7 rfl rfl)
theorem dX7_way_9 : decode cX7_way 9 = .ok (.if_icmp .ne 9, 3) := dk_160 0 9 (dk_at dksX7_way_0 9 rfl rfl)
theorem dX7_way_12 : decode cX7_way 12 = .ok (.aload_n 0, 1) := dk_42 (dk_at dksX7_way_0 12 rfl rfl)
theorem dX7_way_13 : decode cX7_way 13 = .ok (.iconst 5, 1) := dk_8 (dk_at dksX7_way_0 13 rfl rfl)
theorem dX7_way_14 : decode cX7_way 14 = .ok (.invokevirtual 115, 3) := dk_182 0 115 (dk_at dksX7_way_0 14 rfl rfl)
theorem dX7_way_17 : decode cX7_way 17 = .ok (.return_, 1) := dk_177 (dk_at dksX7_way_0 17 rfl rfl)
theorem dX7_way_18 : decode cX7_way 18 = .ok (.aload_n 0, 1) := dk_42 (dk_at dksX7_way_0 18 rfl rfl)
theorem dX7_way_19 : decode cX7_way 19 = .ok (.invokevirtual 118, 3) := dk_182 0 118 (dk_at dksX7_way_0 19 rfl rfl)
theorem dX7_way_22 : decode cX7_way 22 = .ok (.aload_n 0, 1) := dk_42 (dk_at dksX7_way_0 22 rfl rfl)
theorem dX7_way_23 : decode cX7_way 23 = .ok (.getfield 57, 3) := dk_180 0 57 (dk_at dksX7_way_1 0 rfl rfl)
theorem dX7_way_26 : decode cX7_way 26 = .ok (.iconst 1, 1) := dk_4 (dk_at dksX7_way_1 3 rfl rfl)
theorem dX7_way_27 : decode cX7_way 27 = .ok (.if_icmp .ne 10, 3) := dk_160 0 10 (dk_at dksX7_way_1 4 rfl rfl)
theorem dX7_way_30 : decode cX7_way 30 = .ok (.aload_n 0, 1) := dk_42 (dk_at dksX7_way_1 7 rfl rfl)
theorem dX7_way_31 : decode cX7_way 31 = .ok (.invokevirtual 137, 3) := dk_182 0 137 (dk_at dksX7_way_1 8 rfl rfl)
theorem dX7_way_34 : decode cX7_way 34 = .ok (.ifCond .eq 9, 3) := dk_153 0 9 (dk_at dksX7_way_1 11 rfl rfl)
theorem dX7_way_37 : decode cX7_way 37 = .ok (.aload_n 0, 1) := dk_42 (dk_at dksX7_way_1 14 rfl rfl)
theorem dX7_way_38 : decode cX7_way 38 = .ok (.iconst 2, 1) := dk_5 (dk_at dksX7_way_1 15 rfl rfl)
theorem dX7_way_39 : decode cX7_way 39 = .ok (.invokevirtual 115, 3) := dk_182 0 115 (dk_at dksX7_way_1 16 rfl rfl)
theorem dX7_way_42 : decode cX7_way 42 = .ok (.return_, 1) := dk_177 (dk_at dksX7_way_1 19 rfl rfl)
theorem dX7_way_43 : decode cX7_way 43 = .ok (.new 140, 3) := dk_187 0 140 (dk_at dksX7_way_1 20 rfl rfl)
theorem dX7_way_46 : decode cX7_way 46 = .ok (.dup, 1) := dk_89 (dk_at dksX7_way_1 23 rfl rfl)
theorem dX7_way_47 : decode cX7_way 47 = .ok (.aload_n 0, 1) := dk_42 (dk_at dksX7_way_2 0 rfl rfl)
theorem dX7_way_48 : decode cX7_way 48 = .ok (.invokevirtual 142, 3) := dk_182 0 142 (dk_at dksX7_way_2 1 rfl rfl)
theorem dX7_way_51 : decode cX7_way 51 = .ok (.invokespecial 146, 3) := dk_183 0 146 (dk_at dksX7_way_2 4 rfl rfl)
theorem dX7_way_54 : decode cX7_way 54 = .ok (.astore_n 1, 1) := dk_76 (dk_at dksX7_way_2 7 rfl rfl)
theorem dX7_way_55 : decode cX7_way 55 = .ok (.iconst 0, 1) := dk_3 (dk_at dksX7_way_2 8 rfl rfl)
theorem dX7_way_56 : decode cX7_way 56 = .ok (.istore_n 2, 1) := dk_61 (dk_at dksX7_way_2 9 rfl rfl)
theorem dX7_way_57 : decode cX7_way 57 = .ok (.iload_n 2, 1) := dk_28 (dk_at dksX7_way_2 10 rfl rfl)
theorem dX7_way_58 : decode cX7_way 58 = .ok (.aload_n 0, 1) := dk_42 (dk_at dksX7_way_2 11 rfl rfl)
theorem dX7_way_59 : decode cX7_way 59 = .ok (.getfield 20, 3) := dk_180 0 20 (dk_at dksX7_way_2 12 rfl rfl)
theorem dX7_way_62 : decode cX7_way 62 = .ok (.invokevirtual 135, 3) := dk_182 0 135 (dk_at dksX7_way_2 15 rfl rfl)
theorem dX7_way_65 : decode cX7_way 65 = .ok (.if_icmp .ge 35, 3) := dk_162 0 35 (dk_at dksX7_way_2 18 rfl rfl)
theorem dX7_way_68 : decode cX7_way 68 = .ok (.aload_n 0, 1) := dk_42 (dk_at dksX7_way_2 21 rfl rfl)
theorem dX7_way_69 : decode cX7_way 69 = .ok (.getfield 20, 3) := dk_180 0 20 (dk_at dksX7_way_3 0 rfl rfl)
theorem dX7_way_72 : decode cX7_way 72 = .ok (.iload_n 2, 1) := dk_28 (dk_at dksX7_way_3 3 rfl rfl)
theorem dX7_way_73 : decode cX7_way 73 = .ok (.invokevirtual 149, 3) := dk_182 0 149 (dk_at dksX7_way_3 4 rfl rfl)
theorem dX7_way_76 : decode cX7_way 76 = .ok (.checkcast 140, 3) := dk_192 0 140 (dk_at dksX7_way_3 7 rfl rfl)
theorem dX7_way_79 : decode cX7_way 79 = .ok (.aload_n 1, 1) := dk_43 (dk_at dksX7_way_3 10 rfl rfl)
theorem dX7_way_80 : decode cX7_way 80 = .ok (.getfield 153, 3) := dk_180 0 153 (dk_at dksX7_way_3 11 rfl rfl)
theorem dX7_way_83 : decode cX7_way 83 = .ok (.invokevirtual 155, 3) := dk_182 0 155 (dk_at dksX7_way_3 14 rfl rfl)
theorem dX7_way_86 : decode cX7_way 86 = .ok (.ifCond .eq 8, 3) := dk_153 0 8 (dk_at dksX7_way_3 17 rfl rfl)
theorem dX7_way_89 : decode cX7_way 89 = .ok (.aload_n 0, 1) := dk_42 (dk_at dksX7_way_3 20 rfl rfl)
theorem dX7_way_90 : decode cX7_way 90 = .ok (.iconst 4, 1) := dk_7 (dk_at dksX7_way_3 21 rfl rfl)
theorem dX7_way_91 : decode cX7_way 91 = .ok (.invokevirtual 115, 3) := dk_182 0 115 (dk_at dksX7_way_4 0 rfl rfl)
theorem dX7_way_94 : decode cX7_way 94 = .ok (.iinc 2 1, 3) := dk_132 2 1 (dk_at dksX7_way_4 3 rfl rfl)
theorem dX7_way_97 : decode cX7_way 97 = .ok (.goto (-40), 3) := dk_167 255 216 (dk_at dksX7_way_4 6 rfl rfl)
theorem dX7_way_100 : decode cX7_way 100 = .ok (.aload_n 0, 1) := dk_42 (dk_at dksX7_way_4 9 rfl rfl)
theorem dX7_way_101 : decode cX7_way 101 = .ok (.getfield 70, 3) := dk_180 0 70 (dk_at dksX7_way_4 10 rfl rfl)
theorem dX7_way_104 : decode cX7_way 104 = .ok (.ifCond .eq 4, 3) := dk_153 0 4 (dk_at dksX7_way_4 13 rfl rfl)
theorem dX7_way_107 : decode cX7_way 107 = .ok (.return_, 1) := dk_177 (dk_at dksX7_way_4 16 rfl rfl)
theorem dX7_way_108 : decode cX7_way 108 = .ok (.aload_n 0, 1) := dk_42 (dk_at dksX7_way_4 17 rfl rfl)
theorem dX7_way_109 : decode cX7_way 109 = .ok (.invokevirtual 118, 3) := dk_182 0 118 (dk_at dksX7_way_4 18 rfl rfl)
theorem dX7_way_112 : decode cX7_way 112 = .ok (.aload_n 0, 1) := dk_42 (dk_at dksX7_way_4 21 rfl rfl)
theorem dX7_way_113 : decode cX7_way 113 = .ok (.invokevirtual 91, 3) := dk_182 0 91 (dk_at dksX7_way_5 0 rfl rfl)
theorem dX7_way_116 : decode cX7_way 116 = .ok (.ifCond .eq 41, 3) := dk_153 0 41 (dk_at dksX7_way_5 3 rfl rfl)
theorem dX7_way_119 : decode cX7_way 119 = .ok (.aload_n 1, 1) := dk_43 (dk_at dksX7_way_5 6 rfl rfl)
theorem dX7_way_120 : decode cX7_way 120 = .ok (.getfield 159, 3) := dk_180 0 159 (dk_at dksX7_way_5 7 rfl rfl)
theorem dX7_way_123 : decode cX7_way 123 = .ok (.invokevirtual 135, 3) := dk_182 0 135 (dk_at dksX7_way_5 10 rfl rfl)
theorem dX7_way_126 : decode cX7_way 126 = .ok (.bipush 8, 2) := dk_16 8 (dk_at dksX7_way_5 13 rfl rfl)
theorem dX7_way_128 : decode cX7_way 128 = .ok (.if_icmp .ne 9, 3) := dk_160 0 9 (dk_at dksX7_way_5 15 rfl rfl)
theorem dX7_way_131 : decode cX7_way 131 = .ok (.aload_n 0, 1) := dk_42 (dk_at dksX7_way_5 18 rfl rfl)
theorem dX7_way_132 : decode cX7_way 132 = .ok (.iconst 5, 1) := dk_8 (dk_at dksX7_way_5 19 rfl rfl)
theorem dX7_way_133 : decode cX7_way 133 = .ok (.invokevirtual 115, 3) := dk_182 0 115 (dk_at dksX7_way_5 20 rfl rfl)
theorem dX7_way_136 : decode cX7_way 136 = .ok (.return_, 1) := dk_177 (dk_at dksX7_way_5 23 rfl rfl)
theorem dX7_way_137 : decode cX7_way 137 = .ok (.aload_n 0, 1) := dk_42 (dk_at dksX7_way_6 0 rfl rfl)
theorem dX7_way_138 : decode cX7_way 138 = .ok (.invokevirtual 162, 3) := dk_182 0 162 (dk_at dksX7_way_6 1 rfl rfl)
theorem dX7_way_141 : decode cX7_way 141 = .ok (.astore_n 2, 1) := dk_77 (dk_at dksX7_way_6 4 rfl rfl)
theorem dX7_way_142 : decode cX7_way 142 = .ok (.aload_n 0, 1) := dk_42 (dk_at dksX7_way_6 5 rfl rfl)
theorem dX7_way_143 : decode cX7_way 143 = .ok (.getfield 70, 3) := dk_180 0 70 (dk_at dksX7_way_6 6 rfl rfl)
theorem dX7_way_146 : decode cX7_way 146 = .ok (.ifCond .ne 8, 3) := dk_154 0 8 (dk_at dksX7_way_6 9 rfl rfl)
theorem dX7_way_149 : decode cX7_way 149 = .ok (.aload_n 1, 1) := dk_43 (dk_at dksX7_way_6 12 rfl rfl)
theorem dX7_way_150 : decode cX7_way 150 = .ok (.aload_n 2, 1) := dk_44 (dk_at dksX7_way_6 13 rfl rfl)
theorem dX7_way_151 : decode cX7_way 151 = .ok (.invokevirtual 166, 3) := dk_182 0 166 (dk_at dksX7_way_6 14 rfl rfl)
theorem dX7_way_154 : decode cX7_way 154 = .ok (.goto (-42), 3) := dk_167 255 214 (dk_at dksX7_way_6 17 rfl rfl)
theorem dX7_way_157 : decode cX7_way 157 = .ok (.aload_n 0, 1) := dk_42 (dk_at dksX7_way_6 20 rfl rfl)
theorem dX7_way_158 : decode cX7_way 158 = .ok (.getfield 20, 3) := dk_180 0 20 (dk_at dksX7_way_6 21 rfl rfl)
theorem dX7_way_161 : decode cX7_way 161 = .ok (.aload_n 1, 1) := dk_43 (dk_at dksX7_way_7 0 rfl rfl)
theorem dX7_way_162 : decode cX7_way 162 = .ok (.invokevirtual 170, 3) := dk_182 0 170 (dk_at dksX7_way_7 1 rfl rfl)
theorem dX7_way_165 : decode cX7_way 165 = .ok (.pop, 1) := dk_87 (dk_at dksX7_way_7 4 rfl rfl)
theorem dX7_way_166 : decode cX7_way 166 = .ok (.return_, 1) := dk_177 (dk_at dksX7_way_7 5 rfl rfl)
abbrev cX7_wrong : ByteArray := prog_14_method_6_code
def yX7_wrong : MethodName := ⟨RX7, "wrong", "(I)V"⟩
def dkwX7_wrong_1 : List UInt8 := [181, 0, 70, 42, 42, 180, 0, 54, 181, 0, 24, 177]
abbrev dktX7_wrong_1 : List UInt8 := dkwX7_wrong_1 ++ []
def dkwX7_wrong_0 : List UInt8 := [42, 180, 0, 70, 153, 0, 4, 177, 42, 42, 180, 0, 57, 7, 160, 0, 7, 4, 167, 0, 4, 27]
abbrev dktX7_wrong_0 : List UInt8 := dkwX7_wrong_0 ++ dktX7_wrong_1
theorem dksX7_wrong_0 : cX7_wrong.data.toList.drop 0 = dktX7_wrong_0 := by decide +kernel
theorem dksX7_wrong_1 : cX7_wrong.data.toList.drop 22 = dktX7_wrong_1 := dk_seg dksX7_wrong_0 22 rfl rfl
theorem dX7_wrong_0 : decode cX7_wrong 0 = .ok (.aload_n 0, 1) := dk_42 (dk_at dksX7_wrong_0 0 rfl rfl)
theorem dX7_wrong_1 : decode cX7_wrong 1 = .ok (.getfield 70, 3) := dk_180 0 70 (dk_at dksX7_wrong_0 1 rfl rfl)
theorem dX7_wrong_4 : decode cX7_wrong 4 = .ok (.ifCond .eq 4, 3) := dk_153 0 4 (dk_at dksX7_wrong_0 4 rfl rfl)
theorem dX7_wrong_7 : decode cX7_wrong 7 = .ok (.return_, 1) := dk_177 (dk_at dksX7_wrong_0 7 rfl rfl)
theorem dX7_wrong_8 : decode cX7_wrong 8 = .ok (.aload_n 0, 1) := dk_42 (dk_at dksX7_wrong_0 8 rfl rfl)
theorem dX7_wrong_9 : decode cX7_wrong 9 = .ok (.aload_n 0, 1) := dk_42 (dk_at dksX7_wrong_0 9 rfl rfl)
theorem dX7_wrong_10 : decode cX7_wrong 10 = .ok (.getfield 57, 3) := dk_180 0 57 (dk_at dksX7_wrong_0 10 rfl rfl)
theorem dX7_wrong_13 : decode cX7_wrong 13 = .ok (.iconst 4, 1) := dk_7 (dk_at dksX7_wrong_0 13 rfl rfl)
theorem dX7_wrong_14 : decode cX7_wrong 14 = .ok (.if_icmp .ne 7, 3) := dk_160 0 7 (dk_at dksX7_wrong_0 14 rfl rfl)
theorem dX7_wrong_17 : decode cX7_wrong 17 = .ok (.iconst 1, 1) := dk_4 (dk_at dksX7_wrong_0 17 rfl rfl)
theorem dX7_wrong_18 : decode cX7_wrong 18 = .ok (.goto 4, 3) := dk_167 0 4 (dk_at dksX7_wrong_0 18 rfl rfl)
theorem dX7_wrong_21 : decode cX7_wrong 21 = .ok (.iload_n 1, 1) := dk_27 (dk_at dksX7_wrong_0 21 rfl rfl)
theorem dX7_wrong_22 : decode cX7_wrong 22 = .ok (.putfield 70, 3) := dk_181 0 70 (dk_at dksX7_wrong_1 0 rfl rfl)
theorem dX7_wrong_25 : decode cX7_wrong 25 = .ok (.aload_n 0, 1) := dk_42 (dk_at dksX7_wrong_1 3 rfl rfl)
theorem dX7_wrong_26 : decode cX7_wrong 26 = .ok (.aload_n 0, 1) := dk_42 (dk_at dksX7_wrong_1 4 rfl rfl)
theorem dX7_wrong_27 : decode cX7_wrong 27 = .ok (.getfield 54, 3) := dk_180 0 54 (dk_at dksX7_wrong_1 5 rfl rfl)
theorem dX7_wrong_30 : decode cX7_wrong 30 = .ok (.putfield 24, 3) := dk_181 0 24 (dk_at dksX7_wrong_1 8 rfl rfl)
theorem dX7_wrong_33 : decode cX7_wrong 33 = .ok (.return_, 1) := dk_177 (dk_at dksX7_wrong_1 11 rfl rfl)
abbrev cX7_isKept : ByteArray := prog_14_method_8_code
def yX7_isKept : MethodName := ⟨RX7, "isKept", "()Z"⟩
def dkwX7_isKept_2 : List UInt8 := [167, 0, 4, 3, 172]
abbrev dktX7_isKept_2 : List UInt8 := dkwX7_isKept_2 ++ []
def dkwX7_isKept_1 : List UInt8 := [154, 0, 21, 42, 18, 95, 182, 0, 85, 154, 0, 12, 42, 18, 97, 182, 0, 85, 153, 0, 7, 4]
abbrev dktX7_isKept_1 : List UInt8 := dkwX7_isKept_1 ++ dktX7_isKept_2
def dkwX7_isKept_0 : List UInt8 := [42, 18, 83, 182, 0, 85, 154, 0, 37, 42, 18, 89, 182, 0, 85, 154, 0, 28, 42, 182, 0, 91]
abbrev dktX7_isKept_0 : List UInt8 := dkwX7_isKept_0 ++ dktX7_isKept_1
theorem dksX7_isKept_0 : cX7_isKept.data.toList.drop 0 = dktX7_isKept_0 := by decide +kernel
theorem dksX7_isKept_1 : cX7_isKept.data.toList.drop 22 = dktX7_isKept_1 := dk_seg dksX7_isKept_0 22 rfl rfl
theorem dksX7_isKept_2 : cX7_isKept.data.toList.drop 44 = dktX7_isKept_2 := dk_seg dksX7_isKept_1 22 rfl rfl
theorem dX7_isKept_0 : decode cX7_isKept 0 = .ok (.aload_n 0, 1) := dk_42 (dk_at dksX7_isKept_0 0 rfl rfl)
theorem dX7_isKept_1 : decode cX7_isKept 1 = .ok (.ldc 83, 2) := dk_18 83 (dk_at dksX7_isKept_0 1 rfl rfl)
theorem dX7_isKept_3 : decode cX7_isKept 3 = .ok (.invokevirtual 85, 3) := dk_182 0 85 (dk_at dksX7_isKept_0 3 rfl rfl)
theorem dX7_isKept_6 : decode cX7_isKept 6 = .ok (.ifCond .ne 37, 3) := dk_154 0 37 (dk_at dksX7_isKept_0 6 rfl rfl)
theorem dX7_isKept_9 : decode cX7_isKept 9 = .ok (.aload_n 0, 1) := dk_42 (dk_at dksX7_isKept_0 9 rfl rfl)
theorem dX7_isKept_10 : decode cX7_isKept 10 = .ok (.ldc 89, 2) := dk_18 89 (dk_at dksX7_isKept_0 10 rfl rfl)
theorem dX7_isKept_12 : decode cX7_isKept 12 = .ok (.invokevirtual 85, 3) := dk_182 0 85 (dk_at dksX7_isKept_0 12 rfl rfl)
theorem dX7_isKept_15 : decode cX7_isKept 15 = .ok (.ifCond .ne 28, 3) := dk_154 0 28 (dk_at dksX7_isKept_0 15 rfl rfl)
theorem dX7_isKept_18 : decode cX7_isKept 18 = .ok (.aload_n 0, 1) := dk_42 (dk_at dksX7_isKept_0 18 rfl rfl)
theorem dX7_isKept_19 : decode cX7_isKept 19 = .ok (.invokevirtual 91, 3) := dk_182 0 91 (dk_at dksX7_isKept_0 19 rfl rfl)
theorem dX7_isKept_22 : decode cX7_isKept 22 = .ok (.ifCond .ne 21, 3) := dk_154 0 21 (dk_at dksX7_isKept_1 0 rfl rfl)
theorem dX7_isKept_25 : decode cX7_isKept 25 = .ok (.aload_n 0, 1) := dk_42 (dk_at dksX7_isKept_1 3 rfl rfl)
theorem dX7_isKept_26 : decode cX7_isKept 26 = .ok (.ldc 95, 2) := dk_18 95 (dk_at dksX7_isKept_1 4 rfl rfl)
theorem dX7_isKept_28 : decode cX7_isKept 28 = .ok (.invokevirtual 85, 3) := dk_182 0 85 (dk_at dksX7_isKept_1 6 rfl rfl)
theorem dX7_isKept_31 : decode cX7_isKept 31 = .ok (.ifCond .ne 12, 3) := dk_154 0 12 (dk_at dksX7_isKept_1 9 rfl rfl)
theorem dX7_isKept_34 : decode cX7_isKept 34 = .ok (.aload_n 0, 1) := dk_42 (dk_at dksX7_isKept_1 12 rfl rfl)
theorem dX7_isKept_35 : decode cX7_isKept 35 = .ok (.ldc 97, 2) := dk_18 97 (dk_at dksX7_isKept_1 13 rfl rfl)
theorem dX7_isKept_37 : decode cX7_isKept 37 = .ok (.invokevirtual 85, 3) := dk_182 0 85 (dk_at dksX7_isKept_1 15 rfl rfl)
theorem dX7_isKept_40 : decode cX7_isKept 40 = .ok (.ifCond .eq 7, 3) := dk_153 0 7 (dk_at dksX7_isKept_1 18 rfl rfl)
theorem dX7_isKept_43 : decode cX7_isKept 43 = .ok (.iconst 1, 1) := dk_4 (dk_at dksX7_isKept_1 21 rfl rfl)
theorem dX7_isKept_44 : decode cX7_isKept 44 = .ok (.goto 4, 3) := dk_167 0 4 (dk_at dksX7_isKept_2 0 rfl rfl)
theorem dX7_isKept_47 : decode cX7_isKept 47 = .ok (.iconst 0, 1) := dk_3 (dk_at dksX7_isKept_2 3 rfl rfl)
theorem dX7_isKept_48 : decode cX7_isKept 48 = .ok (.ireturn, 1) := dk_172 (dk_at dksX7_isKept_2 4 rfl rfl)
abbrev cX7_isStep : ByteArray := prog_14_method_9_code
def yX7_isStep : MethodName := ⟨RX7, "isStep", "()Z"⟩
def dkwX7_isStep_3 : List UInt8 := [4, 167, 0, 4, 3, 172]
abbrev dktX7_isStep_3 : List UInt8 := dkwX7_isStep_3 ++ []
def dkwX7_isStep_2 : List UInt8 := [182, 0, 85, 154, 0, 21, 42, 18, 111, 182, 0, 85, 154, 0, 12, 42, 18, 113, 182, 0, 85, 153, 0, 7]
abbrev dktX7_isStep_2 : List UInt8 := dkwX7_isStep_2 ++ dktX7_isStep_3
def dkwX7_isStep_1 : List UInt8 := [154, 0, 48, 42, 18, 105, 182, 0, 85, 154, 0, 39, 42, 18, 107, 182, 0, 85, 154, 0, 30, 42, 18, 109]
abbrev dktX7_isStep_1 : List UInt8 := dkwX7_isStep_1 ++ dktX7_isStep_2
def dkwX7_isStep_0 : List UInt8 := [42, 18, 99, 182, 0, 85, 154, 0, 66, 42, 18, 101, 182, 0, 85, 154, 0, 57, 42, 18, 103, 182, 0, 85]
abbrev dktX7_isStep_0 : List UInt8 := dkwX7_isStep_0 ++ dktX7_isStep_1
theorem dksX7_isStep_0 : cX7_isStep.data.toList.drop 0 = dktX7_isStep_0 := by decide +kernel
theorem dksX7_isStep_1 : cX7_isStep.data.toList.drop 24 = dktX7_isStep_1 := dk_seg dksX7_isStep_0 24 rfl rfl
theorem dksX7_isStep_2 : cX7_isStep.data.toList.drop 48 = dktX7_isStep_2 := dk_seg dksX7_isStep_1 24 rfl rfl
theorem dksX7_isStep_3 : cX7_isStep.data.toList.drop 72 = dktX7_isStep_3 := dk_seg dksX7_isStep_2 24 rfl rfl
theorem dX7_isStep_0 : decode cX7_isStep 0 = .ok (.aload_n 0, 1) := dk_42 (dk_at dksX7_isStep_0 0 rfl rfl)
theorem dX7_isStep_1 : decode cX7_isStep 1 = .ok (.ldc 99, 2) := dk_18 99 (dk_at dksX7_isStep_0 1 rfl rfl)
theorem dX7_isStep_3 : decode cX7_isStep 3 = .ok (.invokevirtual 85, 3) := dk_182 0 85 (dk_at dksX7_isStep_0 3 rfl rfl)
theorem dX7_isStep_6 : decode cX7_isStep 6 = .ok (.ifCond .ne 66, 3) := dk_154 0 66 (dk_at dksX7_isStep_0 6 rfl rfl)
theorem dX7_isStep_9 : decode cX7_isStep 9 = .ok (.aload_n 0, 1) := dk_42 (dk_at dksX7_isStep_0 9 rfl rfl)
theorem dX7_isStep_10 : decode cX7_isStep 10 = .ok (.ldc 101, 2) := dk_18 101 (dk_at dksX7_isStep_0 10 rfl rfl)
theorem dX7_isStep_12 : decode cX7_isStep 12 = .ok (.invokevirtual 85, 3) := dk_182 0 85 (dk_at dksX7_isStep_0 12 rfl rfl)
theorem dX7_isStep_15 : decode cX7_isStep 15 = .ok (.ifCond .ne 57, 3) := dk_154 0 57 (dk_at dksX7_isStep_0 15 rfl rfl)
theorem dX7_isStep_18 : decode cX7_isStep 18 = .ok (.aload_n 0, 1) := dk_42 (dk_at dksX7_isStep_0 18 rfl rfl)
theorem dX7_isStep_19 : decode cX7_isStep 19 = .ok (.ldc 103, 2) := dk_18 103 (dk_at dksX7_isStep_0 19 rfl rfl)
theorem dX7_isStep_21 : decode cX7_isStep 21 = .ok (.invokevirtual 85, 3) := dk_182 0 85 (dk_at dksX7_isStep_0 21 rfl rfl)
theorem dX7_isStep_24 : decode cX7_isStep 24 = .ok (.ifCond .ne 48, 3) := dk_154 0 48 (dk_at dksX7_isStep_1 0 rfl rfl)
theorem dX7_isStep_27 : decode cX7_isStep 27 = .ok (.aload_n 0, 1) := dk_42 (dk_at dksX7_isStep_1 3 rfl rfl)
theorem dX7_isStep_28 : decode cX7_isStep 28 = .ok (.ldc 105, 2) := dk_18 105 (dk_at dksX7_isStep_1 4 rfl rfl)
theorem dX7_isStep_30 : decode cX7_isStep 30 = .ok (.invokevirtual 85, 3) := dk_182 0 85 (dk_at dksX7_isStep_1 6 rfl rfl)
theorem dX7_isStep_33 : decode cX7_isStep 33 = .ok (.ifCond .ne 39, 3) := dk_154 0 39 (dk_at dksX7_isStep_1 9 rfl rfl)
theorem dX7_isStep_36 : decode cX7_isStep 36 = .ok (.aload_n 0, 1) := dk_42 (dk_at dksX7_isStep_1 12 rfl rfl)
theorem dX7_isStep_37 : decode cX7_isStep 37 = .ok (.ldc 107, 2) := dk_18 107 (dk_at dksX7_isStep_1 13 rfl rfl)
theorem dX7_isStep_39 : decode cX7_isStep 39 = .ok (.invokevirtual 85, 3) := dk_182 0 85 (dk_at dksX7_isStep_1 15 rfl rfl)
theorem dX7_isStep_42 : decode cX7_isStep 42 = .ok (.ifCond .ne 30, 3) := dk_154 0 30 (dk_at dksX7_isStep_1 18 rfl rfl)
theorem dX7_isStep_45 : decode cX7_isStep 45 = .ok (.aload_n 0, 1) := dk_42 (dk_at dksX7_isStep_1 21 rfl rfl)
theorem dX7_isStep_46 : decode cX7_isStep 46 = .ok (.ldc 109, 2) := dk_18 109 (dk_at dksX7_isStep_1 22 rfl rfl)
theorem dX7_isStep_48 : decode cX7_isStep 48 = .ok (.invokevirtual 85, 3) := dk_182 0 85 (dk_at dksX7_isStep_2 0 rfl rfl)
theorem dX7_isStep_51 : decode cX7_isStep 51 = .ok (.ifCond .ne 21, 3) := dk_154 0 21 (dk_at dksX7_isStep_2 3 rfl rfl)
theorem dX7_isStep_54 : decode cX7_isStep 54 = .ok (.aload_n 0, 1) := dk_42 (dk_at dksX7_isStep_2 6 rfl rfl)
theorem dX7_isStep_55 : decode cX7_isStep 55 = .ok (.ldc 111, 2) := dk_18 111 (dk_at dksX7_isStep_2 7 rfl rfl)
theorem dX7_isStep_57 : decode cX7_isStep 57 = .ok (.invokevirtual 85, 3) := dk_182 0 85 (dk_at dksX7_isStep_2 9 rfl rfl)
theorem dX7_isStep_60 : decode cX7_isStep 60 = .ok (.ifCond .ne 12, 3) := dk_154 0 12 (dk_at dksX7_isStep_2 12 rfl rfl)
theorem dX7_isStep_63 : decode cX7_isStep 63 = .ok (.aload_n 0, 1) := dk_42 (dk_at dksX7_isStep_2 15 rfl rfl)
theorem dX7_isStep_64 : decode cX7_isStep 64 = .ok (.ldc 113, 2) := dk_18 113 (dk_at dksX7_isStep_2 16 rfl rfl)
theorem dX7_isStep_66 : decode cX7_isStep 66 = .ok (.invokevirtual 85, 3) := dk_182 0 85 (dk_at dksX7_isStep_2 18 rfl rfl)
theorem dX7_isStep_69 : decode cX7_isStep 69 = .ok (.ifCond .eq 7, 3) := dk_153 0 7 (dk_at dksX7_isStep_2 21 rfl rfl)
theorem dX7_isStep_72 : decode cX7_isStep 72 = .ok (.iconst 1, 1) := dk_4 (dk_at dksX7_isStep_3 0 rfl rfl)
theorem dX7_isStep_73 : decode cX7_isStep 73 = .ok (.goto 4, 3) := dk_167 0 4 (dk_at dksX7_isStep_3 1 rfl rfl)
theorem dX7_isStep_76 : decode cX7_isStep 76 = .ok (.iconst 0, 1) := dk_3 (dk_at dksX7_isStep_3 4 rfl rfl)
theorem dX7_isStep_77 : decode cX7_isStep 77 = .ok (.ireturn, 1) := dk_172 (dk_at dksX7_isStep_3 5 rfl rfl)
abbrev cX7_name : ByteArray := prog_14_method_10_code
def yX7_name : MethodName := ⟨RX7, "name", "()[B"⟩
def dkwX7_name_1 : List UInt8 := [180, 0, 54, 28, 96, 182, 0, 35, 145, 84, 132, 2, 1, 167, 255, 233, 43, 176]
abbrev dktX7_name_1 : List UInt8 := dkwX7_name_1 ++ []
def dkwX7_name_0 : List UInt8 := [42, 180, 0, 51, 42, 180, 0, 54, 100, 188, 8, 76, 3, 61, 28, 43, 190, 162, 0, 23, 43, 28, 42, 42]
abbrev dktX7_name_0 : List UInt8 := dkwX7_name_0 ++ dktX7_name_1
theorem dksX7_name_0 : cX7_name.data.toList.drop 0 = dktX7_name_0 := by decide +kernel
theorem dksX7_name_1 : cX7_name.data.toList.drop 24 = dktX7_name_1 := dk_seg dksX7_name_0 24 rfl rfl
theorem dX7_name_0 : decode cX7_name 0 = .ok (.aload_n 0, 1) := dk_42 (dk_at dksX7_name_0 0 rfl rfl)
theorem dX7_name_1 : decode cX7_name 1 = .ok (.getfield 51, 3) := dk_180 0 51 (dk_at dksX7_name_0 1 rfl rfl)
theorem dX7_name_4 : decode cX7_name 4 = .ok (.aload_n 0, 1) := dk_42 (dk_at dksX7_name_0 4 rfl rfl)
theorem dX7_name_5 : decode cX7_name 5 = .ok (.getfield 54, 3) := dk_180 0 54 (dk_at dksX7_name_0 5 rfl rfl)
theorem dX7_name_8 : decode cX7_name 8 = .ok (.isub, 1) := dk_100 (dk_at dksX7_name_0 8 rfl rfl)
theorem dX7_name_9 : decode cX7_name 9 = .ok (.newarray .byte, 2) := dk_188_8 (dk_at dksX7_name_0 9 rfl rfl)
theorem dX7_name_11 : decode cX7_name 11 = .ok (.astore_n 1, 1) := dk_76 (dk_at dksX7_name_0 11 rfl rfl)
theorem dX7_name_12 : decode cX7_name 12 = .ok (.iconst 0, 1) := dk_3 (dk_at dksX7_name_0 12 rfl rfl)
theorem dX7_name_13 : decode cX7_name 13 = .ok (.istore_n 2, 1) := dk_61 (dk_at dksX7_name_0 13 rfl rfl)
theorem dX7_name_14 : decode cX7_name 14 = .ok (.iload_n 2, 1) := dk_28 (dk_at dksX7_name_0 14 rfl rfl)
theorem dX7_name_15 : decode cX7_name 15 = .ok (.aload_n 1, 1) := dk_43 (dk_at dksX7_name_0 15 rfl rfl)
theorem dX7_name_16 : decode cX7_name 16 = .ok (.arraylength, 1) := dk_190 (dk_at dksX7_name_0 16 rfl rfl)
theorem dX7_name_17 : decode cX7_name 17 = .ok (.if_icmp .ge 23, 3) := dk_162 0 23 (dk_at dksX7_name_0 17 rfl rfl)
theorem dX7_name_20 : decode cX7_name 20 = .ok (.aload_n 1, 1) := dk_43 (dk_at dksX7_name_0 20 rfl rfl)
theorem dX7_name_21 : decode cX7_name 21 = .ok (.iload_n 2, 1) := dk_28 (dk_at dksX7_name_0 21 rfl rfl)
theorem dX7_name_22 : decode cX7_name 22 = .ok (.aload_n 0, 1) := dk_42 (dk_at dksX7_name_0 22 rfl rfl)
theorem dX7_name_23 : decode cX7_name 23 = .ok (.aload_n 0, 1) := dk_42 (dk_at dksX7_name_0 23 rfl rfl)
theorem dX7_name_24 : decode cX7_name 24 = .ok (.getfield 54, 3) := dk_180 0 54 (dk_at dksX7_name_1 0 rfl rfl)
theorem dX7_name_27 : decode cX7_name 27 = .ok (.iload_n 2, 1) := dk_28 (dk_at dksX7_name_1 3 rfl rfl)
theorem dX7_name_28 : decode cX7_name 28 = .ok (.iadd, 1) := dk_96 (dk_at dksX7_name_1 4 rfl rfl)
theorem dX7_name_29 : decode cX7_name 29 = .ok (.invokevirtual 35, 3) := dk_182 0 35 (dk_at dksX7_name_1 5 rfl rfl)
theorem dX7_name_32 : decode cX7_name 32 = .ok (.i2b, 1) := dk_145 (dk_at dksX7_name_1 8 rfl rfl)
theorem dX7_name_33 : decode cX7_name 33 = .ok (.bastore, 1) := dk_84 (dk_at dksX7_name_1 9 rfl rfl)
theorem dX7_name_34 : decode cX7_name 34 = .ok (.iinc 2 1, 3) := dk_132 2 1 (dk_at dksX7_name_1 10 rfl rfl)
theorem dX7_name_37 : decode cX7_name 37 = .ok (.goto (-23), 3) := dk_167 255 233 (dk_at dksX7_name_1 13 rfl rfl)
theorem dX7_name_40 : decode cX7_name 40 = .ok (.aload_n 1, 1) := dk_43 (dk_at dksX7_name_1 16 rfl rfl)
theorem dX7_name_41 : decode cX7_name 41 = .ok (.areturn, 1) := dk_176 (dk_at dksX7_name_1 17 rfl rfl)
abbrev cX7_step : ByteArray := prog_14_method_16_code
def yX7_step : MethodName := ⟨RX7, "step", "()LRapTable$Step;"⟩
def dkwX7_step_8 : List UInt8 := [21, 8, 21, 9, 183, 0, 196, 167, 0, 14, 187, 0, 199, 89, 21, 8, 21, 9, 183, 0, 201, 176]
abbrev dktX7_step_8 : List UInt8 := dkwX7_step_8 ++ []
def dkwX7_step_7 : List UInt8 := [42, 182, 0, 175, 54, 8, 42, 4, 16, 20, 182, 0, 125, 54, 9, 28, 153, 0, 17, 187, 0, 194, 89]
abbrev dktX7_step_7 : List UInt8 := dkwX7_step_7 ++ dktX7_step_8
def dkwX7_step_6 : List UInt8 := [182, 0, 125, 183, 0, 190, 176, 28, 154, 0, 16, 21, 6, 154, 0, 11, 187, 0, 191, 89, 183, 0, 193, 176]
abbrev dktX7_step_6 : List UInt8 := dkwX7_step_6 ++ dktX7_step_7
def dkwX7_step_5 : List UInt8 := [42, 3, 16, 9, 182, 0, 125, 183, 0, 187, 176, 21, 5, 153, 0, 18, 187, 0, 188, 89, 42, 4, 16, 9]
abbrev dktX7_step_5 : List UInt8 := dkwX7_step_5 ++ dktX7_step_6
def dkwX7_step_4 : List UInt8 := [187, 0, 182, 89, 42, 4, 16, 20, 182, 0, 125, 183, 0, 184, 176, 21, 4, 153, 0, 18, 187, 0, 185, 89]
abbrev dktX7_step_4 : List UInt8 := dkwX7_step_4 ++ dktX7_step_5
def dkwX7_step_3 : List UInt8 := [176, 21, 7, 153, 0, 15, 187, 0, 179, 89, 42, 182, 0, 175, 183, 0, 181, 176, 29, 153, 0, 18]
abbrev dktX7_step_3 : List UInt8 := dkwX7_step_3 ++ dktX7_step_4
def dkwX7_step_2 : List UInt8 := [182, 0, 85, 54, 7, 42, 182, 0, 118, 27, 153, 0, 15, 187, 0, 173, 89, 42, 182, 0, 175, 183, 0, 178]
abbrev dktX7_step_2 : List UInt8 := dkwX7_step_2 ++ dktX7_step_3
def dkwX7_step_1 : List UInt8 := [182, 0, 85, 54, 4, 42, 18, 111, 182, 0, 85, 54, 5, 42, 18, 113, 182, 0, 85, 54, 6, 42, 18, 109]
abbrev dktX7_step_1 : List UInt8 := dkwX7_step_1 ++ dktX7_step_2
def dkwX7_step_0 : List UInt8 := [42, 18, 99, 182, 0, 85, 60, 42, 18, 101, 182, 0, 85, 61, 42, 18, 103, 182, 0, 85, 62, 42, 18, 105]
abbrev dktX7_step_0 : List UInt8 := dkwX7_step_0 ++ dktX7_step_1
theorem dksX7_step_0 : cX7_step.data.toList.drop 0 = dktX7_step_0 := by decide +kernel
theorem dksX7_step_1 : cX7_step.data.toList.drop 24 = dktX7_step_1 := dk_seg dksX7_step_0 24 rfl rfl
theorem dksX7_step_2 : cX7_step.data.toList.drop 48 = dktX7_step_2 := dk_seg dksX7_step_1 24 rfl rfl
theorem dksX7_step_3 : cX7_step.data.toList.drop 72 = dktX7_step_3 := dk_seg dksX7_step_2 24 rfl rfl
theorem dksX7_step_4 : cX7_step.data.toList.drop 94 = dktX7_step_4 := dk_seg dksX7_step_3 22 rfl rfl
theorem dksX7_step_5 : cX7_step.data.toList.drop 118 = dktX7_step_5 := dk_seg dksX7_step_4 24 rfl rfl
theorem dksX7_step_6 : cX7_step.data.toList.drop 142 = dktX7_step_6 := dk_seg dksX7_step_5 24 rfl rfl
theorem dksX7_step_7 : cX7_step.data.toList.drop 166 = dktX7_step_7 := dk_seg dksX7_step_6 24 rfl rfl
theorem dksX7_step_8 : cX7_step.data.toList.drop 189 = dktX7_step_8 := dk_seg dksX7_step_7 23 rfl rfl
theorem dX7_step_0 : decode cX7_step 0 = .ok (.aload_n 0, 1) := dk_42 (dk_at dksX7_step_0 0 rfl rfl)
theorem dX7_step_1 : decode cX7_step 1 = .ok (.ldc 99, 2) := dk_18 99 (dk_at dksX7_step_0 1 rfl rfl)
theorem dX7_step_3 : decode cX7_step 3 = .ok (.invokevirtual 85, 3) := dk_182 0 85 (dk_at dksX7_step_0 3 rfl rfl)
theorem dX7_step_6 : decode cX7_step 6 = .ok (.istore_n 1, 1) := dk_60 (dk_at dksX7_step_0 6 rfl rfl)
theorem dX7_step_7 : decode cX7_step 7 = .ok (.aload_n 0, 1) := dk_42 (dk_at dksX7_step_0 7 rfl rfl)
theorem dX7_step_8 : decode cX7_step 8 = .ok (.ldc 101, 2) := dk_18 101 (dk_at dksX7_step_0 8 rfl rfl)
theorem dX7_step_10 : decode cX7_step 10 = .ok (.invokevirtual 85, 3) := dk_182 0 85 (dk_at dksX7_step_0 10 rfl rfl)
theorem dX7_step_13 : decode cX7_step 13 = .ok (.istore_n 2, 1) := dk_61 (dk_at dksX7_step_0 13 rfl rfl)
theorem dX7_step_14 : decode cX7_step 14 = .ok (.aload_n 0, 1) := dk_42 (dk_at dksX7_step_0 14 rfl rfl)
theorem dX7_step_15 : decode cX7_step 15 = .ok (.ldc 103, 2) := dk_18 103 (dk_at dksX7_step_0 15 rfl rfl)
theorem dX7_step_17 : decode cX7_step 17 = .ok (.invokevirtual 85, 3) := dk_182 0 85 (dk_at dksX7_step_0 17 rfl rfl)
theorem dX7_step_20 : decode cX7_step 20 = .ok (.istore_n 3, 1) := dk_62 (dk_at dksX7_step_0 20 rfl rfl)
theorem dX7_step_21 : decode cX7_step 21 = .ok (.aload_n 0, 1) := dk_42 (dk_at dksX7_step_0 21 rfl rfl)
theorem dX7_step_22 : decode cX7_step 22 = .ok (.ldc 105, 2) := dk_18 105 (dk_at dksX7_step_0 22 rfl rfl)
theorem dX7_step_24 : decode cX7_step 24 = .ok (.invokevirtual 85, 3) := dk_182 0 85 (dk_at dksX7_step_1 0 rfl rfl)
theorem dX7_step_27 : decode cX7_step 27 = .ok (.istore 4, 2) := dk_54 4 (dk_at dksX7_step_1 3 rfl rfl)
theorem dX7_step_29 : decode cX7_step 29 = .ok (.aload_n 0, 1) := dk_42 (dk_at dksX7_step_1 5 rfl rfl)
theorem dX7_step_30 : decode cX7_step 30 = .ok (.ldc 111, 2) := dk_18 111 (dk_at dksX7_step_1 6 rfl rfl)
theorem dX7_step_32 : decode cX7_step 32 = .ok (.invokevirtual 85, 3) := dk_182 0 85 (dk_at dksX7_step_1 8 rfl rfl)
theorem dX7_step_35 : decode cX7_step 35 = .ok (.istore 5, 2) := dk_54 5 (dk_at dksX7_step_1 11 rfl rfl)
theorem dX7_step_37 : decode cX7_step 37 = .ok (.aload_n 0, 1) := dk_42 (dk_at dksX7_step_1 13 rfl rfl)
theorem dX7_step_38 : decode cX7_step 38 = .ok (.ldc 113, 2) := dk_18 113 (dk_at dksX7_step_1 14 rfl rfl)
theorem dX7_step_40 : decode cX7_step 40 = .ok (.invokevirtual 85, 3) := dk_182 0 85 (dk_at dksX7_step_1 16 rfl rfl)
theorem dX7_step_43 : decode cX7_step 43 = .ok (.istore 6, 2) := dk_54 6 (dk_at dksX7_step_1 19 rfl rfl)
theorem dX7_step_45 : decode cX7_step 45 = .ok (.aload_n 0, 1) := dk_42 (dk_at dksX7_step_1 21 rfl rfl)
theorem dX7_step_46 : decode cX7_step 46 = .ok (.ldc 109, 2) := dk_18 109 (dk_at dksX7_step_1 22 rfl rfl)
theorem dX7_step_48 : decode cX7_step 48 = .ok (.invokevirtual 85, 3) := dk_182 0 85 (dk_at dksX7_step_2 0 rfl rfl)
theorem dX7_step_51 : decode cX7_step 51 = .ok (.istore 7, 2) := dk_54 7 (dk_at dksX7_step_2 3 rfl rfl)
theorem dX7_step_53 : decode cX7_step 53 = .ok (.aload_n 0, 1) := dk_42 (dk_at dksX7_step_2 5 rfl rfl)
theorem dX7_step_54 : decode cX7_step 54 = .ok (.invokevirtual 118, 3) := dk_182 0 118 (dk_at dksX7_step_2 6 rfl rfl)
theorem dX7_step_57 : decode cX7_step 57 = .ok (.iload_n 1, 1) := dk_27 (dk_at dksX7_step_2 9 rfl rfl)
theorem dX7_step_58 : decode cX7_step 58 = .ok (.ifCond .eq 15, 3) := dk_153 0 15 (dk_at dksX7_step_2 10 rfl rfl)
theorem dX7_step_61 : decode cX7_step 61 = .ok (.new 173, 3) := dk_187 0 173 (dk_at dksX7_step_2 13 rfl rfl)
theorem dX7_step_64 : decode cX7_step 64 = .ok (.dup, 1) := dk_89 (dk_at dksX7_step_2 16 rfl rfl)
theorem dX7_step_65 : decode cX7_step 65 = .ok (.aload_n 0, 1) := dk_42 (dk_at dksX7_step_2 17 rfl rfl)
theorem dX7_step_66 : decode cX7_step 66 = .ok (.invokevirtual 175, 3) := dk_182 0 175 (dk_at dksX7_step_2 18 rfl rfl)
theorem dX7_step_69 : decode cX7_step 69 = .ok (.invokespecial 178, 3) := dk_183 0 178 (dk_at dksX7_step_2 21 rfl rfl)
theorem dX7_step_72 : decode cX7_step 72 = .ok (.areturn, 1) := dk_176 (dk_at dksX7_step_3 0 rfl rfl)
theorem dX7_step_73 : decode cX7_step 73 = .ok (.iload 7, 2) := dk_21 7 (dk_at dksX7_step_3 1 rfl rfl)
theorem dX7_step_75 : decode cX7_step 75 = .ok (.ifCond .eq 15, 3) := dk_153 0 15 (dk_at dksX7_step_3 3 rfl rfl)
theorem dX7_step_78 : decode cX7_step 78 = .ok (.new 179, 3) := dk_187 0 179 (dk_at dksX7_step_3 6 rfl rfl)
theorem dX7_step_81 : decode cX7_step 81 = .ok (.dup, 1) := dk_89 (dk_at dksX7_step_3 9 rfl rfl)
theorem dX7_step_82 : decode cX7_step 82 = .ok (.aload_n 0, 1) := dk_42 (dk_at dksX7_step_3 10 rfl rfl)
theorem dX7_step_83 : decode cX7_step 83 = .ok (.invokevirtual 175, 3) := dk_182 0 175 (dk_at dksX7_step_3 11 rfl rfl)
theorem dX7_step_86 : decode cX7_step 86 = .ok (.invokespecial 181, 3) := dk_183 0 181 (dk_at dksX7_step_3 14 rfl rfl)
theorem dX7_step_89 : decode cX7_step 89 = .ok (.areturn, 1) := dk_176 (dk_at dksX7_step_3 17 rfl rfl)
theorem dX7_step_90 : decode cX7_step 90 = .ok (.iload_n 3, 1) := dk_29 (dk_at dksX7_step_3 18 rfl rfl)
theorem dX7_step_91 : decode cX7_step 91 = .ok (.ifCond .eq 18, 3) := dk_153 0 18 (dk_at dksX7_step_3 19 rfl rfl)
theorem dX7_step_94 : decode cX7_step 94 = .ok (.new 182, 3) := dk_187 0 182 (dk_at dksX7_step_4 0 rfl rfl)
theorem dX7_step_97 : decode cX7_step 97 = .ok (.dup, 1) := dk_89 (dk_at dksX7_step_4 3 rfl rfl)
theorem dX7_step_98 : decode cX7_step 98 = .ok (.aload_n 0, 1) := dk_42 (dk_at dksX7_step_4 4 rfl rfl)
theorem dX7_step_99 : decode cX7_step 99 = .ok (.iconst 1, 1) := dk_4 (dk_at dksX7_step_4 5 rfl rfl)
theorem dX7_step_100 : decode cX7_step 100 = .ok (.bipush 20, 2) := dk_16 20 (dk_at dksX7_step_4 6 rfl rfl)
theorem dX7_step_102 : decode cX7_step 102 = .ok (.invokevirtual 125, 3) := dk_182 0 125 (dk_at dksX7_step_4 8 rfl rfl)
theorem dX7_step_105 : decode cX7_step 105 = .ok (.invokespecial 184, 3) := dk_183 0 184 (dk_at dksX7_step_4 11 rfl rfl)
theorem dX7_step_108 : decode cX7_step 108 = .ok (.areturn, 1) := dk_176 (dk_at dksX7_step_4 14 rfl rfl)
theorem dX7_step_109 : decode cX7_step 109 = .ok (.iload 4, 2) := dk_21 4 (dk_at dksX7_step_4 15 rfl rfl)
theorem dX7_step_111 : decode cX7_step 111 = .ok (.ifCond .eq 18, 3) := dk_153 0 18 (dk_at dksX7_step_4 17 rfl rfl)
theorem dX7_step_114 : decode cX7_step 114 = .ok (.new 185, 3) := dk_187 0 185 (dk_at dksX7_step_4 20 rfl rfl)
theorem dX7_step_117 : decode cX7_step 117 = .ok (.dup, 1) := dk_89 (dk_at dksX7_step_4 23 rfl rfl)
theorem dX7_step_118 : decode cX7_step 118 = .ok (.aload_n 0, 1) := dk_42 (dk_at dksX7_step_5 0 rfl rfl)
theorem dX7_step_119 : decode cX7_step 119 = .ok (.iconst 0, 1) := dk_3 (dk_at dksX7_step_5 1 rfl rfl)
theorem dX7_step_120 : decode cX7_step 120 = .ok (.bipush 9, 2) := dk_16 9 (dk_at dksX7_step_5 2 rfl rfl)
theorem dX7_step_122 : decode cX7_step 122 = .ok (.invokevirtual 125, 3) := dk_182 0 125 (dk_at dksX7_step_5 4 rfl rfl)
theorem dX7_step_125 : decode cX7_step 125 = .ok (.invokespecial 187, 3) := dk_183 0 187 (dk_at dksX7_step_5 7 rfl rfl)
theorem dX7_step_128 : decode cX7_step 128 = .ok (.areturn, 1) := dk_176 (dk_at dksX7_step_5 10 rfl rfl)
theorem dX7_step_129 : decode cX7_step 129 = .ok (.iload 5, 2) := dk_21 5 (dk_at dksX7_step_5 11 rfl rfl)
theorem dX7_step_131 : decode cX7_step 131 = .ok (.ifCond .eq 18, 3) := dk_153 0 18 (dk_at dksX7_step_5 13 rfl rfl)
theorem dX7_step_134 : decode cX7_step 134 = .ok (.new 188, 3) := dk_187 0 188 (dk_at dksX7_step_5 16 rfl rfl)
theorem dX7_step_137 : decode cX7_step 137 = .ok (.dup, 1) := dk_89 (dk_at dksX7_step_5 19 rfl rfl)
theorem dX7_step_138 : decode cX7_step 138 = .ok (.aload_n 0, 1) := dk_42 (dk_at dksX7_step_5 20 rfl rfl)
theorem dX7_step_139 : decode cX7_step 139 = .ok (.iconst 1, 1) := dk_4 (dk_at dksX7_step_5 21 rfl rfl)
theorem dX7_step_140 : decode cX7_step 140 = .ok (.bipush 9, 2) := dk_16 9 (dk_at dksX7_step_5 22 rfl rfl)
theorem dX7_step_142 : decode cX7_step 142 = .ok (.invokevirtual 125, 3) := dk_182 0 125 (dk_at dksX7_step_6 0 rfl rfl)
theorem dX7_step_145 : decode cX7_step 145 = .ok (.invokespecial 190, 3) := dk_183 0 190 (dk_at dksX7_step_6 3 rfl rfl)
theorem dX7_step_148 : decode cX7_step 148 = .ok (.areturn, 1) := dk_176 (dk_at dksX7_step_6 6 rfl rfl)
theorem dX7_step_149 : decode cX7_step 149 = .ok (.iload_n 2, 1) := dk_28 (dk_at dksX7_step_6 7 rfl rfl)
theorem dX7_step_150 : decode cX7_step 150 = .ok (.ifCond .ne 16, 3) := dk_154 0 16 (dk_at dksX7_step_6 8 rfl rfl)
theorem dX7_step_153 : decode cX7_step 153 = .ok (.iload 6, 2) := dk_21 6 (dk_at dksX7_step_6 11 rfl rfl)
theorem dX7_step_155 : decode cX7_step 155 = .ok (.ifCond .ne 11, 3) := dk_154 0 11 (dk_at dksX7_step_6 13 rfl rfl)
theorem dX7_step_158 : decode cX7_step 158 = .ok (.new 191, 3) := dk_187 0 191 (dk_at dksX7_step_6 16 rfl rfl)
theorem dX7_step_161 : decode cX7_step 161 = .ok (.dup, 1) := dk_89 (dk_at dksX7_step_6 19 rfl rfl)
theorem dX7_step_162 : decode cX7_step 162 = .ok (.invokespecial 193, 3) := dk_183 0 193 (dk_at dksX7_step_6 20 rfl rfl)
theorem dX7_step_165 : decode cX7_step 165 = .ok (.areturn, 1) := dk_176 (dk_at dksX7_step_6 23 rfl rfl)
theorem dX7_step_166 : decode cX7_step 166 = .ok (.aload_n 0, 1) := dk_42 (dk_at dksX7_step_7 0 rfl rfl)
theorem dX7_step_167 : decode cX7_step 167 = .ok (.invokevirtual 175, 3) := dk_182 0 175 (dk_at dksX7_step_7 1 rfl rfl)
theorem dX7_step_170 : decode cX7_step 170 = .ok (.istore 8, 2) := dk_54 8 (dk_at dksX7_step_7 4 rfl rfl)
theorem dX7_step_172 : decode cX7_step 172 = .ok (.aload_n 0, 1) := dk_42 (dk_at dksX7_step_7 6 rfl rfl)
theorem dX7_step_173 : decode cX7_step 173 = .ok (.iconst 1, 1) := dk_4 (dk_at dksX7_step_7 7 rfl rfl)
theorem dX7_step_174 : decode cX7_step 174 = .ok (.bipush 20, 2) := dk_16 20 (dk_at dksX7_step_7 8 rfl rfl)
theorem dX7_step_176 : decode cX7_step 176 = .ok (.invokevirtual 125, 3) := dk_182 0 125 (dk_at dksX7_step_7 10 rfl rfl)
theorem dX7_step_179 : decode cX7_step 179 = .ok (.istore 9, 2) := dk_54 9 (dk_at dksX7_step_7 13 rfl rfl)
theorem dX7_step_181 : decode cX7_step 181 = .ok (.iload_n 2, 1) := dk_28 (dk_at dksX7_step_7 15 rfl rfl)
theorem dX7_step_182 : decode cX7_step 182 = .ok (.ifCond .eq 17, 3) := dk_153 0 17 (dk_at dksX7_step_7 16 rfl rfl)
theorem dX7_step_185 : decode cX7_step 185 = .ok (.new 194, 3) := dk_187 0 194 (dk_at dksX7_step_7 19 rfl rfl)
theorem dX7_step_188 : decode cX7_step 188 = .ok (.dup, 1) := dk_89 (dk_at dksX7_step_7 22 rfl rfl)
theorem dX7_step_189 : decode cX7_step 189 = .ok (.iload 8, 2) := dk_21 8 (dk_at dksX7_step_8 0 rfl rfl)
theorem dX7_step_191 : decode cX7_step 191 = .ok (.iload 9, 2) := dk_21 9 (dk_at dksX7_step_8 2 rfl rfl)
theorem dX7_step_193 : decode cX7_step 193 = .ok (.invokespecial 196, 3) := dk_183 0 196 (dk_at dksX7_step_8 4 rfl rfl)
theorem dX7_step_196 : decode cX7_step 196 = .ok (.goto 14, 3) := dk_167 0 14 (dk_at dksX7_step_8 7 rfl rfl)
theorem dX7_step_199 : decode cX7_step 199 = .ok (.new 199, 3) := dk_187 0 199 (dk_at dksX7_step_8 10 rfl rfl)
theorem dX7_step_202 : decode cX7_step 202 = .ok (.dup, 1) := dk_89 (dk_at dksX7_step_8 13 rfl rfl)
theorem dX7_step_203 : decode cX7_step 203 = .ok (.iload 8, 2) := dk_21 8 (dk_at dksX7_step_8 14 rfl rfl)
theorem dX7_step_205 : decode cX7_step 205 = .ok (.iload 9, 2) := dk_21 9 (dk_at dksX7_step_8 16 rfl rfl)
theorem dX7_step_207 : decode cX7_step 207 = .ok (.invokespecial 201, 3) := dk_183 0 201 (dk_at dksX7_step_8 18 rfl rfl)
theorem dX7_step_210 : decode cX7_step 210 = .ok (.areturn, 1) := dk_176 (dk_at dksX7_step_8 21 rfl rfl)
abbrev cX7_side : ByteArray := prog_14_method_12_code
def yX7_side : MethodName := ⟨RX7, "side", "()I"⟩
def dkwX7_side_2 : List UInt8 := [182, 0, 118, 27, 172]
abbrev dktX7_side_2 : List UInt8 := dkwX7_side_2 ++ []
def dkwX7_side_1 : List UInt8 := [18, 97, 182, 0, 85, 153, 0, 7, 4, 167, 0, 4, 3, 60, 42, 180, 0, 70, 154, 0, 7, 42]
abbrev dktX7_side_1 : List UInt8 := dkwX7_side_1 ++ dktX7_side_2
def dkwX7_side_0 : List UInt8 := [42, 18, 95, 182, 0, 85, 154, 0, 17, 42, 18, 97, 182, 0, 85, 154, 0, 8, 42, 5, 182, 0, 115, 42]
abbrev dktX7_side_0 : List UInt8 := dkwX7_side_0 ++ dktX7_side_1
theorem dksX7_side_0 : cX7_side.data.toList.drop 0 = dktX7_side_0 := by decide +kernel
theorem dksX7_side_1 : cX7_side.data.toList.drop 24 = dktX7_side_1 := dk_seg dksX7_side_0 24 rfl rfl
theorem dksX7_side_2 : cX7_side.data.toList.drop 46 = dktX7_side_2 := dk_seg dksX7_side_1 22 rfl rfl
theorem dX7_side_0 : decode cX7_side 0 = .ok (.aload_n 0, 1) := dk_42 (dk_at dksX7_side_0 0 rfl rfl)
theorem dX7_side_1 : decode cX7_side 1 = .ok (.ldc 95, 2) := dk_18 95 (dk_at dksX7_side_0 1 rfl rfl)
theorem dX7_side_3 : decode cX7_side 3 = .ok (.invokevirtual 85, 3) := dk_182 0 85 (dk_at dksX7_side_0 3 rfl rfl)
theorem dX7_side_6 : decode cX7_side 6 = .ok (.ifCond .ne 17, 3) := dk_154 0 17 (dk_at dksX7_side_0 6 rfl rfl)
theorem dX7_side_9 : decode cX7_side 9 = .ok (.aload_n 0, 1) := dk_42 (dk_at dksX7_side_0 9 rfl rfl)
theorem dX7_side_10 : decode cX7_side 10 = .ok (.ldc 97, 2) := dk_18 97 (dk_at dksX7_side_0 10 rfl rfl)
theorem dX7_side_12 : decode cX7_side 12 = .ok (.invokevirtual 85, 3) := dk_182 0 85 (dk_at dksX7_side_0 12 rfl rfl)
theorem dX7_side_15 : decode cX7_side 15 = .ok (.ifCond .ne 8, 3) := dk_154 0 8 (dk_at dksX7_side_0 15 rfl rfl)
theorem dX7_side_18 : decode cX7_side 18 = .ok (.aload_n 0, 1) := dk_42 (dk_at dksX7_side_0 18 rfl rfl)
theorem dX7_side_19 : decode cX7_side 19 = .ok (.iconst 2, 1) := dk_5 (dk_at dksX7_side_0 19 rfl rfl)
theorem dX7_side_20 : decode cX7_side 20 = .ok (.invokevirtual 115, 3) := dk_182 0 115 (dk_at dksX7_side_0 20 rfl rfl)
theorem dX7_side_23 : decode cX7_side 23 = .ok (.aload_n 0, 1) := dk_42 (dk_at dksX7_side_0 23 rfl rfl)
theorem dX7_side_24 : decode cX7_side 24 = .ok (.ldc 97, 2) := dk_18 97 (dk_at dksX7_side_1 0 rfl rfl)
theorem dX7_side_26 : decode cX7_side 26 = .ok (.invokevirtual 85, 3) := dk_182 0 85 (dk_at dksX7_side_1 2 rfl rfl)
theorem dX7_side_29 : decode cX7_side 29 = .ok (.ifCond .eq 7, 3) := dk_153 0 7 (dk_at dksX7_side_1 5 rfl rfl)
theorem dX7_side_32 : decode cX7_side 32 = .ok (.iconst 1, 1) := dk_4 (dk_at dksX7_side_1 8 rfl rfl)
theorem dX7_side_33 : decode cX7_side 33 = .ok (.goto 4, 3) := dk_167 0 4 (dk_at dksX7_side_1 9 rfl rfl)
theorem dX7_side_36 : decode cX7_side 36 = .ok (.iconst 0, 1) := dk_3 (dk_at dksX7_side_1 12 rfl rfl)
theorem dX7_side_37 : decode cX7_side 37 = .ok (.istore_n 1, 1) := dk_60 (dk_at dksX7_side_1 13 rfl rfl)
theorem dX7_side_38 : decode cX7_side 38 = .ok (.aload_n 0, 1) := dk_42 (dk_at dksX7_side_1 14 rfl rfl)
theorem dX7_side_39 : decode cX7_side 39 = .ok (.getfield 70, 3) := dk_180 0 70 (dk_at dksX7_side_1 15 rfl rfl)
theorem dX7_side_42 : decode cX7_side 42 = .ok (.ifCond .ne 7, 3) := dk_154 0 7 (dk_at dksX7_side_1 18 rfl rfl)
theorem dX7_side_45 : decode cX7_side 45 = .ok (.aload_n 0, 1) := dk_42 (dk_at dksX7_side_1 21 rfl rfl)
theorem dX7_side_46 : decode cX7_side 46 = .ok (.invokevirtual 118, 3) := dk_182 0 118 (dk_at dksX7_side_2 0 rfl rfl)
theorem dX7_side_49 : decode cX7_side 49 = .ok (.iload_n 1, 1) := dk_27 (dk_at dksX7_side_2 3 rfl rfl)
theorem dX7_side_50 : decode cX7_side 50 = .ok (.ireturn, 1) := dk_172 (dk_at dksX7_side_2 4 rfl rfl)
abbrev cX7_number : ByteArray := prog_14_method_11_code
def yX7_number : MethodName := ⟨RX7, "number", "(II)I"⟩
def dkwX7_number_2 : List UInt8 := [180, 0, 67, 62, 42, 180, 0, 70, 153, 0, 5, 3, 172, 42, 182, 0, 118, 29, 172]
abbrev dktX7_number_2 : List UInt8 := dkwX7_number_2 ++ []
def dkwX7_number_1 : List UInt8 := [167, 0, 23, 42, 180, 0, 67, 133, 27, 133, 28, 133, 184, 0, 43, 154, 0, 8, 42, 6, 182, 0, 115, 42]
abbrev dktX7_number_1 : List UInt8 := dkwX7_number_1 ++ dktX7_number_2
def dkwX7_number_0 : List UInt8 := [42, 180, 0, 70, 153, 0, 5, 3, 172, 42, 180, 0, 57, 5, 159, 0, 11, 42, 5, 182, 0, 115]
abbrev dktX7_number_0 : List UInt8 := dkwX7_number_0 ++ dktX7_number_1
theorem dksX7_number_0 : cX7_number.data.toList.drop 0 = dktX7_number_0 := by decide +kernel
theorem dksX7_number_1 : cX7_number.data.toList.drop 22 = dktX7_number_1 := dk_seg dksX7_number_0 22 rfl rfl
theorem dksX7_number_2 : cX7_number.data.toList.drop 46 = dktX7_number_2 := dk_seg dksX7_number_1 24 rfl rfl
theorem dX7_number_0 : decode cX7_number 0 = .ok (.aload_n 0, 1) := dk_42 (dk_at dksX7_number_0 0 rfl rfl)
theorem dX7_number_1 : decode cX7_number 1 = .ok (.getfield 70, 3) := dk_180 0 70 (dk_at dksX7_number_0 1 rfl rfl)
theorem dX7_number_4 : decode cX7_number 4 = .ok (.ifCond .eq 5, 3) := dk_153 0 5 (dk_at dksX7_number_0 4 rfl rfl)
theorem dX7_number_7 : decode cX7_number 7 = .ok (.iconst 0, 1) := dk_3 (dk_at dksX7_number_0 7 rfl rfl)
theorem dX7_number_8 : decode cX7_number 8 = .ok (.ireturn, 1) := dk_172 (dk_at dksX7_number_0 8 rfl rfl)
theorem dX7_number_9 : decode cX7_number 9 = .ok (.aload_n 0, 1) := dk_42 (dk_at dksX7_number_0 9 rfl rfl)
theorem dX7_number_10 : decode cX7_number 10 = .ok (.getfield 57, 3) := dk_180 0 57 (dk_at dksX7_number_0 10 rfl rfl)
theorem dX7_number_13 : decode cX7_number 13 = .ok (.iconst 2, 1) := dk_5 (dk_at dksX7_number_0 13 rfl rfl)
theorem dX7_number_14 : decode cX7_number 14 = .ok (.if_icmp .eq 11, 3) := dk_159 0 11 (dk_at dksX7_number_0 14 rfl rfl)
theorem dX7_number_17 : decode cX7_number 17 = .ok (.aload_n 0, 1) := dk_42 (dk_at dksX7_number_0 17 rfl rfl)
theorem dX7_number_18 : decode cX7_number 18 = .ok (.iconst 2, 1) := dk_5 (dk_at dksX7_number_0 18 rfl rfl)
theorem dX7_number_19 : decode cX7_number 19 = .ok (.invokevirtual 115, 3) := dk_182 0 115 (dk_at dksX7_number_0 19 rfl rfl)
theorem dX7_number_22 : decode cX7_number 22 = .ok (.goto 23, 3) := dk_167 0 23 (dk_at dksX7_number_1 0 rfl rfl)
theorem dX7_number_25 : decode cX7_number 25 = .ok (.aload_n 0, 1) := dk_42 (dk_at dksX7_number_1 3 rfl rfl)
theorem dX7_number_26 : decode cX7_number 26 = .ok (.getfield 67, 3) := dk_180 0 67 (dk_at dksX7_number_1 4 rfl rfl)
theorem dX7_number_29 : decode cX7_number 29 = .ok (.i2l, 1) := dk_133 (dk_at dksX7_number_1 7 rfl rfl)
theorem dX7_number_30 : decode cX7_number 30 = .ok (.iload_n 1, 1) := dk_27 (dk_at dksX7_number_1 8 rfl rfl)
theorem dX7_number_31 : decode cX7_number 31 = .ok (.i2l, 1) := dk_133 (dk_at dksX7_number_1 9 rfl rfl)
theorem dX7_number_32 : decode cX7_number 32 = .ok (.iload_n 2, 1) := dk_28 (dk_at dksX7_number_1 10 rfl rfl)
theorem dX7_number_33 : decode cX7_number 33 = .ok (.i2l, 1) := dk_133 (dk_at dksX7_number_1 11 rfl rfl)
theorem dX7_number_34 : decode cX7_number 34 = .ok (.invokestatic 43, 3) := dk_184 0 43 (dk_at dksX7_number_1 12 rfl rfl)
theorem dX7_number_37 : decode cX7_number 37 = .ok (.ifCond .ne 8, 3) := dk_154 0 8 (dk_at dksX7_number_1 15 rfl rfl)
theorem dX7_number_40 : decode cX7_number 40 = .ok (.aload_n 0, 1) := dk_42 (dk_at dksX7_number_1 18 rfl rfl)
theorem dX7_number_41 : decode cX7_number 41 = .ok (.iconst 3, 1) := dk_6 (dk_at dksX7_number_1 19 rfl rfl)
theorem dX7_number_42 : decode cX7_number 42 = .ok (.invokevirtual 115, 3) := dk_182 0 115 (dk_at dksX7_number_1 20 rfl rfl)
theorem dX7_number_45 : decode cX7_number 45 = .ok (.aload_n 0, 1) := dk_42 (dk_at dksX7_number_1 23 rfl rfl)
theorem dX7_number_46 : decode cX7_number 46 = .ok (.getfield 67, 3) := dk_180 0 67 (dk_at dksX7_number_2 0 rfl rfl)
theorem dX7_number_49 : decode cX7_number 49 = .ok (.istore_n 3, 1) := dk_62 (dk_at dksX7_number_2 3 rfl rfl)
theorem dX7_number_50 : decode cX7_number 50 = .ok (.aload_n 0, 1) := dk_42 (dk_at dksX7_number_2 4 rfl rfl)
theorem dX7_number_51 : decode cX7_number 51 = .ok (.getfield 70, 3) := dk_180 0 70 (dk_at dksX7_number_2 5 rfl rfl)
theorem dX7_number_54 : decode cX7_number 54 = .ok (.ifCond .eq 5, 3) := dk_153 0 5 (dk_at dksX7_number_2 8 rfl rfl)
theorem dX7_number_57 : decode cX7_number 57 = .ok (.iconst 0, 1) := dk_3 (dk_at dksX7_number_2 11 rfl rfl)
theorem dX7_number_58 : decode cX7_number 58 = .ok (.ireturn, 1) := dk_172 (dk_at dksX7_number_2 12 rfl rfl)
theorem dX7_number_59 : decode cX7_number 59 = .ok (.aload_n 0, 1) := dk_42 (dk_at dksX7_number_2 13 rfl rfl)
theorem dX7_number_60 : decode cX7_number 60 = .ok (.invokevirtual 118, 3) := dk_182 0 118 (dk_at dksX7_number_2 14 rfl rfl)
theorem dX7_number_63 : decode cX7_number 63 = .ok (.iload_n 3, 1) := dk_29 (dk_at dksX7_number_2 17 rfl rfl)
theorem dX7_number_64 : decode cX7_number 64 = .ok (.ireturn, 1) := dk_172 (dk_at dksX7_number_2 18 rfl rfl)
abbrev cX7_memory : ByteArray := prog_14_method_14_code
def yX7_memory : MethodName := ⟨RX7, "memory", "()V"⟩
def dkwX7_memory_1 : List UInt8 := [181, 0, 129, 42, 28, 181, 0, 132, 177]
abbrev dktX7_memory_1 : List UInt8 := dkwX7_memory_1 ++ []
def dkwX7_memory_0 : List UInt8 := [42, 182, 0, 118, 42, 3, 16, 20, 182, 0, 125, 60, 42, 3, 16, 20, 182, 0, 125, 61, 42, 27]
abbrev dktX7_memory_0 : List UInt8 := dkwX7_memory_0 ++ dktX7_memory_1
theorem dksX7_memory_0 : cX7_memory.data.toList.drop 0 = dktX7_memory_0 := by decide +kernel
theorem dksX7_memory_1 : cX7_memory.data.toList.drop 22 = dktX7_memory_1 := dk_seg dksX7_memory_0 22 rfl rfl
theorem dX7_memory_0 : decode cX7_memory 0 = .ok (.aload_n 0, 1) := dk_42 (dk_at dksX7_memory_0 0 rfl rfl)
theorem dX7_memory_1 : decode cX7_memory 1 = .ok (.invokevirtual 118, 3) := dk_182 0 118 (dk_at dksX7_memory_0 1 rfl rfl)
theorem dX7_memory_4 : decode cX7_memory 4 = .ok (.aload_n 0, 1) := dk_42 (dk_at dksX7_memory_0 4 rfl rfl)
theorem dX7_memory_5 : decode cX7_memory 5 = .ok (.iconst 0, 1) := dk_3 (dk_at dksX7_memory_0 5 rfl rfl)
theorem dX7_memory_6 : decode cX7_memory 6 = .ok (.bipush 20, 2) := dk_16 20 (dk_at dksX7_memory_0 6 rfl rfl)
theorem dX7_memory_8 : decode cX7_memory 8 = .ok (.invokevirtual 125, 3) := dk_182 0 125 (dk_at dksX7_memory_0 8 rfl rfl)
theorem dX7_memory_11 : decode cX7_memory 11 = .ok (.istore_n 1, 1) := dk_60 (dk_at dksX7_memory_0 11 rfl rfl)
theorem dX7_memory_12 : decode cX7_memory 12 = .ok (.aload_n 0, 1) := dk_42 (dk_at dksX7_memory_0 12 rfl rfl)
theorem dX7_memory_13 : decode cX7_memory 13 = .ok (.iconst 0, 1) := dk_3 (dk_at dksX7_memory_0 13 rfl rfl)
theorem dX7_memory_14 : decode cX7_memory 14 = .ok (.bipush 20, 2) := dk_16 20 (dk_at dksX7_memory_0 14 rfl rfl)
theorem dX7_memory_16 : decode cX7_memory 16 = .ok (.invokevirtual 125, 3) := dk_182 0 125 (dk_at dksX7_memory_0 16 rfl rfl)
theorem dX7_memory_19 : decode cX7_memory 19 = .ok (.istore_n 2, 1) := dk_61 (dk_at dksX7_memory_0 19 rfl rfl)
theorem dX7_memory_20 : decode cX7_memory 20 = .ok (.aload_n 0, 1) := dk_42 (dk_at dksX7_memory_0 20 rfl rfl)
theorem dX7_memory_21 : decode cX7_memory 21 = .ok (.iload_n 1, 1) := dk_27 (dk_at dksX7_memory_0 21 rfl rfl)
theorem dX7_memory_22 : decode cX7_memory 22 = .ok (.putfield 129, 3) := dk_181 0 129 (dk_at dksX7_memory_1 0 rfl rfl)
theorem dX7_memory_25 : decode cX7_memory 25 = .ok (.aload_n 0, 1) := dk_42 (dk_at dksX7_memory_1 3 rfl rfl)
theorem dX7_memory_26 : decode cX7_memory 26 = .ok (.iload_n 2, 1) := dk_28 (dk_at dksX7_memory_1 4 rfl rfl)
theorem dX7_memory_27 : decode cX7_memory 27 = .ok (.putfield 132, 3) := dk_181 0 132 (dk_at dksX7_memory_1 5 rfl rfl)
theorem dX7_memory_30 : decode cX7_memory 30 = .ok (.return_, 1) := dk_177 (dk_at dksX7_memory_1 8 rfl rfl)
abbrev cX8_init : ByteArray := prog_24_method_1_code
def yX8_init : MethodName := ⟨RX8, "<init>", "([B)V"⟩
def dkwX8_init_0 : List UInt8 := [42, 183, 0, 1, 42, 187, 0, 7, 89, 4, 183, 0, 9, 181, 0, 12, 42, 43, 181, 0, 18, 177]
abbrev dktX8_init_0 : List UInt8 := dkwX8_init_0 ++ []
theorem dksX8_init_0 : cX8_init.data.toList.drop 0 = dktX8_init_0 := by decide +kernel
theorem dX8_init_0 : decode cX8_init 0 = .ok (.aload_n 0, 1) := dk_42 (dk_at dksX8_init_0 0 rfl rfl)
theorem dX8_init_1 : decode cX8_init 1 = .ok (.invokespecial 1, 3) := dk_183 0 1 (dk_at dksX8_init_0 1 rfl rfl)
theorem dX8_init_4 : decode cX8_init 4 = .ok (.aload_n 0, 1) := dk_42 (dk_at dksX8_init_0 4 rfl rfl)
theorem dX8_init_5 : decode cX8_init 5 = .ok (.new 7, 3) := dk_187 0 7 (dk_at dksX8_init_0 5 rfl rfl)
theorem dX8_init_8 : decode cX8_init 8 = .ok (.dup, 1) := dk_89 (dk_at dksX8_init_0 8 rfl rfl)
theorem dX8_init_9 : decode cX8_init 9 = .ok (.iconst 1, 1) := dk_4 (dk_at dksX8_init_0 9 rfl rfl)
theorem dX8_init_10 : decode cX8_init 10 = .ok (.invokespecial 9, 3) := dk_183 0 9 (dk_at dksX8_init_0 10 rfl rfl)
theorem dX8_init_13 : decode cX8_init 13 = .ok (.putfield 12, 3) := dk_181 0 12 (dk_at dksX8_init_0 13 rfl rfl)
theorem dX8_init_16 : decode cX8_init 16 = .ok (.aload_n 0, 1) := dk_42 (dk_at dksX8_init_0 16 rfl rfl)
theorem dX8_init_17 : decode cX8_init 17 = .ok (.aload_n 1, 1) := dk_43 (dk_at dksX8_init_0 17 rfl rfl)
theorem dX8_init_18 : decode cX8_init 18 = .ok (.putfield 18, 3) := dk_181 0 18 (dk_at dksX8_init_0 18 rfl rfl)
theorem dX8_init_21 : decode cX8_init 21 = .ok (.return_, 1) := dk_177 (dk_at dksX8_init_0 21 rfl rfl)
abbrev cX8_isCalled : ByteArray := prog_24_method_3_code
def yX8_isCalled : MethodName := ⟨RX8, "isCalled", "([B)Z"⟩
def dkwX8_isCalled_1 : List UInt8 := [180, 0, 18, 28, 51, 43, 28, 51, 159, 0, 5, 3, 172, 132, 2, 1, 167, 255, 230, 4, 172]
abbrev dktX8_isCalled_1 : List UInt8 := dkwX8_isCalled_1 ++ []
def dkwX8_isCalled_0 : List UInt8 := [43, 190, 42, 180, 0, 18, 190, 159, 0, 5, 3, 172, 3, 61, 28, 42, 180, 0, 18, 190, 162, 0, 23, 42]
abbrev dktX8_isCalled_0 : List UInt8 := dkwX8_isCalled_0 ++ dktX8_isCalled_1
theorem dksX8_isCalled_0 : cX8_isCalled.data.toList.drop 0 = dktX8_isCalled_0 := by decide +kernel
theorem dksX8_isCalled_1 : cX8_isCalled.data.toList.drop 24 = dktX8_isCalled_1 := dk_seg dksX8_isCalled_0 24 rfl rfl
theorem dX8_isCalled_0 : decode cX8_isCalled 0 = .ok (.aload_n 1, 1) := dk_43 (dk_at dksX8_isCalled_0 0 rfl rfl)
theorem dX8_isCalled_1 : decode cX8_isCalled 1 = .ok (.arraylength, 1) := dk_190 (dk_at dksX8_isCalled_0 1 rfl rfl)
theorem dX8_isCalled_2 : decode cX8_isCalled 2 = .ok (.aload_n 0, 1) := dk_42 (dk_at dksX8_isCalled_0 2 rfl rfl)
theorem dX8_isCalled_3 : decode cX8_isCalled 3 = .ok (.getfield 18, 3) := dk_180 0 18 (dk_at dksX8_isCalled_0 3 rfl rfl)
theorem dX8_isCalled_6 : decode cX8_isCalled 6 = .ok (.arraylength, 1) := dk_190 (dk_at dksX8_isCalled_0 6 rfl rfl)
theorem dX8_isCalled_7 : decode cX8_isCalled 7 = .ok (.if_icmp .eq 5, 3) := dk_159 0 5 (dk_at dksX8_isCalled_0 7 rfl rfl)
theorem dX8_isCalled_10 : decode cX8_isCalled 10 = .ok (.iconst 0, 1) := dk_3 (dk_at dksX8_isCalled_0 10 rfl rfl)
theorem dX8_isCalled_11 : decode cX8_isCalled 11 = .ok (.ireturn, 1) := dk_172 (dk_at dksX8_isCalled_0 11 rfl rfl)
theorem dX8_isCalled_12 : decode cX8_isCalled 12 = .ok (.iconst 0, 1) := dk_3 (dk_at dksX8_isCalled_0 12 rfl rfl)
theorem dX8_isCalled_13 : decode cX8_isCalled 13 = .ok (.istore_n 2, 1) := dk_61 (dk_at dksX8_isCalled_0 13 rfl rfl)
theorem dX8_isCalled_14 : decode cX8_isCalled 14 = .ok (.iload_n 2, 1) := dk_28 (dk_at dksX8_isCalled_0 14 rfl rfl)
theorem dX8_isCalled_15 : decode cX8_isCalled 15 = .ok (.aload_n 0, 1) := dk_42 (dk_at dksX8_isCalled_0 15 rfl rfl)
theorem dX8_isCalled_16 : decode cX8_isCalled 16 = .ok (.getfield 18, 3) := dk_180 0 18 (dk_at dksX8_isCalled_0 16 rfl rfl)
theorem dX8_isCalled_19 : decode cX8_isCalled 19 = .ok (.arraylength, 1) := dk_190 (dk_at dksX8_isCalled_0 19 rfl rfl)
theorem dX8_isCalled_20 : decode cX8_isCalled 20 = .ok (.if_icmp .ge 23, 3) := dk_162 0 23 (dk_at dksX8_isCalled_0 20 rfl rfl)
theorem dX8_isCalled_23 : decode cX8_isCalled 23 = .ok (.aload_n 0, 1) := dk_42 (dk_at dksX8_isCalled_0 23 rfl rfl)
theorem dX8_isCalled_24 : decode cX8_isCalled 24 = .ok (.getfield 18, 3) := dk_180 0 18 (dk_at dksX8_isCalled_1 0 rfl rfl)
theorem dX8_isCalled_27 : decode cX8_isCalled 27 = .ok (.iload_n 2, 1) := dk_28 (dk_at dksX8_isCalled_1 3 rfl rfl)
theorem dX8_isCalled_28 : decode cX8_isCalled 28 = .ok (.baload, 1) := dk_51 (dk_at dksX8_isCalled_1 4 rfl rfl)
theorem dX8_isCalled_29 : decode cX8_isCalled 29 = .ok (.aload_n 1, 1) := dk_43 (dk_at dksX8_isCalled_1 5 rfl rfl)
theorem dX8_isCalled_30 : decode cX8_isCalled 30 = .ok (.iload_n 2, 1) := dk_28 (dk_at dksX8_isCalled_1 6 rfl rfl)
theorem dX8_isCalled_31 : decode cX8_isCalled 31 = .ok (.baload, 1) := dk_51 (dk_at dksX8_isCalled_1 7 rfl rfl)
theorem dX8_isCalled_32 : decode cX8_isCalled 32 = .ok (.if_icmp .eq 5, 3) := dk_159 0 5 (dk_at dksX8_isCalled_1 8 rfl rfl)
theorem dX8_isCalled_35 : decode cX8_isCalled 35 = .ok (.iconst 0, 1) := dk_3 (dk_at dksX8_isCalled_1 11 rfl rfl)
theorem dX8_isCalled_36 : decode cX8_isCalled 36 = .ok (.ireturn, 1) := dk_172 (dk_at dksX8_isCalled_1 12 rfl rfl)
theorem dX8_isCalled_37 : decode cX8_isCalled 37 = .ok (.iinc 2 1, 3) := dk_132 2 1 (dk_at dksX8_isCalled_1 13 rfl rfl)
theorem dX8_isCalled_40 : decode cX8_isCalled 40 = .ok (.goto (-26), 3) := dk_167 255 230 (dk_at dksX8_isCalled_1 16 rfl rfl)
theorem dX8_isCalled_43 : decode cX8_isCalled 43 = .ok (.iconst 1, 1) := dk_4 (dk_at dksX8_isCalled_1 19 rfl rfl)
theorem dX8_isCalled_44 : decode cX8_isCalled 44 = .ok (.ireturn, 1) := dk_172 (dk_at dksX8_isCalled_1 20 rfl rfl)
abbrev cX8_add : ByteArray := prog_24_method_2_code
def yX8_add : MethodName := ⟨RX8, "add", "(LRapTable$Step;)V"⟩
def dkwX8_add_0 : List UInt8 := [42, 180, 0, 12, 43, 182, 0, 22, 87, 42, 89, 180, 0, 26, 43, 182, 0, 30, 96, 181, 0, 26, 177]
abbrev dktX8_add_0 : List UInt8 := dkwX8_add_0 ++ []
theorem dksX8_add_0 : cX8_add.data.toList.drop 0 = dktX8_add_0 := by decide +kernel
theorem dX8_add_0 : decode cX8_add 0 = .ok (.aload_n 0, 1) := dk_42 (dk_at dksX8_add_0 0 rfl rfl)
theorem dX8_add_1 : decode cX8_add 1 = .ok (.getfield 12, 3) := dk_180 0 12 (dk_at dksX8_add_0 1 rfl rfl)
theorem dX8_add_4 : decode cX8_add 4 = .ok (.aload_n 1, 1) := dk_43 (dk_at dksX8_add_0 4 rfl rfl)
theorem dX8_add_5 : decode cX8_add 5 = .ok (.invokevirtual 22, 3) := dk_182 0 22 (dk_at dksX8_add_0 5 rfl rfl)
theorem dX8_add_8 : decode cX8_add 8 = .ok (.pop, 1) := dk_87 (dk_at dksX8_add_0 8 rfl rfl)
theorem dX8_add_9 : decode cX8_add 9 = .ok (.aload_n 0, 1) := dk_42 (dk_at dksX8_add_0 9 rfl rfl)
theorem dX8_add_10 : decode cX8_add 10 = .ok (.dup, 1) := dk_89 (dk_at dksX8_add_0 10 rfl rfl)
theorem dX8_add_11 : decode cX8_add 11 = .ok (.getfield 26, 3) := dk_180 0 26 (dk_at dksX8_add_0 11 rfl rfl)
theorem dX8_add_14 : decode cX8_add 14 = .ok (.aload_n 1, 1) := dk_43 (dk_at dksX8_add_0 14 rfl rfl)
theorem dX8_add_15 : decode cX8_add 15 = .ok (.invokevirtual 30, 3) := dk_182 0 30 (dk_at dksX8_add_0 15 rfl rfl)
theorem dX8_add_18 : decode cX8_add 18 = .ok (.iadd, 1) := dk_96 (dk_at dksX8_add_0 18 rfl rfl)
theorem dX8_add_19 : decode cX8_add 19 = .ok (.putfield 26, 3) := dk_181 0 26 (dk_at dksX8_add_0 19 rfl rfl)
theorem dX8_add_22 : decode cX8_add 22 = .ok (.return_, 1) := dk_177 (dk_at dksX8_add_0 22 rfl rfl)
abbrev cX9_asks : ByteArray := prog_19_method_3_code
def yX9_asks : MethodName := ⟨RX9, "asks", "()Z"⟩
theorem dX9_asks_0 : decode cX9_asks 0 = .ok (.iconst 1, 1) := by decide +kernel
theorem dX9_asks_1 : decode cX9_asks 1 = .ok (.ireturn, 1) := by decide +kernel
abbrev cX9_seconds : ByteArray := prog_19_method_2_code
def yX9_seconds : MethodName := ⟨RX9, "seconds", "()I"⟩
theorem dX9_seconds_0 : decode cX9_seconds 0 = .ok (.iconst 0, 1) := by decide +kernel
theorem dX9_seconds_1 : decode cX9_seconds 1 = .ok (.ireturn, 1) := by decide +kernel
abbrev cX9_init : ByteArray := prog_19_method_1_code
def yX9_init : MethodName := ⟨RX9, "<init>", "()V"⟩
theorem dX9_init_0 : decode cX9_init 0 = .ok (.aload_n 0, 1) := by decide +kernel
theorem dX9_init_1 : decode cX9_init 1 = .ok (.invokespecial 1, 3) := by decide +kernel
theorem dX9_init_4 : decode cX9_init 4 = .ok (.return_, 1) := by decide +kernel
