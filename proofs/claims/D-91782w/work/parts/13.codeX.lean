set_option maxRecDepth 100000
abbrev cX0_status : ByteArray := prog_1_method_6_code
def yX0_status : MethodName := ⟨RX0, "status", "(I)I"⟩
def dkwX0_status_0 : List UInt8 := [27, 133, 10, 20, 0, 17, 184, 0, 5, 153, 0, 12, 42, 180, 0, 13, 27, 46, 167, 0, 4, 2, 172]
abbrev dktX0_status_0 : List UInt8 := dkwX0_status_0 ++ []
theorem dksX0_status_0 : cX0_status.data.toList.drop 0 = dktX0_status_0 := by decide +kernel
theorem dX0_status_0 : decode cX0_status 0 = .ok (.iload_n 1, 1) := dk_27 (dk_at dksX0_status_0 0 rfl rfl)
theorem dX0_status_1 : decode cX0_status 1 = .ok (.i2l, 1) := dk_133 (dk_at dksX0_status_0 1 rfl rfl)
theorem dX0_status_2 : decode cX0_status 2 = .ok (.lconst 1, 1) := dk_10 (dk_at dksX0_status_0 2 rfl rfl)
theorem dX0_status_3 : decode cX0_status 3 = .ok (.ldc2_w 17, 3) := dk_20 0 17 (dk_at dksX0_status_0 3 rfl rfl)
theorem dX0_status_6 : decode cX0_status 6 = .ok (.invokestatic 5, 3) := dk_184 0 5 (dk_at dksX0_status_0 6 rfl rfl)
theorem dX0_status_9 : decode cX0_status 9 = .ok (.ifCond .eq 12, 3) := dk_153 0 12 (dk_at dksX0_status_0 9 rfl rfl)
theorem dX0_status_12 : decode cX0_status 12 = .ok (.aload_n 0, 1) := dk_42 (dk_at dksX0_status_0 12 rfl rfl)
theorem dX0_status_13 : decode cX0_status 13 = .ok (.getfield 13, 3) := dk_180 0 13 (dk_at dksX0_status_0 13 rfl rfl)
theorem dX0_status_16 : decode cX0_status 16 = .ok (.iload_n 1, 1) := dk_27 (dk_at dksX0_status_0 16 rfl rfl)
theorem dX0_status_17 : decode cX0_status 17 = .ok (.iaload, 1) := dk_46 (dk_at dksX0_status_0 17 rfl rfl)
theorem dX0_status_18 : decode cX0_status 18 = .ok (.goto 4, 3) := dk_167 0 4 (dk_at dksX0_status_0 18 rfl rfl)
theorem dX0_status_21 : decode cX0_status 21 = .ok (.iconst (-1), 1) := dk_2 (dk_at dksX0_status_0 21 rfl rfl)
theorem dX0_status_22 : decode cX0_status 22 = .ok (.ireturn, 1) := dk_172 (dk_at dksX0_status_0 22 rfl rfl)
abbrev cX0_in : ByteArray := prog_1_method_1_code
def yX0_in : MethodName := ⟨RX0, "in", "(JJJ)Z"⟩
def dkwX0_in_0 : List UInt8 := [30, 32, 148, 155, 0, 14, 30, 22, 4, 148, 157, 0, 7, 4, 167, 0, 4, 3, 172]
abbrev dktX0_in_0 : List UInt8 := dkwX0_in_0 ++ []
theorem dksX0_in_0 : cX0_in.data.toList.drop 0 = dktX0_in_0 := by decide +kernel
theorem dX0_in_0 : decode cX0_in 0 = .ok (.lload_n 0, 1) := dk_30 (dk_at dksX0_in_0 0 rfl rfl)
theorem dX0_in_1 : decode cX0_in 1 = .ok (.lload_n 2, 1) := dk_32 (dk_at dksX0_in_0 1 rfl rfl)
theorem dX0_in_2 : decode cX0_in 2 = .ok (.lcmp, 1) := dk_148 (dk_at dksX0_in_0 2 rfl rfl)
theorem dX0_in_3 : decode cX0_in 3 = .ok (.ifCond .lt 14, 3) := dk_155 0 14 (dk_at dksX0_in_0 3 rfl rfl)
theorem dX0_in_6 : decode cX0_in 6 = .ok (.lload_n 0, 1) := dk_30 (dk_at dksX0_in_0 6 rfl rfl)
theorem dX0_in_7 : decode cX0_in 7 = .ok (.lload 4, 2) := dk_22 4 (dk_at dksX0_in_0 7 rfl rfl)
theorem dX0_in_9 : decode cX0_in 9 = .ok (.lcmp, 1) := dk_148 (dk_at dksX0_in_0 9 rfl rfl)
theorem dX0_in_10 : decode cX0_in 10 = .ok (.ifCond .gt 7, 3) := dk_157 0 7 (dk_at dksX0_in_0 10 rfl rfl)
theorem dX0_in_13 : decode cX0_in 13 = .ok (.iconst 1, 1) := dk_4 (dk_at dksX0_in_0 13 rfl rfl)
theorem dX0_in_14 : decode cX0_in 14 = .ok (.goto 4, 3) := dk_167 0 4 (dk_at dksX0_in_0 14 rfl rfl)
theorem dX0_in_17 : decode cX0_in 17 = .ok (.iconst 0, 1) := dk_3 (dk_at dksX0_in_0 17 rfl rfl)
theorem dX0_in_18 : decode cX0_in 18 = .ok (.ireturn, 1) := dk_172 (dk_at dksX0_in_0 18 rfl rfl)
abbrev cX0_init : ByteArray := prog_1_method_7_code
def yX0_init : MethodName := ⟨RX0, "<init>", "()V"⟩
def dkwX0_init_5 : List UInt8 := [181, 0, 78, 42, 16, 9, 188, 10, 181, 0, 81, 42, 16, 10, 188, 11, 181, 0, 84, 177]
abbrev dktX0_init_5 : List UInt8 := dkwX0_init_5 ++ []
def dkwX0_init_4 : List UInt8 := [183, 0, 42, 181, 0, 68, 42, 187, 0, 71, 89, 42, 183, 0, 73, 181, 0, 74, 42, 16, 9, 188, 10]
abbrev dktX0_init_4 : List UInt8 := dkwX0_init_4 ++ dktX0_init_5
def dkwX0_init_3 : List UInt8 := [181, 0, 57, 42, 17, 1, 144, 188, 8, 181, 0, 61, 42, 2, 181, 0, 65, 42, 187, 0, 40, 89, 4]
abbrev dktX0_init_3 : List UInt8 := dkwX0_init_3 ++ dktX0_init_4
def dkwX0_init_2 : List UInt8 := [181, 0, 45, 42, 187, 0, 40, 89, 4, 183, 0, 42, 181, 0, 49, 42, 187, 0, 52, 89, 42, 183, 0, 54]
abbrev dktX0_init_2 : List UInt8 := dkwX0_init_2 ++ dktX0_init_3
def dkwX0_init_1 : List UInt8 := [183, 0, 31, 181, 0, 32, 42, 6, 189, 0, 29, 181, 0, 36, 42, 187, 0, 40, 89, 4, 183, 0, 42]
abbrev dktX0_init_1 : List UInt8 := dkwX0_init_1 ++ dktX0_init_2
def dkwX0_init_0 : List UInt8 := [42, 183, 0, 19, 42, 16, 6, 188, 10, 181, 0, 13, 42, 6, 181, 0, 25, 42, 187, 0, 29, 89]
abbrev dktX0_init_0 : List UInt8 := dkwX0_init_0 ++ dktX0_init_1
theorem dksX0_init_0 : cX0_init.data.toList.drop 0 = dktX0_init_0 := by decide +kernel
theorem dksX0_init_1 : cX0_init.data.toList.drop 22 = dktX0_init_1 := dk_seg dksX0_init_0 22 rfl rfl
theorem dksX0_init_2 : cX0_init.data.toList.drop 45 = dktX0_init_2 := dk_seg dksX0_init_1 23 rfl rfl
theorem dksX0_init_3 : cX0_init.data.toList.drop 69 = dktX0_init_3 := dk_seg dksX0_init_2 24 rfl rfl
theorem dksX0_init_4 : cX0_init.data.toList.drop 92 = dktX0_init_4 := dk_seg dksX0_init_3 23 rfl rfl
theorem dksX0_init_5 : cX0_init.data.toList.drop 115 = dktX0_init_5 := dk_seg dksX0_init_4 23 rfl rfl
theorem dX0_init_0 : decode cX0_init 0 = .ok (.aload_n 0, 1) := dk_42 (dk_at dksX0_init_0 0 rfl rfl)
theorem dX0_init_1 : decode cX0_init 1 = .ok (.invokespecial 19, 3) := dk_183 0 19 (dk_at dksX0_init_0 1 rfl rfl)
theorem dX0_init_4 : decode cX0_init 4 = .ok (.aload_n 0, 1) := dk_42 (dk_at dksX0_init_0 4 rfl rfl)
theorem dX0_init_5 : decode cX0_init 5 = .ok (.bipush 6, 2) := dk_16 6 (dk_at dksX0_init_0 5 rfl rfl)
theorem dX0_init_7 : decode cX0_init 7 = .ok (.newarray .int, 2) := dk_188_10 (dk_at dksX0_init_0 7 rfl rfl)
theorem dX0_init_9 : decode cX0_init 9 = .ok (.putfield 13, 3) := dk_181 0 13 (dk_at dksX0_init_0 9 rfl rfl)
theorem dX0_init_12 : decode cX0_init 12 = .ok (.aload_n 0, 1) := dk_42 (dk_at dksX0_init_0 12 rfl rfl)
theorem dX0_init_13 : decode cX0_init 13 = .ok (.iconst 3, 1) := dk_6 (dk_at dksX0_init_0 13 rfl rfl)
theorem dX0_init_14 : decode cX0_init 14 = .ok (.putfield 25, 3) := dk_181 0 25 (dk_at dksX0_init_0 14 rfl rfl)
theorem dX0_init_17 : decode cX0_init 17 = .ok (.aload_n 0, 1) := dk_42 (dk_at dksX0_init_0 17 rfl rfl)
theorem dX0_init_18 : decode cX0_init 18 = .ok (.new 29, 3) := dk_187 0 29 (dk_at dksX0_init_0 18 rfl rfl)
theorem dX0_init_21 : decode cX0_init 21 = .ok (.dup, 1) := dk_89 (dk_at dksX0_init_0 21 rfl rfl)
theorem dX0_init_22 : decode cX0_init 22 = .ok (.invokespecial 31, 3) := dk_183 0 31 (dk_at dksX0_init_1 0 rfl rfl)
theorem dX0_init_25 : decode cX0_init 25 = .ok (.putfield 32, 3) := dk_181 0 32 (dk_at dksX0_init_1 3 rfl rfl)
theorem dX0_init_28 : decode cX0_init 28 = .ok (.aload_n 0, 1) := dk_42 (dk_at dksX0_init_1 6 rfl rfl)
theorem dX0_init_29 : decode cX0_init 29 = .ok (.iconst 3, 1) := dk_6 (dk_at dksX0_init_1 7 rfl rfl)
theorem dX0_init_30 : decode cX0_init 30 = .ok (.anewarray 29, 3) := dk_189 0 29 (dk_at dksX0_init_1 8 rfl rfl)
theorem dX0_init_33 : decode cX0_init 33 = .ok (.putfield 36, 3) := dk_181 0 36 (dk_at dksX0_init_1 11 rfl rfl)
theorem dX0_init_36 : decode cX0_init 36 = .ok (.aload_n 0, 1) := dk_42 (dk_at dksX0_init_1 14 rfl rfl)
theorem dX0_init_37 : decode cX0_init 37 = .ok (.new 40, 3) := dk_187 0 40 (dk_at dksX0_init_1 15 rfl rfl)
theorem dX0_init_40 : decode cX0_init 40 = .ok (.dup, 1) := dk_89 (dk_at dksX0_init_1 18 rfl rfl)
theorem dX0_init_41 : decode cX0_init 41 = .ok (.iconst 1, 1) := dk_4 (dk_at dksX0_init_1 19 rfl rfl)
theorem dX0_init_42 : decode cX0_init 42 = .ok (.invokespecial 42, 3) := dk_183 0 42 (dk_at dksX0_init_1 20 rfl rfl)
theorem dX0_init_45 : decode cX0_init 45 = .ok (.putfield 45, 3) := dk_181 0 45 (dk_at dksX0_init_2 0 rfl rfl)
theorem dX0_init_48 : decode cX0_init 48 = .ok (.aload_n 0, 1) := dk_42 (dk_at dksX0_init_2 3 rfl rfl)
theorem dX0_init_49 : decode cX0_init 49 = .ok (.new 40, 3) := dk_187 0 40 (dk_at dksX0_init_2 4 rfl rfl)
theorem dX0_init_52 : decode cX0_init 52 = .ok (.dup, 1) := dk_89 (dk_at dksX0_init_2 7 rfl rfl)
theorem dX0_init_53 : decode cX0_init 53 = .ok (.iconst 1, 1) := dk_4 (dk_at dksX0_init_2 8 rfl rfl)
theorem dX0_init_54 : decode cX0_init 54 = .ok (.invokespecial 42, 3) := dk_183 0 42 (dk_at dksX0_init_2 9 rfl rfl)
theorem dX0_init_57 : decode cX0_init 57 = .ok (.putfield 49, 3) := dk_181 0 49 (dk_at dksX0_init_2 12 rfl rfl)
theorem dX0_init_60 : decode cX0_init 60 = .ok (.aload_n 0, 1) := dk_42 (dk_at dksX0_init_2 15 rfl rfl)
theorem dX0_init_61 : decode cX0_init 61 = .ok (.new 52, 3) := dk_187 0 52 (dk_at dksX0_init_2 16 rfl rfl)
theorem dX0_init_64 : decode cX0_init 64 = .ok (.dup, 1) := dk_89 (dk_at dksX0_init_2 19 rfl rfl)
theorem dX0_init_65 : decode cX0_init 65 = .ok (.aload_n 0, 1) := dk_42 (dk_at dksX0_init_2 20 rfl rfl)
theorem dX0_init_66 : decode cX0_init 66 = .ok (.invokespecial 54, 3) := dk_183 0 54 (dk_at dksX0_init_2 21 rfl rfl)
theorem dX0_init_69 : decode cX0_init 69 = .ok (.putfield 57, 3) := dk_181 0 57 (dk_at dksX0_init_3 0 rfl rfl)
theorem dX0_init_72 : decode cX0_init 72 = .ok (.aload_n 0, 1) := dk_42 (dk_at dksX0_init_3 3 rfl rfl)
theorem dX0_init_73 : decode cX0_init 73 = .ok (.sipush 400, 3) := dk_17 1 144 (dk_at dksX0_init_3 4 rfl rfl)
theorem dX0_init_76 : decode cX0_init 76 = .ok (.newarray .byte, 2) := dk_188_8 (dk_at dksX0_init_3 7 rfl rfl)
theorem dX0_init_78 : decode cX0_init 78 = .ok (.putfield 61, 3) := dk_181 0 61 (dk_at dksX0_init_3 9 rfl rfl)
theorem dX0_init_81 : decode cX0_init 81 = .ok (.aload_n 0, 1) := dk_42 (dk_at dksX0_init_3 12 rfl rfl)
theorem dX0_init_82 : decode cX0_init 82 = .ok (.iconst (-1), 1) := dk_2 (dk_at dksX0_init_3 13 rfl rfl)
theorem dX0_init_83 : decode cX0_init 83 = .ok (.putfield 65, 3) := dk_181 0 65 (dk_at dksX0_init_3 14 rfl rfl)
theorem dX0_init_86 : decode cX0_init 86 = .ok (.aload_n 0, 1) := dk_42 (dk_at dksX0_init_3 17 rfl rfl)
theorem dX0_init_87 : decode cX0_init 87 = .ok (.new 40, 3) := dk_187 0 40 (dk_at dksX0_init_3 18 rfl rfl)
theorem dX0_init_90 : decode cX0_init 90 = .ok (.dup, 1) := dk_89 (dk_at dksX0_init_3 21 rfl rfl)
theorem dX0_init_91 : decode cX0_init 91 = .ok (.iconst 1, 1) := dk_4 (dk_at dksX0_init_3 22 rfl rfl)
theorem dX0_init_92 : decode cX0_init 92 = .ok (.invokespecial 42, 3) := dk_183 0 42 (dk_at dksX0_init_4 0 rfl rfl)
theorem dX0_init_95 : decode cX0_init 95 = .ok (.putfield 68, 3) := dk_181 0 68 (dk_at dksX0_init_4 3 rfl rfl)
theorem dX0_init_98 : decode cX0_init 98 = .ok (.aload_n 0, 1) := dk_42 (dk_at dksX0_init_4 6 rfl rfl)
theorem dX0_init_99 : decode cX0_init 99 = .ok (.new 71, 3) := dk_187 0 71 (dk_at dksX0_init_4 7 rfl rfl)
theorem dX0_init_102 : decode cX0_init 102 = .ok (.dup, 1) := dk_89 (dk_at dksX0_init_4 10 rfl rfl)
theorem dX0_init_103 : decode cX0_init 103 = .ok (.aload_n 0, 1) := dk_42 (dk_at dksX0_init_4 11 rfl rfl)
theorem dX0_init_104 : decode cX0_init 104 = .ok (.invokespecial 73, 3) := dk_183 0 73 (dk_at dksX0_init_4 12 rfl rfl)
theorem dX0_init_107 : decode cX0_init 107 = .ok (.putfield 74, 3) := dk_181 0 74 (dk_at dksX0_init_4 15 rfl rfl)
theorem dX0_init_110 : decode cX0_init 110 = .ok (.aload_n 0, 1) := dk_42 (dk_at dksX0_init_4 18 rfl rfl)
theorem dX0_init_111 : decode cX0_init 111 = .ok (.bipush 9, 2) := dk_16 9 (dk_at dksX0_init_4 19 rfl rfl)
theorem dX0_init_113 : decode cX0_init 113 = .ok (.newarray .int, 2) := dk_188_10 (dk_at dksX0_init_4 21 rfl rfl)
theorem dX0_init_115 : decode cX0_init 115 = .ok (.putfield 78, 3) := dk_181 0 78 (dk_at dksX0_init_5 0 rfl rfl)
theorem dX0_init_118 : decode cX0_init 118 = .ok (.aload_n 0, 1) := dk_42 (dk_at dksX0_init_5 3 rfl rfl)
theorem dX0_init_119 : decode cX0_init 119 = .ok (.bipush 9, 2) := dk_16 9 (dk_at dksX0_init_5 4 rfl rfl)
theorem dX0_init_121 : decode cX0_init 121 = .ok (.newarray .int, 2) := dk_188_10 (dk_at dksX0_init_5 6 rfl rfl)
theorem dX0_init_123 : decode cX0_init 123 = .ok (.putfield 81, 3) := dk_181 0 81 (dk_at dksX0_init_5 8 rfl rfl)
theorem dX0_init_126 : decode cX0_init 126 = .ok (.aload_n 0, 1) := dk_42 (dk_at dksX0_init_5 11 rfl rfl)
theorem dX0_init_127 : decode cX0_init 127 = .ok (.bipush 10, 2) := dk_16 10 (dk_at dksX0_init_5 12 rfl rfl)
theorem dX0_init_129 : decode cX0_init 129 = .ok (.newarray .long, 2) := dk_188_11 (dk_at dksX0_init_5 14 rfl rfl)
theorem dX0_init_131 : decode cX0_init 131 = .ok (.putfield 84, 3) := dk_181 0 84 (dk_at dksX0_init_5 16 rfl rfl)
theorem dX0_init_134 : decode cX0_init 134 = .ok (.return_, 1) := dk_177 (dk_at dksX0_init_5 19 rfl rfl)
abbrev cX0_room : ByteArray := prog_1_method_15_code
def yX0_room : MethodName := ⟨RX0, "room", "(I)Z"⟩
def dkwX0_room_3 : List UInt8 := [42, 180, 0, 45, 182, 0, 102, 42, 3, 181, 0, 105, 4, 172]
abbrev dktX0_room_3 : List UInt8 := dkwX0_room_3 ++ []
def dkwX0_room_2 : List UInt8 := [6, 162, 0, 16, 42, 180, 0, 36, 28, 1, 83, 132, 2, 1, 167, 255, 241, 42, 180, 0, 68, 182, 0, 102]
abbrev dktX0_room_2 : List UInt8 := dkwX0_room_2 ++ dktX0_room_3
def dkwX0_room_1 : List UInt8 := [154, 0, 5, 3, 172, 42, 27, 181, 0, 25, 42, 187, 0, 29, 89, 183, 0, 31, 181, 0, 32, 3, 61, 28]
abbrev dktX0_room_1 : List UInt8 := dkwX0_room_1 ++ dktX0_room_2
def dkwX0_room_0 : List UInt8 := [42, 27, 133, 20, 0, 95, 20, 0, 97, 184, 0, 5, 153, 0, 7, 3, 167, 0, 4, 5, 182, 0, 99]
abbrev dktX0_room_0 : List UInt8 := dkwX0_room_0 ++ dktX0_room_1
theorem dksX0_room_0 : cX0_room.data.toList.drop 0 = dktX0_room_0 := by decide +kernel
theorem dksX0_room_1 : cX0_room.data.toList.drop 23 = dktX0_room_1 := dk_seg dksX0_room_0 23 rfl rfl
theorem dksX0_room_2 : cX0_room.data.toList.drop 47 = dktX0_room_2 := dk_seg dksX0_room_1 24 rfl rfl
theorem dksX0_room_3 : cX0_room.data.toList.drop 71 = dktX0_room_3 := dk_seg dksX0_room_2 24 rfl rfl
theorem dX0_room_0 : decode cX0_room 0 = .ok (.aload_n 0, 1) := dk_42 (dk_at dksX0_room_0 0 rfl rfl)
theorem dX0_room_1 : decode cX0_room 1 = .ok (.iload_n 1, 1) := dk_27 (dk_at dksX0_room_0 1 rfl rfl)
theorem dX0_room_2 : decode cX0_room 2 = .ok (.i2l, 1) := dk_133 (dk_at dksX0_room_0 2 rfl rfl)
theorem dX0_room_3 : decode cX0_room 3 = .ok (.ldc2_w 95, 3) := dk_20 0 95 (dk_at dksX0_room_0 3 rfl rfl)
theorem dX0_room_6 : decode cX0_room 6 = .ok (.ldc2_w 97, 3) := dk_20 0 97 (dk_at dksX0_room_0 6 rfl rfl)
theorem dX0_room_9 : decode cX0_room 9 = .ok (.invokestatic 5, 3) := dk_184 0 5 (dk_at dksX0_room_0 9 rfl rfl)
theorem dX0_room_12 : decode cX0_room 12 = .ok (.ifCond .eq 7, 3) := dk_153 0 7 (dk_at dksX0_room_0 12 rfl rfl)
theorem dX0_room_15 : decode cX0_room 15 = .ok (.iconst 0, 1) := dk_3 (dk_at dksX0_room_0 15 rfl rfl)
theorem dX0_room_16 : decode cX0_room 16 = .ok (.goto 4, 3) := dk_167 0 4 (dk_at dksX0_room_0 16 rfl rfl)
theorem dX0_room_19 : decode cX0_room 19 = .ok (.iconst 2, 1) := dk_5 (dk_at dksX0_room_0 19 rfl rfl)
theorem dX0_room_20 : decode cX0_room 20 = .ok (.invokevirtual 99, 3) := dk_182 0 99 (dk_at dksX0_room_0 20 rfl rfl)
theorem dX0_room_23 : decode cX0_room 23 = .ok (.ifCond .ne 5, 3) := dk_154 0 5 (dk_at dksX0_room_1 0 rfl rfl)
theorem dX0_room_26 : decode cX0_room 26 = .ok (.iconst 0, 1) := dk_3 (dk_at dksX0_room_1 3 rfl rfl)
theorem dX0_room_27 : decode cX0_room 27 = .ok (.ireturn, 1) := dk_172 (dk_at dksX0_room_1 4 rfl rfl)
theorem dX0_room_28 : decode cX0_room 28 = .ok (.aload_n 0, 1) := dk_42 (dk_at dksX0_room_1 5 rfl rfl)
theorem dX0_room_29 : decode cX0_room 29 = .ok (.iload_n 1, 1) := dk_27 (dk_at dksX0_room_1 6 rfl rfl)
theorem dX0_room_30 : decode cX0_room 30 = .ok (.putfield 25, 3) := dk_181 0 25 (dk_at dksX0_room_1 7 rfl rfl)
theorem dX0_room_33 : decode cX0_room 33 = .ok (.aload_n 0, 1) := dk_42 (dk_at dksX0_room_1 10 rfl rfl)
theorem dX0_room_34 : decode cX0_room 34 = .ok (.new 29, 3) := dk_187 0 29 (dk_at dksX0_room_1 11 rfl rfl)
theorem dX0_room_37 : decode cX0_room 37 = .ok (.dup, 1) := dk_89 (dk_at dksX0_room_1 14 rfl rfl)
theorem dX0_room_38 : decode cX0_room 38 = .ok (.invokespecial 31, 3) := dk_183 0 31 (dk_at dksX0_room_1 15 rfl rfl)
theorem dX0_room_41 : decode cX0_room 41 = .ok (.putfield 32, 3) := dk_181 0 32 (dk_at dksX0_room_1 18 rfl rfl)
theorem dX0_room_44 : decode cX0_room 44 = .ok (.iconst 0, 1) := dk_3 (dk_at dksX0_room_1 21 rfl rfl)
theorem dX0_room_45 : decode cX0_room 45 = .ok (.istore_n 2, 1) := dk_61 (dk_at dksX0_room_1 22 rfl rfl)
theorem dX0_room_46 : decode cX0_room 46 = .ok (.iload_n 2, 1) := dk_28 (dk_at dksX0_room_1 23 rfl rfl)
theorem dX0_room_47 : decode cX0_room 47 = .ok (.iconst 3, 1) := dk_6 (dk_at dksX0_room_2 0 rfl rfl)
theorem dX0_room_48 : decode cX0_room 48 = .ok (.if_icmp .ge 16, 3) := dk_162 0 16 (dk_at dksX0_room_2 1 rfl rfl)
theorem dX0_room_51 : decode cX0_room 51 = .ok (.aload_n 0, 1) := dk_42 (dk_at dksX0_room_2 4 rfl rfl)
theorem dX0_room_52 : decode cX0_room 52 = .ok (.getfield 36, 3) := dk_180 0 36 (dk_at dksX0_room_2 5 rfl rfl)
theorem dX0_room_55 : decode cX0_room 55 = .ok (.iload_n 2, 1) := dk_28 (dk_at dksX0_room_2 8 rfl rfl)
theorem dX0_room_56 : decode cX0_room 56 = .ok (.aconst_null, 1) := dk_1 (dk_at dksX0_room_2 9 rfl rfl)
theorem dX0_room_57 : decode cX0_room 57 = .ok (.aastore, 1) := dk_83 (dk_at dksX0_room_2 10 rfl rfl)
theorem dX0_room_58 : decode cX0_room 58 = .ok (.iinc 2 1, 3) := dk_132 2 1 (dk_at dksX0_room_2 11 rfl rfl)
theorem dX0_room_61 : decode cX0_room 61 = .ok (.goto (-15), 3) := dk_167 255 241 (dk_at dksX0_room_2 14 rfl rfl)
theorem dX0_room_64 : decode cX0_room 64 = .ok (.aload_n 0, 1) := dk_42 (dk_at dksX0_room_2 17 rfl rfl)
theorem dX0_room_65 : decode cX0_room 65 = .ok (.getfield 68, 3) := dk_180 0 68 (dk_at dksX0_room_2 18 rfl rfl)
theorem dX0_room_68 : decode cX0_room 68 = .ok (.invokevirtual 102, 3) := dk_182 0 102 (dk_at dksX0_room_2 21 rfl rfl)
theorem dX0_room_71 : decode cX0_room 71 = .ok (.aload_n 0, 1) := dk_42 (dk_at dksX0_room_3 0 rfl rfl)
theorem dX0_room_72 : decode cX0_room 72 = .ok (.getfield 45, 3) := dk_180 0 45 (dk_at dksX0_room_3 1 rfl rfl)
theorem dX0_room_75 : decode cX0_room 75 = .ok (.invokevirtual 102, 3) := dk_182 0 102 (dk_at dksX0_room_3 4 rfl rfl)
theorem dX0_room_78 : decode cX0_room 78 = .ok (.aload_n 0, 1) := dk_42 (dk_at dksX0_room_3 7 rfl rfl)
theorem dX0_room_79 : decode cX0_room 79 = .ok (.iconst 0, 1) := dk_3 (dk_at dksX0_room_3 8 rfl rfl)
theorem dX0_room_80 : decode cX0_room 80 = .ok (.putfield 105, 3) := dk_181 0 105 (dk_at dksX0_room_3 9 rfl rfl)
theorem dX0_room_83 : decode cX0_room 83 = .ok (.iconst 1, 1) := dk_4 (dk_at dksX0_room_3 12 rfl rfl)
theorem dX0_room_84 : decode cX0_room 84 = .ok (.ireturn, 1) := dk_172 (dk_at dksX0_room_3 13 rfl rfl)
abbrev cX0_may : ByteArray := prog_1_method_5_code
def yX0_may : MethodName := ⟨RX0, "may", "(I)Z"⟩
def dkwX0_may_0 : List UInt8 := [27, 158, 0, 13, 42, 180, 0, 13, 27, 92, 46, 4, 96, 79, 27, 154, 0, 7, 4, 167, 0, 4, 3, 172]
abbrev dktX0_may_0 : List UInt8 := dkwX0_may_0 ++ []
theorem dksX0_may_0 : cX0_may.data.toList.drop 0 = dktX0_may_0 := by decide +kernel
theorem dX0_may_0 : decode cX0_may 0 = .ok (.iload_n 1, 1) := dk_27 (dk_at dksX0_may_0 0 rfl rfl)
theorem dX0_may_1 : decode cX0_may 1 = .ok (.ifCond .le 13, 3) := dk_158 0 13 (dk_at dksX0_may_0 1 rfl rfl)
theorem dX0_may_4 : decode cX0_may 4 = .ok (.aload_n 0, 1) := dk_42 (dk_at dksX0_may_0 4 rfl rfl)
theorem dX0_may_5 : decode cX0_may 5 = .ok (.getfield 13, 3) := dk_180 0 13 (dk_at dksX0_may_0 5 rfl rfl)
theorem dX0_may_8 : decode cX0_may 8 = .ok (.iload_n 1, 1) := dk_27 (dk_at dksX0_may_0 8 rfl rfl)
theorem dX0_may_9 : decode cX0_may 9 = .ok (.dup2, 1) := dk_92 (dk_at dksX0_may_0 9 rfl rfl)
theorem dX0_may_10 : decode cX0_may 10 = .ok (.iaload, 1) := dk_46 (dk_at dksX0_may_0 10 rfl rfl)
theorem dX0_may_11 : decode cX0_may 11 = .ok (.iconst 1, 1) := dk_4 (dk_at dksX0_may_0 11 rfl rfl)
theorem dX0_may_12 : decode cX0_may 12 = .ok (.iadd, 1) := dk_96 (dk_at dksX0_may_0 12 rfl rfl)
theorem dX0_may_13 : decode cX0_may 13 = .ok (.iastore, 1) := dk_79 (dk_at dksX0_may_0 13 rfl rfl)
theorem dX0_may_14 : decode cX0_may 14 = .ok (.iload_n 1, 1) := dk_27 (dk_at dksX0_may_0 14 rfl rfl)
theorem dX0_may_15 : decode cX0_may 15 = .ok (.ifCond .ne 7, 3) := dk_154 0 7 (dk_at dksX0_may_0 15 rfl rfl)
theorem dX0_may_18 : decode cX0_may 18 = .ok (.iconst 1, 1) := dk_4 (dk_at dksX0_may_0 18 rfl rfl)
theorem dX0_may_19 : decode cX0_may 19 = .ok (.goto 4, 3) := dk_167 0 4 (dk_at dksX0_may_0 19 rfl rfl)
theorem dX0_may_22 : decode cX0_may 22 = .ok (.iconst 0, 1) := dk_3 (dk_at dksX0_may_0 22 rfl rfl)
theorem dX0_may_23 : decode cX0_may 23 = .ok (.ireturn, 1) := dk_172 (dk_at dksX0_may_0 23 rfl rfl)
abbrev cX0_person : ByteArray := prog_1_method_16_code
def yX0_person : MethodName := ⟨RX0, "person", "(III)Z"⟩
def dkwX0_person_3 : List UInt8 := [79, 4, 172]
abbrev dktX0_person_3 : List UInt8 := dkwX0_person_3 ++ []
def dkwX0_person_2 : List UInt8 := [154, 0, 5, 3, 172, 42, 180, 0, 32, 180, 0, 111, 27, 28, 79, 42, 180, 0, 32, 180, 0, 114, 27, 29]
abbrev dktX0_person_2 : List UInt8 := dkwX0_person_2 ++ dktX0_person_3
def dkwX0_person_1 : List UInt8 := [153, 0, 19, 29, 133, 9, 20, 0, 97, 184, 0, 5, 153, 0, 7, 3, 167, 0, 4, 5, 182, 0, 99]
abbrev dktX0_person_1 : List UInt8 := dkwX0_person_1 ++ dktX0_person_2
def dkwX0_person_0 : List UInt8 := [42, 42, 27, 182, 0, 108, 154, 0, 7, 4, 167, 0, 32, 28, 133, 9, 20, 0, 97, 184, 0, 5]
abbrev dktX0_person_0 : List UInt8 := dkwX0_person_0 ++ dktX0_person_1
theorem dksX0_person_0 : cX0_person.data.toList.drop 0 = dktX0_person_0 := by decide +kernel
theorem dksX0_person_1 : cX0_person.data.toList.drop 22 = dktX0_person_1 := dk_seg dksX0_person_0 22 rfl rfl
theorem dksX0_person_2 : cX0_person.data.toList.drop 45 = dktX0_person_2 := dk_seg dksX0_person_1 23 rfl rfl
theorem dksX0_person_3 : cX0_person.data.toList.drop 69 = dktX0_person_3 := dk_seg dksX0_person_2 24 rfl rfl
theorem dX0_person_0 : decode cX0_person 0 = .ok (.aload_n 0, 1) := dk_42 (dk_at dksX0_person_0 0 rfl rfl)
theorem dX0_person_1 : decode cX0_person 1 = .ok (.aload_n 0, 1) := dk_42 (dk_at dksX0_person_0 1 rfl rfl)
theorem dX0_person_2 : decode cX0_person 2 = .ok (.iload_n 1, 1) := dk_27 (dk_at dksX0_person_0 2 rfl rfl)
theorem dX0_person_3 : decode cX0_person 3 = .ok (.invokevirtual 108, 3) := dk_182 0 108 (dk_at dksX0_person_0 3 rfl rfl)
theorem dX0_person_6 : decode cX0_person 6 = .ok (.ifCond .ne 7, 3) := dk_154 0 7 (dk_at dksX0_person_0 6 rfl rfl)
theorem dX0_person_9 : decode cX0_person 9 = .ok (.iconst 1, 1) := dk_4 (dk_at dksX0_person_0 9 rfl rfl)
theorem dX0_person_10 : decode cX0_person 10 = .ok (.goto 32, 3) := dk_167 0 32 (dk_at dksX0_person_0 10 rfl rfl)
theorem dX0_person_13 : decode cX0_person 13 = .ok (.iload_n 2, 1) := dk_28 (dk_at dksX0_person_0 13 rfl rfl)
theorem dX0_person_14 : decode cX0_person 14 = .ok (.i2l, 1) := dk_133 (dk_at dksX0_person_0 14 rfl rfl)
theorem dX0_person_15 : decode cX0_person 15 = .ok (.lconst 0, 1) := dk_9 (dk_at dksX0_person_0 15 rfl rfl)
theorem dX0_person_16 : decode cX0_person 16 = .ok (.ldc2_w 97, 3) := dk_20 0 97 (dk_at dksX0_person_0 16 rfl rfl)
theorem dX0_person_19 : decode cX0_person 19 = .ok (.invokestatic 5, 3) := dk_184 0 5 (dk_at dksX0_person_0 19 rfl rfl)
theorem dX0_person_22 : decode cX0_person 22 = .ok (.ifCond .eq 19, 3) := dk_153 0 19 (dk_at dksX0_person_1 0 rfl rfl)
theorem dX0_person_25 : decode cX0_person 25 = .ok (.iload_n 3, 1) := dk_29 (dk_at dksX0_person_1 3 rfl rfl)
theorem dX0_person_26 : decode cX0_person 26 = .ok (.i2l, 1) := dk_133 (dk_at dksX0_person_1 4 rfl rfl)
theorem dX0_person_27 : decode cX0_person 27 = .ok (.lconst 0, 1) := dk_9 (dk_at dksX0_person_1 5 rfl rfl)
theorem dX0_person_28 : decode cX0_person 28 = .ok (.ldc2_w 97, 3) := dk_20 0 97 (dk_at dksX0_person_1 6 rfl rfl)
theorem dX0_person_31 : decode cX0_person 31 = .ok (.invokestatic 5, 3) := dk_184 0 5 (dk_at dksX0_person_1 9 rfl rfl)
theorem dX0_person_34 : decode cX0_person 34 = .ok (.ifCond .eq 7, 3) := dk_153 0 7 (dk_at dksX0_person_1 12 rfl rfl)
theorem dX0_person_37 : decode cX0_person 37 = .ok (.iconst 0, 1) := dk_3 (dk_at dksX0_person_1 15 rfl rfl)
theorem dX0_person_38 : decode cX0_person 38 = .ok (.goto 4, 3) := dk_167 0 4 (dk_at dksX0_person_1 16 rfl rfl)
theorem dX0_person_41 : decode cX0_person 41 = .ok (.iconst 2, 1) := dk_5 (dk_at dksX0_person_1 19 rfl rfl)
theorem dX0_person_42 : decode cX0_person 42 = .ok (.invokevirtual 99, 3) := dk_182 0 99 (dk_at dksX0_person_1 20 rfl rfl)
theorem dX0_person_45 : decode cX0_person 45 = .ok (.ifCond .ne 5, 3) := dk_154 0 5 (dk_at dksX0_person_2 0 rfl rfl)
theorem dX0_person_48 : decode cX0_person 48 = .ok (.iconst 0, 1) := dk_3 (dk_at dksX0_person_2 3 rfl rfl)
theorem dX0_person_49 : decode cX0_person 49 = .ok (.ireturn, 1) := dk_172 (dk_at dksX0_person_2 4 rfl rfl)
theorem dX0_person_50 : decode cX0_person 50 = .ok (.aload_n 0, 1) := dk_42 (dk_at dksX0_person_2 5 rfl rfl)
theorem dX0_person_51 : decode cX0_person 51 = .ok (.getfield 32, 3) := dk_180 0 32 (dk_at dksX0_person_2 6 rfl rfl)
theorem dX0_person_54 : decode cX0_person 54 = .ok (.getfield 111, 3) := dk_180 0 111 (dk_at dksX0_person_2 9 rfl rfl)
theorem dX0_person_57 : decode cX0_person 57 = .ok (.iload_n 1, 1) := dk_27 (dk_at dksX0_person_2 12 rfl rfl)
theorem dX0_person_58 : decode cX0_person 58 = .ok (.iload_n 2, 1) := dk_28 (dk_at dksX0_person_2 13 rfl rfl)
theorem dX0_person_59 : decode cX0_person 59 = .ok (.iastore, 1) := dk_79 (dk_at dksX0_person_2 14 rfl rfl)
theorem dX0_person_60 : decode cX0_person 60 = .ok (.aload_n 0, 1) := dk_42 (dk_at dksX0_person_2 15 rfl rfl)
theorem dX0_person_61 : decode cX0_person 61 = .ok (.getfield 32, 3) := dk_180 0 32 (dk_at dksX0_person_2 16 rfl rfl)
theorem dX0_person_64 : decode cX0_person 64 = .ok (.getfield 114, 3) := dk_180 0 114 (dk_at dksX0_person_2 19 rfl rfl)
theorem dX0_person_67 : decode cX0_person 67 = .ok (.iload_n 1, 1) := dk_27 (dk_at dksX0_person_2 22 rfl rfl)
theorem dX0_person_68 : decode cX0_person 68 = .ok (.iload_n 3, 1) := dk_29 (dk_at dksX0_person_2 23 rfl rfl)
theorem dX0_person_69 : decode cX0_person 69 = .ok (.iastore, 1) := dk_79 (dk_at dksX0_person_3 0 rfl rfl)
theorem dX0_person_70 : decode cX0_person 70 = .ok (.iconst 1, 1) := dk_4 (dk_at dksX0_person_3 1 rfl rfl)
theorem dX0_person_71 : decode cX0_person 71 = .ok (.ireturn, 1) := dk_172 (dk_at dksX0_person_3 2 rfl rfl)
abbrev cX0_isPerson : ByteArray := prog_1_method_8_code
def yX0_isPerson : MethodName := ⟨RX0, "isPerson", "(I)Z"⟩
def dkwX0_isPerson_0 : List UInt8 := [27, 133, 9, 42, 180, 0, 25, 4, 100, 133, 184, 0, 5, 172]
abbrev dktX0_isPerson_0 : List UInt8 := dkwX0_isPerson_0 ++ []
theorem dksX0_isPerson_0 : cX0_isPerson.data.toList.drop 0 = dktX0_isPerson_0 := by decide +kernel
theorem dX0_isPerson_0 : decode cX0_isPerson 0 = .ok (.iload_n 1, 1) := dk_27 (dk_at dksX0_isPerson_0 0 rfl rfl)
theorem dX0_isPerson_1 : decode cX0_isPerson 1 = .ok (.i2l, 1) := dk_133 (dk_at dksX0_isPerson_0 1 rfl rfl)
theorem dX0_isPerson_2 : decode cX0_isPerson 2 = .ok (.lconst 0, 1) := dk_9 (dk_at dksX0_isPerson_0 2 rfl rfl)
theorem dX0_isPerson_3 : decode cX0_isPerson 3 = .ok (.aload_n 0, 1) := dk_42 (dk_at dksX0_isPerson_0 3 rfl rfl)
theorem dX0_isPerson_4 : decode cX0_isPerson 4 = .ok (.getfield 25, 3) := dk_180 0 25 (dk_at dksX0_isPerson_0 4 rfl rfl)
theorem dX0_isPerson_7 : decode cX0_isPerson 7 = .ok (.iconst 1, 1) := dk_4 (dk_at dksX0_isPerson_0 7 rfl rfl)
theorem dX0_isPerson_8 : decode cX0_isPerson 8 = .ok (.isub, 1) := dk_100 (dk_at dksX0_isPerson_0 8 rfl rfl)
theorem dX0_isPerson_9 : decode cX0_isPerson 9 = .ok (.i2l, 1) := dk_133 (dk_at dksX0_isPerson_0 9 rfl rfl)
theorem dX0_isPerson_10 : decode cX0_isPerson 10 = .ok (.invokestatic 5, 3) := dk_184 0 5 (dk_at dksX0_isPerson_0 10 rfl rfl)
theorem dX0_isPerson_13 : decode cX0_isPerson 13 = .ok (.ireturn, 1) := dk_172 (dk_at dksX0_isPerson_0 13 rfl rfl)
abbrev cX0_light : ByteArray := prog_1_method_17_code
def yX0_light : MethodName := ⟨RX0, "light", "(III)Z"⟩
def dkwX0_light_2 : List UInt8 := [180, 0, 32, 180, 0, 120, 21, 4, 29, 79, 132, 4, 1, 167, 255, 236, 4, 172]
abbrev dktX0_light_2 : List UInt8 := dkwX0_light_2 ++ []
def dkwX0_light_1 : List UInt8 := [167, 0, 4, 5, 182, 0, 99, 154, 0, 5, 3, 172, 27, 54, 4, 21, 4, 28, 163, 0, 20, 42]
abbrev dktX0_light_1 : List UInt8 := dkwX0_light_1 ++ dktX0_light_2
def dkwX0_light_0 : List UInt8 := [42, 27, 28, 184, 0, 117, 153, 0, 19, 29, 133, 9, 20, 0, 97, 184, 0, 5, 153, 0, 7, 3]
abbrev dktX0_light_0 : List UInt8 := dkwX0_light_0 ++ dktX0_light_1
theorem dksX0_light_0 : cX0_light.data.toList.drop 0 = dktX0_light_0 := by decide +kernel
theorem dksX0_light_1 : cX0_light.data.toList.drop 22 = dktX0_light_1 := dk_seg dksX0_light_0 22 rfl rfl
theorem dksX0_light_2 : cX0_light.data.toList.drop 44 = dktX0_light_2 := dk_seg dksX0_light_1 22 rfl rfl
theorem dX0_light_0 : decode cX0_light 0 = .ok (.aload_n 0, 1) := dk_42 (dk_at dksX0_light_0 0 rfl rfl)
theorem dX0_light_1 : decode cX0_light 1 = .ok (.iload_n 1, 1) := dk_27 (dk_at dksX0_light_0 1 rfl rfl)
theorem dX0_light_2 : decode cX0_light 2 = .ok (.iload_n 2, 1) := dk_28 (dk_at dksX0_light_0 2 rfl rfl)
theorem dX0_light_3 : decode cX0_light 3 = .ok (.invokestatic 117, 3) := dk_184 0 117 (dk_at dksX0_light_0 3 rfl rfl)
theorem dX0_light_6 : decode cX0_light 6 = .ok (.ifCond .eq 19, 3) := dk_153 0 19 (dk_at dksX0_light_0 6 rfl rfl)
theorem dX0_light_9 : decode cX0_light 9 = .ok (.iload_n 3, 1) := dk_29 (dk_at dksX0_light_0 9 rfl rfl)
theorem dX0_light_10 : decode cX0_light 10 = .ok (.i2l, 1) := dk_133 (dk_at dksX0_light_0 10 rfl rfl)
theorem dX0_light_11 : decode cX0_light 11 = .ok (.lconst 0, 1) := dk_9 (dk_at dksX0_light_0 11 rfl rfl)
theorem dX0_light_12 : decode cX0_light 12 = .ok (.ldc2_w 97, 3) := dk_20 0 97 (dk_at dksX0_light_0 12 rfl rfl)
theorem dX0_light_15 : decode cX0_light 15 = .ok (.invokestatic 5, 3) := dk_184 0 5 (dk_at dksX0_light_0 15 rfl rfl)
theorem dX0_light_18 : decode cX0_light 18 = .ok (.ifCond .eq 7, 3) := dk_153 0 7 (dk_at dksX0_light_0 18 rfl rfl)
theorem dX0_light_21 : decode cX0_light 21 = .ok (.iconst 0, 1) := dk_3 (dk_at dksX0_light_0 21 rfl rfl)
theorem dX0_light_22 : decode cX0_light 22 = .ok (.goto 4, 3) := dk_167 0 4 (dk_at dksX0_light_1 0 rfl rfl)
theorem dX0_light_25 : decode cX0_light 25 = .ok (.iconst 2, 1) := dk_5 (dk_at dksX0_light_1 3 rfl rfl)
theorem dX0_light_26 : decode cX0_light 26 = .ok (.invokevirtual 99, 3) := dk_182 0 99 (dk_at dksX0_light_1 4 rfl rfl)
theorem dX0_light_29 : decode cX0_light 29 = .ok (.ifCond .ne 5, 3) := dk_154 0 5 (dk_at dksX0_light_1 7 rfl rfl)
theorem dX0_light_32 : decode cX0_light 32 = .ok (.iconst 0, 1) := dk_3 (dk_at dksX0_light_1 10 rfl rfl)
theorem dX0_light_33 : decode cX0_light 33 = .ok (.ireturn, 1) := dk_172 (dk_at dksX0_light_1 11 rfl rfl)
theorem dX0_light_34 : decode cX0_light 34 = .ok (.iload_n 1, 1) := dk_27 (dk_at dksX0_light_1 12 rfl rfl)
theorem dX0_light_35 : decode cX0_light 35 = .ok (.istore 4, 2) := dk_54 4 (dk_at dksX0_light_1 13 rfl rfl)
theorem dX0_light_37 : decode cX0_light 37 = .ok (.iload 4, 2) := dk_21 4 (dk_at dksX0_light_1 15 rfl rfl)
theorem dX0_light_39 : decode cX0_light 39 = .ok (.iload_n 2, 1) := dk_28 (dk_at dksX0_light_1 17 rfl rfl)
theorem dX0_light_40 : decode cX0_light 40 = .ok (.if_icmp .gt 20, 3) := dk_163 0 20 (dk_at dksX0_light_1 18 rfl rfl)
theorem dX0_light_43 : decode cX0_light 43 = .ok (.aload_n 0, 1) := dk_42 (dk_at dksX0_light_1 21 rfl rfl)
theorem dX0_light_44 : decode cX0_light 44 = .ok (.getfield 32, 3) := dk_180 0 32 (dk_at dksX0_light_2 0 rfl rfl)
theorem dX0_light_47 : decode cX0_light 47 = .ok (.getfield 120, 3) := dk_180 0 120 (dk_at dksX0_light_2 3 rfl rfl)
theorem dX0_light_50 : decode cX0_light 50 = .ok (.iload 4, 2) := dk_21 4 (dk_at dksX0_light_2 6 rfl rfl)
theorem dX0_light_52 : decode cX0_light 52 = .ok (.iload_n 3, 1) := dk_29 (dk_at dksX0_light_2 8 rfl rfl)
theorem dX0_light_53 : decode cX0_light 53 = .ok (.iastore, 1) := dk_79 (dk_at dksX0_light_2 9 rfl rfl)
theorem dX0_light_54 : decode cX0_light 54 = .ok (.iinc 4 1, 3) := dk_132 4 1 (dk_at dksX0_light_2 10 rfl rfl)
theorem dX0_light_57 : decode cX0_light 57 = .ok (.goto (-20), 3) := dk_167 255 236 (dk_at dksX0_light_2 13 rfl rfl)
theorem dX0_light_60 : decode cX0_light 60 = .ok (.iconst 1, 1) := dk_4 (dk_at dksX0_light_2 16 rfl rfl)
theorem dX0_light_61 : decode cX0_light 61 = .ok (.ireturn, 1) := dk_172 (dk_at dksX0_light_2 17 rfl rfl)
abbrev cX0_areSeconds : ByteArray := prog_1_method_3_code
def yX0_areSeconds : MethodName := ⟨RX0, "areSeconds", "(II)Z"⟩
def dkwX0_areSeconds_1 : List UInt8 := [3, 172]
abbrev dktX0_areSeconds_1 : List UInt8 := dkwX0_areSeconds_1 ++ []
def dkwX0_areSeconds_0 : List UInt8 := [26, 184, 0, 9, 153, 0, 20, 27, 133, 26, 133, 20, 0, 3, 184, 0, 5, 153, 0, 7, 4, 167, 0, 4]
abbrev dktX0_areSeconds_0 : List UInt8 := dkwX0_areSeconds_0 ++ dktX0_areSeconds_1
theorem dksX0_areSeconds_0 : cX0_areSeconds.data.toList.drop 0 = dktX0_areSeconds_0 := by decide +kernel
theorem dksX0_areSeconds_1 : cX0_areSeconds.data.toList.drop 24 = dktX0_areSeconds_1 := dk_seg dksX0_areSeconds_0 24 rfl rfl
theorem dX0_areSeconds_0 : decode cX0_areSeconds 0 = .ok (.iload_n 0, 1) := dk_26 (dk_at dksX0_areSeconds_0 0 rfl rfl)
theorem dX0_areSeconds_1 : decode cX0_areSeconds 1 = .ok (.invokestatic 9, 3) := dk_184 0 9 (dk_at dksX0_areSeconds_0 1 rfl rfl)
theorem dX0_areSeconds_4 : decode cX0_areSeconds 4 = .ok (.ifCond .eq 20, 3) := dk_153 0 20 (dk_at dksX0_areSeconds_0 4 rfl rfl)
theorem dX0_areSeconds_7 : decode cX0_areSeconds 7 = .ok (.iload_n 1, 1) := dk_27 (dk_at dksX0_areSeconds_0 7 rfl rfl)
theorem dX0_areSeconds_8 : decode cX0_areSeconds 8 = .ok (.i2l, 1) := dk_133 (dk_at dksX0_areSeconds_0 8 rfl rfl)
theorem dX0_areSeconds_9 : decode cX0_areSeconds 9 = .ok (.iload_n 0, 1) := dk_26 (dk_at dksX0_areSeconds_0 9 rfl rfl)
theorem dX0_areSeconds_10 : decode cX0_areSeconds 10 = .ok (.i2l, 1) := dk_133 (dk_at dksX0_areSeconds_0 10 rfl rfl)
theorem dX0_areSeconds_11 : decode cX0_areSeconds 11 = .ok (.ldc2_w 3, 3) := dk_20 0 3 (dk_at dksX0_areSeconds_0 11 rfl rfl)
theorem dX0_areSeconds_14 : decode cX0_areSeconds 14 = .ok (.invokestatic 5, 3) := dk_184 0 5 (dk_at dksX0_areSeconds_0 14 rfl rfl)
theorem dX0_areSeconds_17 : decode cX0_areSeconds 17 = .ok (.ifCond .eq 7, 3) := dk_153 0 7 (dk_at dksX0_areSeconds_0 17 rfl rfl)
theorem dX0_areSeconds_20 : decode cX0_areSeconds 20 = .ok (.iconst 1, 1) := dk_4 (dk_at dksX0_areSeconds_0 20 rfl rfl)
theorem dX0_areSeconds_21 : decode cX0_areSeconds 21 = .ok (.goto 4, 3) := dk_167 0 4 (dk_at dksX0_areSeconds_0 21 rfl rfl)
theorem dX0_areSeconds_24 : decode cX0_areSeconds 24 = .ok (.iconst 0, 1) := dk_3 (dk_at dksX0_areSeconds_1 0 rfl rfl)
theorem dX0_areSeconds_25 : decode cX0_areSeconds 25 = .ok (.ireturn, 1) := dk_172 (dk_at dksX0_areSeconds_1 1 rfl rfl)
abbrev cX0_isSecond : ByteArray := prog_1_method_2_code
def yX0_isSecond : MethodName := ⟨RX0, "isSecond", "(I)Z"⟩
def dkwX0_isSecond_0 : List UInt8 := [26, 133, 9, 20, 0, 3, 184, 0, 5, 172]
abbrev dktX0_isSecond_0 : List UInt8 := dkwX0_isSecond_0 ++ []
theorem dksX0_isSecond_0 : cX0_isSecond.data.toList.drop 0 = dktX0_isSecond_0 := by decide +kernel
theorem dX0_isSecond_0 : decode cX0_isSecond 0 = .ok (.iload_n 0, 1) := dk_26 (dk_at dksX0_isSecond_0 0 rfl rfl)
theorem dX0_isSecond_1 : decode cX0_isSecond 1 = .ok (.i2l, 1) := dk_133 (dk_at dksX0_isSecond_0 1 rfl rfl)
theorem dX0_isSecond_2 : decode cX0_isSecond 2 = .ok (.lconst 0, 1) := dk_9 (dk_at dksX0_isSecond_0 2 rfl rfl)
theorem dX0_isSecond_3 : decode cX0_isSecond 3 = .ok (.ldc2_w 3, 3) := dk_20 0 3 (dk_at dksX0_isSecond_0 3 rfl rfl)
theorem dX0_isSecond_6 : decode cX0_isSecond 6 = .ok (.invokestatic 5, 3) := dk_184 0 5 (dk_at dksX0_isSecond_0 6 rfl rfl)
theorem dX0_isSecond_9 : decode cX0_isSecond 9 = .ok (.ireturn, 1) := dk_172 (dk_at dksX0_isSecond_0 9 rfl rfl)
abbrev cX0_attend : ByteArray := prog_1_method_18_code
def yX0_attend : MethodName := ⟨RX0, "attend", "(IIII)Z"⟩
def dkwX0_attend_3 : List UInt8 := [132, 5, 1, 167, 255, 233, 4, 172]
abbrev dktX0_attend_3 : List UInt8 := dkwX0_attend_3 ++ []
def dkwX0_attend_2 : List UInt8 := [172, 29, 54, 5, 21, 5, 21, 4, 163, 0, 22, 42, 180, 0, 32, 180, 0, 126, 27, 50, 21, 5, 28, 79]
abbrev dktX0_attend_2 : List UInt8 := dkwX0_attend_2 ++ dktX0_attend_3
def dkwX0_attend_1 : List UInt8 := [167, 0, 17, 29, 21, 4, 184, 0, 117, 153, 0, 7, 3, 167, 0, 4, 5, 182, 0, 99, 154, 0, 5, 3]
abbrev dktX0_attend_1 : List UInt8 := dkwX0_attend_1 ++ dktX0_attend_2
def dkwX0_attend_0 : List UInt8 := [42, 42, 27, 182, 0, 108, 153, 0, 16, 28, 2, 159, 0, 15, 42, 28, 182, 0, 123, 154, 0, 7, 4]
abbrev dktX0_attend_0 : List UInt8 := dkwX0_attend_0 ++ dktX0_attend_1
theorem dksX0_attend_0 : cX0_attend.data.toList.drop 0 = dktX0_attend_0 := by decide +kernel
theorem dksX0_attend_1 : cX0_attend.data.toList.drop 23 = dktX0_attend_1 := dk_seg dksX0_attend_0 23 rfl rfl
theorem dksX0_attend_2 : cX0_attend.data.toList.drop 47 = dktX0_attend_2 := dk_seg dksX0_attend_1 24 rfl rfl
theorem dksX0_attend_3 : cX0_attend.data.toList.drop 71 = dktX0_attend_3 := dk_seg dksX0_attend_2 24 rfl rfl
theorem dX0_attend_0 : decode cX0_attend 0 = .ok (.aload_n 0, 1) := dk_42 (dk_at dksX0_attend_0 0 rfl rfl)
theorem dX0_attend_1 : decode cX0_attend 1 = .ok (.aload_n 0, 1) := dk_42 (dk_at dksX0_attend_0 1 rfl rfl)
theorem dX0_attend_2 : decode cX0_attend 2 = .ok (.iload_n 1, 1) := dk_27 (dk_at dksX0_attend_0 2 rfl rfl)
theorem dX0_attend_3 : decode cX0_attend 3 = .ok (.invokevirtual 108, 3) := dk_182 0 108 (dk_at dksX0_attend_0 3 rfl rfl)
theorem dX0_attend_6 : decode cX0_attend 6 = .ok (.ifCond .eq 16, 3) := dk_153 0 16 (dk_at dksX0_attend_0 6 rfl rfl)
theorem dX0_attend_9 : decode cX0_attend 9 = .ok (.iload_n 2, 1) := dk_28 (dk_at dksX0_attend_0 9 rfl rfl)
theorem dX0_attend_10 : decode cX0_attend 10 = .ok (.iconst (-1), 1) := dk_2 (dk_at dksX0_attend_0 10 rfl rfl)
theorem dX0_attend_11 : decode cX0_attend 11 = .ok (.if_icmp .eq 15, 3) := dk_159 0 15 (dk_at dksX0_attend_0 11 rfl rfl)
theorem dX0_attend_14 : decode cX0_attend 14 = .ok (.aload_n 0, 1) := dk_42 (dk_at dksX0_attend_0 14 rfl rfl)
theorem dX0_attend_15 : decode cX0_attend 15 = .ok (.iload_n 2, 1) := dk_28 (dk_at dksX0_attend_0 15 rfl rfl)
theorem dX0_attend_16 : decode cX0_attend 16 = .ok (.invokevirtual 123, 3) := dk_182 0 123 (dk_at dksX0_attend_0 16 rfl rfl)
theorem dX0_attend_19 : decode cX0_attend 19 = .ok (.ifCond .ne 7, 3) := dk_154 0 7 (dk_at dksX0_attend_0 19 rfl rfl)
theorem dX0_attend_22 : decode cX0_attend 22 = .ok (.iconst 1, 1) := dk_4 (dk_at dksX0_attend_0 22 rfl rfl)
theorem dX0_attend_23 : decode cX0_attend 23 = .ok (.goto 17, 3) := dk_167 0 17 (dk_at dksX0_attend_1 0 rfl rfl)
theorem dX0_attend_26 : decode cX0_attend 26 = .ok (.iload_n 3, 1) := dk_29 (dk_at dksX0_attend_1 3 rfl rfl)
theorem dX0_attend_27 : decode cX0_attend 27 = .ok (.iload 4, 2) := dk_21 4 (dk_at dksX0_attend_1 4 rfl rfl)
theorem dX0_attend_29 : decode cX0_attend 29 = .ok (.invokestatic 117, 3) := dk_184 0 117 (dk_at dksX0_attend_1 6 rfl rfl)
theorem dX0_attend_32 : decode cX0_attend 32 = .ok (.ifCond .eq 7, 3) := dk_153 0 7 (dk_at dksX0_attend_1 9 rfl rfl)
theorem dX0_attend_35 : decode cX0_attend 35 = .ok (.iconst 0, 1) := dk_3 (dk_at dksX0_attend_1 12 rfl rfl)
theorem dX0_attend_36 : decode cX0_attend 36 = .ok (.goto 4, 3) := dk_167 0 4 (dk_at dksX0_attend_1 13 rfl rfl)
theorem dX0_attend_39 : decode cX0_attend 39 = .ok (.iconst 2, 1) := dk_5 (dk_at dksX0_attend_1 16 rfl rfl)
theorem dX0_attend_40 : decode cX0_attend 40 = .ok (.invokevirtual 99, 3) := dk_182 0 99 (dk_at dksX0_attend_1 17 rfl rfl)
theorem dX0_attend_43 : decode cX0_attend 43 = .ok (.ifCond .ne 5, 3) := dk_154 0 5 (dk_at dksX0_attend_1 20 rfl rfl)
theorem dX0_attend_46 : decode cX0_attend 46 = .ok (.iconst 0, 1) := dk_3 (dk_at dksX0_attend_1 23 rfl rfl)
theorem dX0_attend_47 : decode cX0_attend 47 = .ok (.ireturn, 1) := dk_172 (dk_at dksX0_attend_2 0 rfl rfl)
theorem dX0_attend_48 : decode cX0_attend 48 = .ok (.iload_n 3, 1) := dk_29 (dk_at dksX0_attend_2 1 rfl rfl)
theorem dX0_attend_49 : decode cX0_attend 49 = .ok (.istore 5, 2) := dk_54 5 (dk_at dksX0_attend_2 2 rfl rfl)
theorem dX0_attend_51 : decode cX0_attend 51 = .ok (.iload 5, 2) := dk_21 5 (dk_at dksX0_attend_2 4 rfl rfl)
theorem dX0_attend_53 : decode cX0_attend 53 = .ok (.iload 4, 2) := dk_21 4 (dk_at dksX0_attend_2 6 rfl rfl)
theorem dX0_attend_55 : decode cX0_attend 55 = .ok (.if_icmp .gt 22, 3) := dk_163 0 22 (dk_at dksX0_attend_2 8 rfl rfl)
theorem dX0_attend_58 : decode cX0_attend 58 = .ok (.aload_n 0, 1) := dk_42 (dk_at dksX0_attend_2 11 rfl rfl)
theorem dX0_attend_59 : decode cX0_attend 59 = .ok (.getfield 32, 3) := dk_180 0 32 (dk_at dksX0_attend_2 12 rfl rfl)
theorem dX0_attend_62 : decode cX0_attend 62 = .ok (.getfield 126, 3) := dk_180 0 126 (dk_at dksX0_attend_2 15 rfl rfl)
theorem dX0_attend_65 : decode cX0_attend 65 = .ok (.iload_n 1, 1) := dk_27 (dk_at dksX0_attend_2 18 rfl rfl)
theorem dX0_attend_66 : decode cX0_attend 66 = .ok (.aaload, 1) := dk_50 (dk_at dksX0_attend_2 19 rfl rfl)
theorem dX0_attend_67 : decode cX0_attend 67 = .ok (.iload 5, 2) := dk_21 5 (dk_at dksX0_attend_2 20 rfl rfl)
theorem dX0_attend_69 : decode cX0_attend 69 = .ok (.iload_n 2, 1) := dk_28 (dk_at dksX0_attend_2 22 rfl rfl)
theorem dX0_attend_70 : decode cX0_attend 70 = .ok (.iastore, 1) := dk_79 (dk_at dksX0_attend_2 23 rfl rfl)
theorem dX0_attend_71 : decode cX0_attend 71 = .ok (.iinc 5 1, 3) := dk_132 5 1 (dk_at dksX0_attend_3 0 rfl rfl)
theorem dX0_attend_74 : decode cX0_attend 74 = .ok (.goto (-23), 3) := dk_167 255 233 (dk_at dksX0_attend_3 3 rfl rfl)
theorem dX0_attend_77 : decode cX0_attend 77 = .ok (.iconst 1, 1) := dk_4 (dk_at dksX0_attend_3 6 rfl rfl)
theorem dX0_attend_78 : decode cX0_attend 78 = .ok (.ireturn, 1) := dk_172 (dk_at dksX0_attend_3 7 rfl rfl)
abbrev cX0_isSpot : ByteArray := prog_1_method_9_code
def yX0_isSpot : MethodName := ⟨RX0, "isSpot", "(I)Z"⟩
def dkwX0_isSpot_0 : List UInt8 := [27, 133, 9, 42, 180, 0, 25, 133, 184, 0, 5, 172]
abbrev dktX0_isSpot_0 : List UInt8 := dkwX0_isSpot_0 ++ []
theorem dksX0_isSpot_0 : cX0_isSpot.data.toList.drop 0 = dktX0_isSpot_0 := by decide +kernel
theorem dX0_isSpot_0 : decode cX0_isSpot 0 = .ok (.iload_n 1, 1) := dk_27 (dk_at dksX0_isSpot_0 0 rfl rfl)
theorem dX0_isSpot_1 : decode cX0_isSpot 1 = .ok (.i2l, 1) := dk_133 (dk_at dksX0_isSpot_0 1 rfl rfl)
theorem dX0_isSpot_2 : decode cX0_isSpot 2 = .ok (.lconst 0, 1) := dk_9 (dk_at dksX0_isSpot_0 2 rfl rfl)
theorem dX0_isSpot_3 : decode cX0_isSpot 3 = .ok (.aload_n 0, 1) := dk_42 (dk_at dksX0_isSpot_0 3 rfl rfl)
theorem dX0_isSpot_4 : decode cX0_isSpot 4 = .ok (.getfield 25, 3) := dk_180 0 25 (dk_at dksX0_isSpot_0 4 rfl rfl)
theorem dX0_isSpot_7 : decode cX0_isSpot 7 = .ok (.i2l, 1) := dk_133 (dk_at dksX0_isSpot_0 7 rfl rfl)
theorem dX0_isSpot_8 : decode cX0_isSpot 8 = .ok (.invokestatic 5, 3) := dk_184 0 5 (dk_at dksX0_isSpot_0 8 rfl rfl)
theorem dX0_isSpot_11 : decode cX0_isSpot 11 = .ok (.ireturn, 1) := dk_172 (dk_at dksX0_isSpot_0 11 rfl rfl)
abbrev cX0_lead : ByteArray := prog_1_method_19_code
def yX0_lead : MethodName := ⟨RX0, "lead", "(IIII)I"⟩
def dkwX0_lead_4 : List UInt8 := [182, 0, 137, 4, 100, 172]
abbrev dktX0_lead_4 : List UInt8 := dkwX0_lead_4 ++ []
def dkwX0_lead_3 : List UInt8 := [187, 0, 141, 89, 27, 28, 29, 21, 4, 183, 0, 143, 182, 0, 146, 87, 42, 180, 0, 32, 180, 0, 134]
abbrev dktX0_lead_3 : List UInt8 := dkwX0_lead_3 ++ dktX0_lead_4
def dkwX0_lead_2 : List UInt8 := [180, 0, 134, 182, 0, 137, 16, 12, 160, 0, 9, 42, 6, 182, 0, 130, 172, 42, 180, 0, 32, 180, 0, 134]
abbrev dktX0_lead_2 : List UInt8 := dkwX0_lead_2 ++ dktX0_lead_3
def dkwX0_lead_1 : List UInt8 := [153, 0, 12, 29, 21, 4, 184, 0, 117, 154, 0, 9, 42, 5, 182, 0, 130, 172, 42, 180, 0, 32]
abbrev dktX0_lead_1 : List UInt8 := dkwX0_lead_1 ++ dktX0_lead_2
def dkwX0_lead_0 : List UInt8 := [42, 27, 182, 0, 123, 154, 0, 9, 42, 4, 182, 0, 130, 172, 28, 133, 10, 20, 0, 97, 184, 0, 5]
abbrev dktX0_lead_0 : List UInt8 := dkwX0_lead_0 ++ dktX0_lead_1
theorem dksX0_lead_0 : cX0_lead.data.toList.drop 0 = dktX0_lead_0 := by decide +kernel
theorem dksX0_lead_1 : cX0_lead.data.toList.drop 23 = dktX0_lead_1 := dk_seg dksX0_lead_0 23 rfl rfl
theorem dksX0_lead_2 : cX0_lead.data.toList.drop 45 = dktX0_lead_2 := dk_seg dksX0_lead_1 22 rfl rfl
theorem dksX0_lead_3 : cX0_lead.data.toList.drop 69 = dktX0_lead_3 := dk_seg dksX0_lead_2 24 rfl rfl
theorem dksX0_lead_4 : cX0_lead.data.toList.drop 92 = dktX0_lead_4 := dk_seg dksX0_lead_3 23 rfl rfl
theorem dX0_lead_0 : decode cX0_lead 0 = .ok (.aload_n 0, 1) := dk_42 (dk_at dksX0_lead_0 0 rfl rfl)
theorem dX0_lead_1 : decode cX0_lead 1 = .ok (.iload_n 1, 1) := dk_27 (dk_at dksX0_lead_0 1 rfl rfl)
theorem dX0_lead_2 : decode cX0_lead 2 = .ok (.invokevirtual 123, 3) := dk_182 0 123 (dk_at dksX0_lead_0 2 rfl rfl)
theorem dX0_lead_5 : decode cX0_lead 5 = .ok (.ifCond .ne 9, 3) := dk_154 0 9 (dk_at dksX0_lead_0 5 rfl rfl)
theorem dX0_lead_8 : decode cX0_lead 8 = .ok (.aload_n 0, 1) := dk_42 (dk_at dksX0_lead_0 8 rfl rfl)
theorem dX0_lead_9 : decode cX0_lead 9 = .ok (.iconst 1, 1) := dk_4 (dk_at dksX0_lead_0 9 rfl rfl)
theorem dX0_lead_10 : decode cX0_lead 10 = .ok (.invokevirtual 130, 3) := dk_182 0 130 (dk_at dksX0_lead_0 10 rfl rfl)
theorem dX0_lead_13 : decode cX0_lead 13 = .ok (.ireturn, 1) := dk_172 (dk_at dksX0_lead_0 13 rfl rfl)
theorem dX0_lead_14 : decode cX0_lead 14 = .ok (.iload_n 2, 1) := dk_28 (dk_at dksX0_lead_0 14 rfl rfl)
theorem dX0_lead_15 : decode cX0_lead 15 = .ok (.i2l, 1) := dk_133 (dk_at dksX0_lead_0 15 rfl rfl)
theorem dX0_lead_16 : decode cX0_lead 16 = .ok (.lconst 1, 1) := dk_10 (dk_at dksX0_lead_0 16 rfl rfl)
theorem dX0_lead_17 : decode cX0_lead 17 = .ok (.ldc2_w 97, 3) := dk_20 0 97 (dk_at dksX0_lead_0 17 rfl rfl)
theorem dX0_lead_20 : decode cX0_lead 20 = .ok (.invokestatic 5, 3) := dk_184 0 5 (dk_at dksX0_lead_0 20 rfl rfl)
theorem dX0_lead_23 : decode cX0_lead 23 = .ok (.ifCond .eq 12, 3) := dk_153 0 12 (dk_at dksX0_lead_1 0 rfl rfl)
theorem dX0_lead_26 : decode cX0_lead 26 = .ok (.iload_n 3, 1) := dk_29 (dk_at dksX0_lead_1 3 rfl rfl)
theorem dX0_lead_27 : decode cX0_lead 27 = .ok (.iload 4, 2) := dk_21 4 (dk_at dksX0_lead_1 4 rfl rfl)
theorem dX0_lead_29 : decode cX0_lead 29 = .ok (.invokestatic 117, 3) := dk_184 0 117 (dk_at dksX0_lead_1 6 rfl rfl)
theorem dX0_lead_32 : decode cX0_lead 32 = .ok (.ifCond .ne 9, 3) := dk_154 0 9 (dk_at dksX0_lead_1 9 rfl rfl)
theorem dX0_lead_35 : decode cX0_lead 35 = .ok (.aload_n 0, 1) := dk_42 (dk_at dksX0_lead_1 12 rfl rfl)
theorem dX0_lead_36 : decode cX0_lead 36 = .ok (.iconst 2, 1) := dk_5 (dk_at dksX0_lead_1 13 rfl rfl)
theorem dX0_lead_37 : decode cX0_lead 37 = .ok (.invokevirtual 130, 3) := dk_182 0 130 (dk_at dksX0_lead_1 14 rfl rfl)
theorem dX0_lead_40 : decode cX0_lead 40 = .ok (.ireturn, 1) := dk_172 (dk_at dksX0_lead_1 17 rfl rfl)
theorem dX0_lead_41 : decode cX0_lead 41 = .ok (.aload_n 0, 1) := dk_42 (dk_at dksX0_lead_1 18 rfl rfl)
theorem dX0_lead_42 : decode cX0_lead 42 = .ok (.getfield 32, 3) := dk_180 0 32 (dk_at dksX0_lead_1 19 rfl rfl)
theorem dX0_lead_45 : decode cX0_lead 45 = .ok (.getfield 134, 3) := dk_180 0 134 (dk_at dksX0_lead_2 0 rfl rfl)
theorem dX0_lead_48 : decode cX0_lead 48 = .ok (.invokevirtual 137, 3) := dk_182 0 137 (dk_at dksX0_lead_2 3 rfl rfl)
theorem dX0_lead_51 : decode cX0_lead 51 = .ok (.bipush 12, 2) := dk_16 12 (dk_at dksX0_lead_2 6 rfl rfl)
theorem dX0_lead_53 : decode cX0_lead 53 = .ok (.if_icmp .ne 9, 3) := dk_160 0 9 (dk_at dksX0_lead_2 8 rfl rfl)
theorem dX0_lead_56 : decode cX0_lead 56 = .ok (.aload_n 0, 1) := dk_42 (dk_at dksX0_lead_2 11 rfl rfl)
theorem dX0_lead_57 : decode cX0_lead 57 = .ok (.iconst 3, 1) := dk_6 (dk_at dksX0_lead_2 12 rfl rfl)
theorem dX0_lead_58 : decode cX0_lead 58 = .ok (.invokevirtual 130, 3) := dk_182 0 130 (dk_at dksX0_lead_2 13 rfl rfl)
theorem dX0_lead_61 : decode cX0_lead 61 = .ok (.ireturn, 1) := dk_172 (dk_at dksX0_lead_2 16 rfl rfl)
theorem dX0_lead_62 : decode cX0_lead 62 = .ok (.aload_n 0, 1) := dk_42 (dk_at dksX0_lead_2 17 rfl rfl)
theorem dX0_lead_63 : decode cX0_lead 63 = .ok (.getfield 32, 3) := dk_180 0 32 (dk_at dksX0_lead_2 18 rfl rfl)
theorem dX0_lead_66 : decode cX0_lead 66 = .ok (.getfield 134, 3) := dk_180 0 134 (dk_at dksX0_lead_2 21 rfl rfl)
theorem dX0_lead_69 : decode cX0_lead 69 = .ok (.new 141, 3) := dk_187 0 141 (dk_at dksX0_lead_3 0 rfl rfl)
theorem dX0_lead_72 : decode cX0_lead 72 = .ok (.dup, 1) := dk_89 (dk_at dksX0_lead_3 3 rfl rfl)
theorem dX0_lead_73 : decode cX0_lead 73 = .ok (.iload_n 1, 1) := dk_27 (dk_at dksX0_lead_3 4 rfl rfl)
theorem dX0_lead_74 : decode cX0_lead 74 = .ok (.iload_n 2, 1) := dk_28 (dk_at dksX0_lead_3 5 rfl rfl)
theorem dX0_lead_75 : decode cX0_lead 75 = .ok (.iload_n 3, 1) := dk_29 (dk_at dksX0_lead_3 6 rfl rfl)
theorem dX0_lead_76 : decode cX0_lead 76 = .ok (.iload 4, 2) := dk_21 4 (dk_at dksX0_lead_3 7 rfl rfl)
theorem dX0_lead_78 : decode cX0_lead 78 = .ok (.invokespecial 143, 3) := dk_183 0 143 (dk_at dksX0_lead_3 9 rfl rfl)
theorem dX0_lead_81 : decode cX0_lead 81 = .ok (.invokevirtual 146, 3) := dk_182 0 146 (dk_at dksX0_lead_3 12 rfl rfl)
theorem dX0_lead_84 : decode cX0_lead 84 = .ok (.pop, 1) := dk_87 (dk_at dksX0_lead_3 15 rfl rfl)
theorem dX0_lead_85 : decode cX0_lead 85 = .ok (.aload_n 0, 1) := dk_42 (dk_at dksX0_lead_3 16 rfl rfl)
theorem dX0_lead_86 : decode cX0_lead 86 = .ok (.getfield 32, 3) := dk_180 0 32 (dk_at dksX0_lead_3 17 rfl rfl)
theorem dX0_lead_89 : decode cX0_lead 89 = .ok (.getfield 134, 3) := dk_180 0 134 (dk_at dksX0_lead_3 20 rfl rfl)
theorem dX0_lead_92 : decode cX0_lead 92 = .ok (.invokevirtual 137, 3) := dk_182 0 137 (dk_at dksX0_lead_4 0 rfl rfl)
theorem dX0_lead_95 : decode cX0_lead 95 = .ok (.iconst 1, 1) := dk_4 (dk_at dksX0_lead_4 3 rfl rfl)
theorem dX0_lead_96 : decode cX0_lead 96 = .ok (.isub, 1) := dk_100 (dk_at dksX0_lead_4 4 rfl rfl)
theorem dX0_lead_97 : decode cX0_lead 97 = .ok (.ireturn, 1) := dk_172 (dk_at dksX0_lead_4 5 rfl rfl)
abbrev cX0_refused : ByteArray := prog_1_method_4_code
def yX0_refused : MethodName := ⟨RX0, "refused", "(I)I"⟩
def dkwX0_refused_0 : List UInt8 := [42, 180, 0, 13, 27, 92, 46, 4, 96, 79, 2, 172]
abbrev dktX0_refused_0 : List UInt8 := dkwX0_refused_0 ++ []
theorem dksX0_refused_0 : cX0_refused.data.toList.drop 0 = dktX0_refused_0 := by decide +kernel
theorem dX0_refused_0 : decode cX0_refused 0 = .ok (.aload_n 0, 1) := dk_42 (dk_at dksX0_refused_0 0 rfl rfl)
theorem dX0_refused_1 : decode cX0_refused 1 = .ok (.getfield 13, 3) := dk_180 0 13 (dk_at dksX0_refused_0 1 rfl rfl)
theorem dX0_refused_4 : decode cX0_refused 4 = .ok (.iload_n 1, 1) := dk_27 (dk_at dksX0_refused_0 4 rfl rfl)
theorem dX0_refused_5 : decode cX0_refused 5 = .ok (.dup2, 1) := dk_92 (dk_at dksX0_refused_0 5 rfl rfl)
theorem dX0_refused_6 : decode cX0_refused 6 = .ok (.iaload, 1) := dk_46 (dk_at dksX0_refused_0 6 rfl rfl)
theorem dX0_refused_7 : decode cX0_refused 7 = .ok (.iconst 1, 1) := dk_4 (dk_at dksX0_refused_0 7 rfl rfl)
theorem dX0_refused_8 : decode cX0_refused 8 = .ok (.iadd, 1) := dk_96 (dk_at dksX0_refused_0 8 rfl rfl)
theorem dX0_refused_9 : decode cX0_refused 9 = .ok (.iastore, 1) := dk_79 (dk_at dksX0_refused_0 9 rfl rfl)
theorem dX0_refused_10 : decode cX0_refused 10 = .ok (.iconst (-1), 1) := dk_2 (dk_at dksX0_refused_0 10 rfl rfl)
theorem dX0_refused_11 : decode cX0_refused 11 = .ok (.ireturn, 1) := dk_172 (dk_at dksX0_refused_0 11 rfl rfl)
abbrev cX0_hold : ByteArray := prog_1_method_20_code
def yX0_hold : MethodName := ⟨RX0, "hold", "(IIIII)Z"⟩
def dkwX0_hold_6 : List UInt8 := [79, 132, 7, 1, 167, 255, 220, 4, 172]
abbrev dktX0_hold_6 : List UInt8 := dkwX0_hold_6 ++ []
def dkwX0_hold_5 : List UInt8 := [180, 0, 32, 180, 0, 153, 27, 50, 21, 7, 28, 79, 42, 180, 0, 32, 180, 0, 156, 27, 50, 21, 7, 29]
abbrev dktX0_hold_5 : List UInt8 := dkwX0_hold_5 ++ dktX0_hold_6
def dkwX0_hold_4 : List UInt8 := [167, 0, 4, 8, 182, 0, 99, 154, 0, 5, 3, 172, 21, 4, 54, 7, 21, 7, 21, 5, 163, 0, 35, 42]
abbrev dktX0_hold_4 : List UInt8 := dkwX0_hold_4 ++ dktX0_hold_5
def dkwX0_hold_3 : List UInt8 := [27, 5, 108, 28, 5, 108, 182, 0, 91, 153, 0, 16, 29, 5, 108, 27, 5, 108, 159, 0, 7, 3]
abbrev dktX0_hold_3 : List UInt8 := dkwX0_hold_3 ++ dktX0_hold_4
def dkwX0_hold_2 : List UInt8 := [4, 167, 0, 49, 21, 4, 21, 5, 184, 0, 117, 154, 0, 7, 5, 167, 0, 35, 21, 6, 154, 0, 25, 42]
abbrev dktX0_hold_2 : List UInt8 := dkwX0_hold_2 ++ dktX0_hold_3
def dkwX0_hold_1 : List UInt8 := [153, 0, 24, 21, 6, 154, 0, 23, 42, 28, 182, 0, 150, 153, 0, 11, 42, 29, 182, 0, 150, 154, 0, 7]
abbrev dktX0_hold_1 : List UInt8 := dkwX0_hold_1 ++ dktX0_hold_2
def dkwX0_hold_0 : List UInt8 := [28, 2, 160, 0, 12, 29, 2, 160, 0, 7, 4, 167, 0, 4, 3, 54, 6, 42, 42, 27, 182, 0, 150]
abbrev dktX0_hold_0 : List UInt8 := dkwX0_hold_0 ++ dktX0_hold_1
theorem dksX0_hold_0 : cX0_hold.data.toList.drop 0 = dktX0_hold_0 := by decide +kernel
theorem dksX0_hold_1 : cX0_hold.data.toList.drop 23 = dktX0_hold_1 := dk_seg dksX0_hold_0 23 rfl rfl
theorem dksX0_hold_2 : cX0_hold.data.toList.drop 47 = dktX0_hold_2 := dk_seg dksX0_hold_1 24 rfl rfl
theorem dksX0_hold_3 : cX0_hold.data.toList.drop 71 = dktX0_hold_3 := dk_seg dksX0_hold_2 24 rfl rfl
theorem dksX0_hold_4 : cX0_hold.data.toList.drop 93 = dktX0_hold_4 := dk_seg dksX0_hold_3 22 rfl rfl
theorem dksX0_hold_5 : cX0_hold.data.toList.drop 117 = dktX0_hold_5 := dk_seg dksX0_hold_4 24 rfl rfl
theorem dksX0_hold_6 : cX0_hold.data.toList.drop 141 = dktX0_hold_6 := dk_seg dksX0_hold_5 24 rfl rfl
theorem dX0_hold_0 : decode cX0_hold 0 = .ok (.iload_n 2, 1) := dk_28 (dk_at dksX0_hold_0 0 rfl rfl)
theorem dX0_hold_1 : decode cX0_hold 1 = .ok (.iconst (-1), 1) := dk_2 (dk_at dksX0_hold_0 1 rfl rfl)
theorem dX0_hold_2 : decode cX0_hold 2 = .ok (.if_icmp .ne 12, 3) := dk_160 0 12 (dk_at dksX0_hold_0 2 rfl rfl)
theorem dX0_hold_5 : decode cX0_hold 5 = .ok (.iload_n 3, 1) := dk_29 (dk_at dksX0_hold_0 5 rfl rfl)
theorem dX0_hold_6 : decode cX0_hold 6 = .ok (.iconst (-1), 1) := dk_2 (dk_at dksX0_hold_0 6 rfl rfl)
theorem dX0_hold_7 : decode cX0_hold 7 = .ok (.if_icmp .ne 7, 3) := dk_160 0 7 (dk_at dksX0_hold_0 7 rfl rfl)
theorem dX0_hold_10 : decode cX0_hold 10 = .ok (.iconst 1, 1) := dk_4 (dk_at dksX0_hold_0 10 rfl rfl)
theorem dX0_hold_11 : decode cX0_hold 11 = .ok (.goto 4, 3) := dk_167 0 4 (dk_at dksX0_hold_0 11 rfl rfl)
theorem dX0_hold_14 : decode cX0_hold 14 = .ok (.iconst 0, 1) := dk_3 (dk_at dksX0_hold_0 14 rfl rfl)
theorem dX0_hold_15 : decode cX0_hold 15 = .ok (.istore 6, 2) := dk_54 6 (dk_at dksX0_hold_0 15 rfl rfl)
theorem dX0_hold_17 : decode cX0_hold 17 = .ok (.aload_n 0, 1) := dk_42 (dk_at dksX0_hold_0 17 rfl rfl)
theorem dX0_hold_18 : decode cX0_hold 18 = .ok (.aload_n 0, 1) := dk_42 (dk_at dksX0_hold_0 18 rfl rfl)
theorem dX0_hold_19 : decode cX0_hold 19 = .ok (.iload_n 1, 1) := dk_27 (dk_at dksX0_hold_0 19 rfl rfl)
theorem dX0_hold_20 : decode cX0_hold 20 = .ok (.invokevirtual 150, 3) := dk_182 0 150 (dk_at dksX0_hold_0 20 rfl rfl)
theorem dX0_hold_23 : decode cX0_hold 23 = .ok (.ifCond .eq 24, 3) := dk_153 0 24 (dk_at dksX0_hold_1 0 rfl rfl)
theorem dX0_hold_26 : decode cX0_hold 26 = .ok (.iload 6, 2) := dk_21 6 (dk_at dksX0_hold_1 3 rfl rfl)
theorem dX0_hold_28 : decode cX0_hold 28 = .ok (.ifCond .ne 23, 3) := dk_154 0 23 (dk_at dksX0_hold_1 5 rfl rfl)
theorem dX0_hold_31 : decode cX0_hold 31 = .ok (.aload_n 0, 1) := dk_42 (dk_at dksX0_hold_1 8 rfl rfl)
theorem dX0_hold_32 : decode cX0_hold 32 = .ok (.iload_n 2, 1) := dk_28 (dk_at dksX0_hold_1 9 rfl rfl)
theorem dX0_hold_33 : decode cX0_hold 33 = .ok (.invokevirtual 150, 3) := dk_182 0 150 (dk_at dksX0_hold_1 10 rfl rfl)
theorem dX0_hold_36 : decode cX0_hold 36 = .ok (.ifCond .eq 11, 3) := dk_153 0 11 (dk_at dksX0_hold_1 13 rfl rfl)
theorem dX0_hold_39 : decode cX0_hold 39 = .ok (.aload_n 0, 1) := dk_42 (dk_at dksX0_hold_1 16 rfl rfl)
theorem dX0_hold_40 : decode cX0_hold 40 = .ok (.iload_n 3, 1) := dk_29 (dk_at dksX0_hold_1 17 rfl rfl)
theorem dX0_hold_41 : decode cX0_hold 41 = .ok (.invokevirtual 150, 3) := dk_182 0 150 (dk_at dksX0_hold_1 18 rfl rfl)
theorem dX0_hold_44 : decode cX0_hold 44 = .ok (.ifCond .ne 7, 3) := dk_154 0 7 (dk_at dksX0_hold_1 21 rfl rfl)
theorem dX0_hold_47 : decode cX0_hold 47 = .ok (.iconst 1, 1) := dk_4 (dk_at dksX0_hold_2 0 rfl rfl)
theorem dX0_hold_48 : decode cX0_hold 48 = .ok (.goto 49, 3) := dk_167 0 49 (dk_at dksX0_hold_2 1 rfl rfl)
theorem dX0_hold_51 : decode cX0_hold 51 = .ok (.iload 4, 2) := dk_21 4 (dk_at dksX0_hold_2 4 rfl rfl)
theorem dX0_hold_53 : decode cX0_hold 53 = .ok (.iload 5, 2) := dk_21 5 (dk_at dksX0_hold_2 6 rfl rfl)
theorem dX0_hold_55 : decode cX0_hold 55 = .ok (.invokestatic 117, 3) := dk_184 0 117 (dk_at dksX0_hold_2 8 rfl rfl)
theorem dX0_hold_58 : decode cX0_hold 58 = .ok (.ifCond .ne 7, 3) := dk_154 0 7 (dk_at dksX0_hold_2 11 rfl rfl)
theorem dX0_hold_61 : decode cX0_hold 61 = .ok (.iconst 2, 1) := dk_5 (dk_at dksX0_hold_2 14 rfl rfl)
theorem dX0_hold_62 : decode cX0_hold 62 = .ok (.goto 35, 3) := dk_167 0 35 (dk_at dksX0_hold_2 15 rfl rfl)
theorem dX0_hold_65 : decode cX0_hold 65 = .ok (.iload 6, 2) := dk_21 6 (dk_at dksX0_hold_2 18 rfl rfl)
theorem dX0_hold_67 : decode cX0_hold 67 = .ok (.ifCond .ne 25, 3) := dk_154 0 25 (dk_at dksX0_hold_2 20 rfl rfl)
theorem dX0_hold_70 : decode cX0_hold 70 = .ok (.aload_n 0, 1) := dk_42 (dk_at dksX0_hold_2 23 rfl rfl)
theorem dX0_hold_71 : decode cX0_hold 71 = .ok (.iload_n 1, 1) := dk_27 (dk_at dksX0_hold_3 0 rfl rfl)
theorem dX0_hold_72 : decode cX0_hold 72 = .ok (.iconst 2, 1) := dk_5 (dk_at dksX0_hold_3 1 rfl rfl)
theorem dX0_hold_73 : decode cX0_hold 73 = .ok (.idiv, 1) := dk_108 (dk_at dksX0_hold_3 2 rfl rfl)
theorem dX0_hold_74 : decode cX0_hold 74 = .ok (.iload_n 2, 1) := dk_28 (dk_at dksX0_hold_3 3 rfl rfl)
theorem dX0_hold_75 : decode cX0_hold 75 = .ok (.iconst 2, 1) := dk_5 (dk_at dksX0_hold_3 4 rfl rfl)
theorem dX0_hold_76 : decode cX0_hold 76 = .ok (.idiv, 1) := dk_108 (dk_at dksX0_hold_3 5 rfl rfl)
theorem dX0_hold_77 : decode cX0_hold 77 = .ok (.invokevirtual 91, 3) := dk_182 0 91 (dk_at dksX0_hold_3 6 rfl rfl)
theorem dX0_hold_80 : decode cX0_hold 80 = .ok (.ifCond .eq 16, 3) := dk_153 0 16 (dk_at dksX0_hold_3 9 rfl rfl)
theorem dX0_hold_83 : decode cX0_hold 83 = .ok (.iload_n 3, 1) := dk_29 (dk_at dksX0_hold_3 12 rfl rfl)
theorem dX0_hold_84 : decode cX0_hold 84 = .ok (.iconst 2, 1) := dk_5 (dk_at dksX0_hold_3 13 rfl rfl)
theorem dX0_hold_85 : decode cX0_hold 85 = .ok (.idiv, 1) := dk_108 (dk_at dksX0_hold_3 14 rfl rfl)
theorem dX0_hold_86 : decode cX0_hold 86 = .ok (.iload_n 1, 1) := dk_27 (dk_at dksX0_hold_3 15 rfl rfl)
theorem dX0_hold_87 : decode cX0_hold 87 = .ok (.iconst 2, 1) := dk_5 (dk_at dksX0_hold_3 16 rfl rfl)
theorem dX0_hold_88 : decode cX0_hold 88 = .ok (.idiv, 1) := dk_108 (dk_at dksX0_hold_3 17 rfl rfl)
theorem dX0_hold_89 : decode cX0_hold 89 = .ok (.if_icmp .eq 7, 3) := dk_159 0 7 (dk_at dksX0_hold_3 18 rfl rfl)
theorem dX0_hold_92 : decode cX0_hold 92 = .ok (.iconst 0, 1) := dk_3 (dk_at dksX0_hold_3 21 rfl rfl)
theorem dX0_hold_93 : decode cX0_hold 93 = .ok (.goto 4, 3) := dk_167 0 4 (dk_at dksX0_hold_4 0 rfl rfl)
theorem dX0_hold_96 : decode cX0_hold 96 = .ok (.iconst 5, 1) := dk_8 (dk_at dksX0_hold_4 3 rfl rfl)
theorem dX0_hold_97 : decode cX0_hold 97 = .ok (.invokevirtual 99, 3) := dk_182 0 99 (dk_at dksX0_hold_4 4 rfl rfl)
theorem dX0_hold_100 : decode cX0_hold 100 = .ok (.ifCond .ne 5, 3) := dk_154 0 5 (dk_at dksX0_hold_4 7 rfl rfl)
theorem dX0_hold_103 : decode cX0_hold 103 = .ok (.iconst 0, 1) := dk_3 (dk_at dksX0_hold_4 10 rfl rfl)
theorem dX0_hold_104 : decode cX0_hold 104 = .ok (.ireturn, 1) := dk_172 (dk_at dksX0_hold_4 11 rfl rfl)
theorem dX0_hold_105 : decode cX0_hold 105 = .ok (.iload 4, 2) := dk_21 4 (dk_at dksX0_hold_4 12 rfl rfl)
theorem dX0_hold_107 : decode cX0_hold 107 = .ok (.istore 7, 2) := dk_54 7 (dk_at dksX0_hold_4 14 rfl rfl)
theorem dX0_hold_109 : decode cX0_hold 109 = .ok (.iload 7, 2) := dk_21 7 (dk_at dksX0_hold_4 16 rfl rfl)
theorem dX0_hold_111 : decode cX0_hold 111 = .ok (.iload 5, 2) := dk_21 5 (dk_at dksX0_hold_4 18 rfl rfl)
theorem dX0_hold_113 : decode cX0_hold 113 = .ok (.if_icmp .gt 35, 3) := dk_163 0 35 (dk_at dksX0_hold_4 20 rfl rfl)
theorem dX0_hold_116 : decode cX0_hold 116 = .ok (.aload_n 0, 1) := dk_42 (dk_at dksX0_hold_4 23 rfl rfl)
theorem dX0_hold_117 : decode cX0_hold 117 = .ok (.getfield 32, 3) := dk_180 0 32 (dk_at dksX0_hold_5 0 rfl rfl)
theorem dX0_hold_120 : decode cX0_hold 120 = .ok (.getfield 153, 3) := dk_180 0 153 (dk_at dksX0_hold_5 3 rfl rfl)
theorem dX0_hold_123 : decode cX0_hold 123 = .ok (.iload_n 1, 1) := dk_27 (dk_at dksX0_hold_5 6 rfl rfl)
theorem dX0_hold_124 : decode cX0_hold 124 = .ok (.aaload, 1) := dk_50 (dk_at dksX0_hold_5 7 rfl rfl)
theorem dX0_hold_125 : decode cX0_hold 125 = .ok (.iload 7, 2) := dk_21 7 (dk_at dksX0_hold_5 8 rfl rfl)
theorem dX0_hold_127 : decode cX0_hold 127 = .ok (.iload_n 2, 1) := dk_28 (dk_at dksX0_hold_5 10 rfl rfl)
theorem dX0_hold_128 : decode cX0_hold 128 = .ok (.iastore, 1) := dk_79 (dk_at dksX0_hold_5 11 rfl rfl)
theorem dX0_hold_129 : decode cX0_hold 129 = .ok (.aload_n 0, 1) := dk_42 (dk_at dksX0_hold_5 12 rfl rfl)
theorem dX0_hold_130 : decode cX0_hold 130 = .ok (.getfield 32, 3) := dk_180 0 32 (dk_at dksX0_hold_5 13 rfl rfl)
theorem dX0_hold_133 : decode cX0_hold 133 = .ok (.getfield 156, 3) := dk_180 0 156 (dk_at dksX0_hold_5 16 rfl rfl)
theorem dX0_hold_136 : decode cX0_hold 136 = .ok (.iload_n 1, 1) := dk_27 (dk_at dksX0_hold_5 19 rfl rfl)
theorem dX0_hold_137 : decode cX0_hold 137 = .ok (.aaload, 1) := dk_50 (dk_at dksX0_hold_5 20 rfl rfl)
theorem dX0_hold_138 : decode cX0_hold 138 = .ok (.iload 7, 2) := dk_21 7 (dk_at dksX0_hold_5 21 rfl rfl)
theorem dX0_hold_140 : decode cX0_hold 140 = .ok (.iload_n 3, 1) := dk_29 (dk_at dksX0_hold_5 23 rfl rfl)
theorem dX0_hold_141 : decode cX0_hold 141 = .ok (.iastore, 1) := dk_79 (dk_at dksX0_hold_6 0 rfl rfl)
theorem dX0_hold_142 : decode cX0_hold 142 = .ok (.iinc 7 1, 3) := dk_132 7 1 (dk_at dksX0_hold_6 1 rfl rfl)
theorem dX0_hold_145 : decode cX0_hold 145 = .ok (.goto (-36), 3) := dk_167 255 220 (dk_at dksX0_hold_6 4 rfl rfl)
theorem dX0_hold_148 : decode cX0_hold 148 = .ok (.iconst 1, 1) := dk_4 (dk_at dksX0_hold_6 7 rfl rfl)
theorem dX0_hold_149 : decode cX0_hold 149 = .ok (.ireturn, 1) := dk_172 (dk_at dksX0_hold_6 8 rfl rfl)
abbrev cX0_isHand : ByteArray := prog_1_method_10_code
def yX0_isHand : MethodName := ⟨RX0, "isHand", "(I)Z"⟩
def dkwX0_isHand_0 : List UInt8 := [27, 133, 9, 5, 42, 180, 0, 25, 104, 4, 100, 133, 184, 0, 5, 172]
abbrev dktX0_isHand_0 : List UInt8 := dkwX0_isHand_0 ++ []
theorem dksX0_isHand_0 : cX0_isHand.data.toList.drop 0 = dktX0_isHand_0 := by decide +kernel
theorem dX0_isHand_0 : decode cX0_isHand 0 = .ok (.iload_n 1, 1) := dk_27 (dk_at dksX0_isHand_0 0 rfl rfl)
theorem dX0_isHand_1 : decode cX0_isHand 1 = .ok (.i2l, 1) := dk_133 (dk_at dksX0_isHand_0 1 rfl rfl)
theorem dX0_isHand_2 : decode cX0_isHand 2 = .ok (.lconst 0, 1) := dk_9 (dk_at dksX0_isHand_0 2 rfl rfl)
theorem dX0_isHand_3 : decode cX0_isHand 3 = .ok (.iconst 2, 1) := dk_5 (dk_at dksX0_isHand_0 3 rfl rfl)
theorem dX0_isHand_4 : decode cX0_isHand 4 = .ok (.aload_n 0, 1) := dk_42 (dk_at dksX0_isHand_0 4 rfl rfl)
theorem dX0_isHand_5 : decode cX0_isHand 5 = .ok (.getfield 25, 3) := dk_180 0 25 (dk_at dksX0_isHand_0 5 rfl rfl)
theorem dX0_isHand_8 : decode cX0_isHand 8 = .ok (.imul, 1) := dk_104 (dk_at dksX0_isHand_0 8 rfl rfl)
theorem dX0_isHand_9 : decode cX0_isHand 9 = .ok (.iconst 1, 1) := dk_4 (dk_at dksX0_isHand_0 9 rfl rfl)
theorem dX0_isHand_10 : decode cX0_isHand 10 = .ok (.isub, 1) := dk_100 (dk_at dksX0_isHand_0 10 rfl rfl)
theorem dX0_isHand_11 : decode cX0_isHand 11 = .ok (.i2l, 1) := dk_133 (dk_at dksX0_isHand_0 11 rfl rfl)
theorem dX0_isHand_12 : decode cX0_isHand 12 = .ok (.invokestatic 5, 3) := dk_184 0 5 (dk_at dksX0_isHand_0 12 rfl rfl)
theorem dX0_isHand_15 : decode cX0_isHand 15 = .ok (.ireturn, 1) := dk_172 (dk_at dksX0_isHand_0 15 rfl rfl)
abbrev cX0_areBeside : ByteArray := prog_1_method_12_code
def yX0_areBeside : MethodName := ⟨RX0, "areBeside", "(II)Z"⟩
def dkwX0_areBeside_1 : List UInt8 := [4, 167, 0, 4, 3, 172]
abbrev dktX0_areBeside_1 : List UInt8 := dkwX0_areBeside_1 ++ []
def dkwX0_areBeside_0 : List UInt8 := [27, 4, 96, 42, 180, 0, 25, 112, 28, 159, 0, 15, 28, 4, 96, 42, 180, 0, 25, 112, 27, 160, 0, 7]
abbrev dktX0_areBeside_0 : List UInt8 := dkwX0_areBeside_0 ++ dktX0_areBeside_1
theorem dksX0_areBeside_0 : cX0_areBeside.data.toList.drop 0 = dktX0_areBeside_0 := by decide +kernel
theorem dksX0_areBeside_1 : cX0_areBeside.data.toList.drop 24 = dktX0_areBeside_1 := dk_seg dksX0_areBeside_0 24 rfl rfl
theorem dX0_areBeside_0 : decode cX0_areBeside 0 = .ok (.iload_n 1, 1) := dk_27 (dk_at dksX0_areBeside_0 0 rfl rfl)
theorem dX0_areBeside_1 : decode cX0_areBeside 1 = .ok (.iconst 1, 1) := dk_4 (dk_at dksX0_areBeside_0 1 rfl rfl)
theorem dX0_areBeside_2 : decode cX0_areBeside 2 = .ok (.iadd, 1) := dk_96 (dk_at dksX0_areBeside_0 2 rfl rfl)
theorem dX0_areBeside_3 : decode cX0_areBeside 3 = .ok (.aload_n 0, 1) := dk_42 (dk_at dksX0_areBeside_0 3 rfl rfl)
theorem dX0_areBeside_4 : decode cX0_areBeside 4 = .ok (.getfield 25, 3) := dk_180 0 25 (dk_at dksX0_areBeside_0 4 rfl rfl)
theorem dX0_areBeside_7 : decode cX0_areBeside 7 = .ok (.irem, 1) := dk_112 (dk_at dksX0_areBeside_0 7 rfl rfl)
theorem dX0_areBeside_8 : decode cX0_areBeside 8 = .ok (.iload_n 2, 1) := dk_28 (dk_at dksX0_areBeside_0 8 rfl rfl)
theorem dX0_areBeside_9 : decode cX0_areBeside 9 = .ok (.if_icmp .eq 15, 3) := dk_159 0 15 (dk_at dksX0_areBeside_0 9 rfl rfl)
theorem dX0_areBeside_12 : decode cX0_areBeside 12 = .ok (.iload_n 2, 1) := dk_28 (dk_at dksX0_areBeside_0 12 rfl rfl)
theorem dX0_areBeside_13 : decode cX0_areBeside 13 = .ok (.iconst 1, 1) := dk_4 (dk_at dksX0_areBeside_0 13 rfl rfl)
theorem dX0_areBeside_14 : decode cX0_areBeside 14 = .ok (.iadd, 1) := dk_96 (dk_at dksX0_areBeside_0 14 rfl rfl)
theorem dX0_areBeside_15 : decode cX0_areBeside 15 = .ok (.aload_n 0, 1) := dk_42 (dk_at dksX0_areBeside_0 15 rfl rfl)
theorem dX0_areBeside_16 : decode cX0_areBeside 16 = .ok (.getfield 25, 3) := dk_180 0 25 (dk_at dksX0_areBeside_0 16 rfl rfl)
theorem dX0_areBeside_19 : decode cX0_areBeside 19 = .ok (.irem, 1) := dk_112 (dk_at dksX0_areBeside_0 19 rfl rfl)
theorem dX0_areBeside_20 : decode cX0_areBeside 20 = .ok (.iload_n 1, 1) := dk_27 (dk_at dksX0_areBeside_0 20 rfl rfl)
theorem dX0_areBeside_21 : decode cX0_areBeside 21 = .ok (.if_icmp .ne 7, 3) := dk_160 0 7 (dk_at dksX0_areBeside_0 21 rfl rfl)
theorem dX0_areBeside_24 : decode cX0_areBeside 24 = .ok (.iconst 1, 1) := dk_4 (dk_at dksX0_areBeside_1 0 rfl rfl)
theorem dX0_areBeside_25 : decode cX0_areBeside 25 = .ok (.goto 4, 3) := dk_167 0 4 (dk_at dksX0_areBeside_1 1 rfl rfl)
theorem dX0_areBeside_28 : decode cX0_areBeside 28 = .ok (.iconst 0, 1) := dk_3 (dk_at dksX0_areBeside_1 4 rfl rfl)
theorem dX0_areBeside_29 : decode cX0_areBeside 29 = .ok (.ireturn, 1) := dk_172 (dk_at dksX0_areBeside_1 5 rfl rfl)
abbrev cX0_thing : ByteArray := prog_1_method_21_code
def yX0_thing : MethodName := ⟨RX0, "thing", "(I)I"⟩
def dkwX0_thing_3 : List UInt8 := [89, 180, 0, 88, 4, 96, 181, 0, 88, 42, 180, 0, 32, 180, 0, 88, 4, 100, 172]
abbrev dktX0_thing_3 : List UInt8 := dkwX0_thing_3 ++ []
def dkwX0_thing_2 : List UInt8 := [182, 0, 130, 172, 42, 180, 0, 32, 180, 0, 162, 42, 180, 0, 32, 180, 0, 88, 27, 79, 42, 180, 0, 32]
abbrev dktX0_thing_2 : List UInt8 := dkwX0_thing_2 ++ dktX0_thing_3
def dkwX0_thing_1 : List UInt8 := [160, 0, 9, 42, 6, 182, 0, 130, 172, 42, 180, 0, 32, 180, 0, 159, 182, 0, 137, 158, 0, 9, 42, 8]
abbrev dktX0_thing_1 : List UInt8 := dkwX0_thing_1 ++ dktX0_thing_2
def dkwX0_thing_0 : List UInt8 := [42, 27, 182, 0, 123, 154, 0, 9, 42, 4, 182, 0, 130, 172, 42, 180, 0, 32, 180, 0, 88, 16, 8]
abbrev dktX0_thing_0 : List UInt8 := dkwX0_thing_0 ++ dktX0_thing_1
theorem dksX0_thing_0 : cX0_thing.data.toList.drop 0 = dktX0_thing_0 := by decide +kernel
theorem dksX0_thing_1 : cX0_thing.data.toList.drop 23 = dktX0_thing_1 := dk_seg dksX0_thing_0 23 rfl rfl
theorem dksX0_thing_2 : cX0_thing.data.toList.drop 47 = dktX0_thing_2 := dk_seg dksX0_thing_1 24 rfl rfl
theorem dksX0_thing_3 : cX0_thing.data.toList.drop 71 = dktX0_thing_3 := dk_seg dksX0_thing_2 24 rfl rfl
theorem dX0_thing_0 : decode cX0_thing 0 = .ok (.aload_n 0, 1) := dk_42 (dk_at dksX0_thing_0 0 rfl rfl)
theorem dX0_thing_1 : decode cX0_thing 1 = .ok (.iload_n 1, 1) := dk_27 (dk_at dksX0_thing_0 1 rfl rfl)
theorem dX0_thing_2 : decode cX0_thing 2 = .ok (.invokevirtual 123, 3) := dk_182 0 123 (dk_at dksX0_thing_0 2 rfl rfl)
theorem dX0_thing_5 : decode cX0_thing 5 = .ok (.ifCond .ne 9, 3) := dk_154 0 9 (dk_at dksX0_thing_0 5 rfl rfl)
theorem dX0_thing_8 : decode cX0_thing 8 = .ok (.aload_n 0, 1) := dk_42 (dk_at dksX0_thing_0 8 rfl rfl)
theorem dX0_thing_9 : decode cX0_thing 9 = .ok (.iconst 1, 1) := dk_4 (dk_at dksX0_thing_0 9 rfl rfl)
theorem dX0_thing_10 : decode cX0_thing 10 = .ok (.invokevirtual 130, 3) := dk_182 0 130 (dk_at dksX0_thing_0 10 rfl rfl)
theorem dX0_thing_13 : decode cX0_thing 13 = .ok (.ireturn, 1) := dk_172 (dk_at dksX0_thing_0 13 rfl rfl)
theorem dX0_thing_14 : decode cX0_thing 14 = .ok (.aload_n 0, 1) := dk_42 (dk_at dksX0_thing_0 14 rfl rfl)
theorem dX0_thing_15 : decode cX0_thing 15 = .ok (.getfield 32, 3) := dk_180 0 32 (dk_at dksX0_thing_0 15 rfl rfl)
theorem dX0_thing_18 : decode cX0_thing 18 = .ok (.getfield 88, 3) := dk_180 0 88 (dk_at dksX0_thing_0 18 rfl rfl)
theorem dX0_thing_21 : decode cX0_thing 21 = .ok (.bipush 8, 2) := dk_16 8 (dk_at dksX0_thing_0 21 rfl rfl)
theorem dX0_thing_23 : decode cX0_thing 23 = .ok (.if_icmp .ne 9, 3) := dk_160 0 9 (dk_at dksX0_thing_1 0 rfl rfl)
theorem dX0_thing_26 : decode cX0_thing 26 = .ok (.aload_n 0, 1) := dk_42 (dk_at dksX0_thing_1 3 rfl rfl)
theorem dX0_thing_27 : decode cX0_thing 27 = .ok (.iconst 3, 1) := dk_6 (dk_at dksX0_thing_1 4 rfl rfl)
theorem dX0_thing_28 : decode cX0_thing 28 = .ok (.invokevirtual 130, 3) := dk_182 0 130 (dk_at dksX0_thing_1 5 rfl rfl)
theorem dX0_thing_31 : decode cX0_thing 31 = .ok (.ireturn, 1) := dk_172 (dk_at dksX0_thing_1 8 rfl rfl)
theorem dX0_thing_32 : decode cX0_thing 32 = .ok (.aload_n 0, 1) := dk_42 (dk_at dksX0_thing_1 9 rfl rfl)
theorem dX0_thing_33 : decode cX0_thing 33 = .ok (.getfield 32, 3) := dk_180 0 32 (dk_at dksX0_thing_1 10 rfl rfl)
theorem dX0_thing_36 : decode cX0_thing 36 = .ok (.getfield 159, 3) := dk_180 0 159 (dk_at dksX0_thing_1 13 rfl rfl)
theorem dX0_thing_39 : decode cX0_thing 39 = .ok (.invokevirtual 137, 3) := dk_182 0 137 (dk_at dksX0_thing_1 16 rfl rfl)
theorem dX0_thing_42 : decode cX0_thing 42 = .ok (.ifCond .le 9, 3) := dk_158 0 9 (dk_at dksX0_thing_1 19 rfl rfl)
theorem dX0_thing_45 : decode cX0_thing 45 = .ok (.aload_n 0, 1) := dk_42 (dk_at dksX0_thing_1 22 rfl rfl)
theorem dX0_thing_46 : decode cX0_thing 46 = .ok (.iconst 5, 1) := dk_8 (dk_at dksX0_thing_1 23 rfl rfl)
theorem dX0_thing_47 : decode cX0_thing 47 = .ok (.invokevirtual 130, 3) := dk_182 0 130 (dk_at dksX0_thing_2 0 rfl rfl)
theorem dX0_thing_50 : decode cX0_thing 50 = .ok (.ireturn, 1) := dk_172 (dk_at dksX0_thing_2 3 rfl rfl)
theorem dX0_thing_51 : decode cX0_thing 51 = .ok (.aload_n 0, 1) := dk_42 (dk_at dksX0_thing_2 4 rfl rfl)
theorem dX0_thing_52 : decode cX0_thing 52 = .ok (.getfield 32, 3) := dk_180 0 32 (dk_at dksX0_thing_2 5 rfl rfl)
theorem dX0_thing_55 : decode cX0_thing 55 = .ok (.getfield 162, 3) := dk_180 0 162 (dk_at dksX0_thing_2 8 rfl rfl)
theorem dX0_thing_58 : decode cX0_thing 58 = .ok (.aload_n 0, 1) := dk_42 (dk_at dksX0_thing_2 11 rfl rfl)
theorem dX0_thing_59 : decode cX0_thing 59 = .ok (.getfield 32, 3) := dk_180 0 32 (dk_at dksX0_thing_2 12 rfl rfl)
theorem dX0_thing_62 : decode cX0_thing 62 = .ok (.getfield 88, 3) := dk_180 0 88 (dk_at dksX0_thing_2 15 rfl rfl)
theorem dX0_thing_65 : decode cX0_thing 65 = .ok (.iload_n 1, 1) := dk_27 (dk_at dksX0_thing_2 18 rfl rfl)
theorem dX0_thing_66 : decode cX0_thing 66 = .ok (.iastore, 1) := dk_79 (dk_at dksX0_thing_2 19 rfl rfl)
theorem dX0_thing_67 : decode cX0_thing 67 = .ok (.aload_n 0, 1) := dk_42 (dk_at dksX0_thing_2 20 rfl rfl)
theorem dX0_thing_68 : decode cX0_thing 68 = .ok (.getfield 32, 3) := dk_180 0 32 (dk_at dksX0_thing_2 21 rfl rfl)
theorem dX0_thing_71 : decode cX0_thing 71 = .ok (.dup, 1) := dk_89 (dk_at dksX0_thing_3 0 rfl rfl)
theorem dX0_thing_72 : decode cX0_thing 72 = .ok (.getfield 88, 3) := dk_180 0 88 (dk_at dksX0_thing_3 1 rfl rfl)
theorem dX0_thing_75 : decode cX0_thing 75 = .ok (.iconst 1, 1) := dk_4 (dk_at dksX0_thing_3 4 rfl rfl)
theorem dX0_thing_76 : decode cX0_thing 76 = .ok (.iadd, 1) := dk_96 (dk_at dksX0_thing_3 5 rfl rfl)
theorem dX0_thing_77 : decode cX0_thing 77 = .ok (.putfield 88, 3) := dk_181 0 88 (dk_at dksX0_thing_3 6 rfl rfl)
theorem dX0_thing_80 : decode cX0_thing 80 = .ok (.aload_n 0, 1) := dk_42 (dk_at dksX0_thing_3 9 rfl rfl)
theorem dX0_thing_81 : decode cX0_thing 81 = .ok (.getfield 32, 3) := dk_180 0 32 (dk_at dksX0_thing_3 10 rfl rfl)
theorem dX0_thing_84 : decode cX0_thing 84 = .ok (.getfield 88, 3) := dk_180 0 88 (dk_at dksX0_thing_3 13 rfl rfl)
theorem dX0_thing_87 : decode cX0_thing 87 = .ok (.iconst 1, 1) := dk_4 (dk_at dksX0_thing_3 16 rfl rfl)
theorem dX0_thing_88 : decode cX0_thing 88 = .ok (.isub, 1) := dk_100 (dk_at dksX0_thing_3 17 rfl rfl)
theorem dX0_thing_89 : decode cX0_thing 89 = .ok (.ireturn, 1) := dk_172 (dk_at dksX0_thing_3 18 rfl rfl)
abbrev cX0_move : ByteArray := prog_1_method_22_code
def yX0_move : MethodName := ⟨RX0, "move", "(IIII)I"⟩
def dkwX0_move_8 : List UInt8 := [182, 0, 146, 87, 25, 5, 182, 0, 137, 4, 100, 172]
abbrev dktX0_move_8 : List UInt8 := dkwX0_move_8 ++ []
def dkwX0_move_7 : List UInt8 := [42, 8, 182, 0, 130, 172, 25, 5, 187, 0, 176, 89, 27, 28, 21, 6, 29, 21, 4, 183, 0, 187]
abbrev dktX0_move_7 : List UInt8 := dkwX0_move_7 ++ dktX0_move_8
def dkwX0_move_6 : List UInt8 := [153, 0, 24, 42, 27, 5, 108, 29, 182, 0, 181, 153, 0, 13, 42, 27, 21, 4, 182, 0, 184, 154, 0, 9]
abbrev dktX0_move_6 : List UInt8 := dkwX0_move_6 ++ dktX0_move_7
def dkwX0_move_5 : List UInt8 := [54, 7, 21, 7, 154, 0, 42, 21, 6, 29, 159, 0, 36, 42, 27, 5, 108, 21, 6, 182, 0, 181]
abbrev dktX0_move_5 : List UInt8 := dkwX0_move_5 ++ dktX0_move_6
def dkwX0_move_4 : List UInt8 := [182, 0, 137, 4, 100, 182, 0, 172, 192, 0, 176, 180, 0, 178, 21, 4, 164, 0, 7, 4, 167, 0, 4, 3]
abbrev dktX0_move_4 : List UInt8 := dkwX0_move_4 ++ dktX0_move_5
def dkwX0_move_3 : List UInt8 := [180, 0, 32, 28, 16, 100, 182, 0, 168, 54, 6, 25, 5, 182, 0, 137, 158, 0, 30, 25, 5, 25, 5]
abbrev dktX0_move_3 : List UInt8 := dkwX0_move_3 ++ dktX0_move_4
def dkwX0_move_2 : List UInt8 := [180, 0, 159, 58, 5, 25, 5, 182, 0, 137, 16, 40, 160, 0, 9, 42, 6, 182, 0, 130, 172, 42]
abbrev dktX0_move_2 : List UInt8 := dkwX0_move_2 ++ dktX0_move_3
def dkwX0_move_1 : List UInt8 := [42, 4, 182, 0, 130, 172, 21, 4, 184, 0, 9, 154, 0, 9, 42, 5, 182, 0, 130, 172, 42, 180, 0, 32]
abbrev dktX0_move_1 : List UInt8 := dkwX0_move_1 ++ dktX0_move_2
def dkwX0_move_0 : List UInt8 := [42, 27, 182, 0, 150, 153, 0, 19, 42, 28, 182, 0, 165, 153, 0, 11, 42, 29, 182, 0, 123, 154, 0, 9]
abbrev dktX0_move_0 : List UInt8 := dkwX0_move_0 ++ dktX0_move_1
theorem dksX0_move_0 : cX0_move.data.toList.drop 0 = dktX0_move_0 := by decide +kernel
theorem dksX0_move_1 : cX0_move.data.toList.drop 24 = dktX0_move_1 := dk_seg dksX0_move_0 24 rfl rfl
theorem dksX0_move_2 : cX0_move.data.toList.drop 48 = dktX0_move_2 := dk_seg dksX0_move_1 24 rfl rfl
theorem dksX0_move_3 : cX0_move.data.toList.drop 70 = dktX0_move_3 := dk_seg dksX0_move_2 22 rfl rfl
theorem dksX0_move_4 : cX0_move.data.toList.drop 93 = dktX0_move_4 := dk_seg dksX0_move_3 23 rfl rfl
theorem dksX0_move_5 : cX0_move.data.toList.drop 117 = dktX0_move_5 := dk_seg dksX0_move_4 24 rfl rfl
theorem dksX0_move_6 : cX0_move.data.toList.drop 139 = dktX0_move_6 := dk_seg dksX0_move_5 22 rfl rfl
theorem dksX0_move_7 : cX0_move.data.toList.drop 163 = dktX0_move_7 := dk_seg dksX0_move_6 24 rfl rfl
theorem dksX0_move_8 : cX0_move.data.toList.drop 185 = dktX0_move_8 := dk_seg dksX0_move_7 22 rfl rfl
theorem dX0_move_0 : decode cX0_move 0 = .ok (.aload_n 0, 1) := dk_42 (dk_at dksX0_move_0 0 rfl rfl)
theorem dX0_move_1 : decode cX0_move 1 = .ok (.iload_n 1, 1) := dk_27 (dk_at dksX0_move_0 1 rfl rfl)
theorem dX0_move_2 : decode cX0_move 2 = .ok (.invokevirtual 150, 3) := dk_182 0 150 (dk_at dksX0_move_0 2 rfl rfl)
theorem dX0_move_5 : decode cX0_move 5 = .ok (.ifCond .eq 19, 3) := dk_153 0 19 (dk_at dksX0_move_0 5 rfl rfl)
theorem dX0_move_8 : decode cX0_move 8 = .ok (.aload_n 0, 1) := dk_42 (dk_at dksX0_move_0 8 rfl rfl)
theorem dX0_move_9 : decode cX0_move 9 = .ok (.iload_n 2, 1) := dk_28 (dk_at dksX0_move_0 9 rfl rfl)
theorem dX0_move_10 : decode cX0_move 10 = .ok (.invokevirtual 165, 3) := dk_182 0 165 (dk_at dksX0_move_0 10 rfl rfl)
theorem dX0_move_13 : decode cX0_move 13 = .ok (.ifCond .eq 11, 3) := dk_153 0 11 (dk_at dksX0_move_0 13 rfl rfl)
theorem dX0_move_16 : decode cX0_move 16 = .ok (.aload_n 0, 1) := dk_42 (dk_at dksX0_move_0 16 rfl rfl)
theorem dX0_move_17 : decode cX0_move 17 = .ok (.iload_n 3, 1) := dk_29 (dk_at dksX0_move_0 17 rfl rfl)
theorem dX0_move_18 : decode cX0_move 18 = .ok (.invokevirtual 123, 3) := dk_182 0 123 (dk_at dksX0_move_0 18 rfl rfl)
theorem dX0_move_21 : decode cX0_move 21 = .ok (.ifCond .ne 9, 3) := dk_154 0 9 (dk_at dksX0_move_0 21 rfl rfl)
theorem dX0_move_24 : decode cX0_move 24 = .ok (.aload_n 0, 1) := dk_42 (dk_at dksX0_move_1 0 rfl rfl)
theorem dX0_move_25 : decode cX0_move 25 = .ok (.iconst 1, 1) := dk_4 (dk_at dksX0_move_1 1 rfl rfl)
theorem dX0_move_26 : decode cX0_move 26 = .ok (.invokevirtual 130, 3) := dk_182 0 130 (dk_at dksX0_move_1 2 rfl rfl)
theorem dX0_move_29 : decode cX0_move 29 = .ok (.ireturn, 1) := dk_172 (dk_at dksX0_move_1 5 rfl rfl)
theorem dX0_move_30 : decode cX0_move 30 = .ok (.iload 4, 2) := dk_21 4 (dk_at dksX0_move_1 6 rfl rfl)
theorem dX0_move_32 : decode cX0_move 32 = .ok (.invokestatic 9, 3) := dk_184 0 9 (dk_at dksX0_move_1 8 rfl rfl)
theorem dX0_move_35 : decode cX0_move 35 = .ok (.ifCond .ne 9, 3) := dk_154 0 9 (dk_at dksX0_move_1 11 rfl rfl)
theorem dX0_move_38 : decode cX0_move 38 = .ok (.aload_n 0, 1) := dk_42 (dk_at dksX0_move_1 14 rfl rfl)
theorem dX0_move_39 : decode cX0_move 39 = .ok (.iconst 2, 1) := dk_5 (dk_at dksX0_move_1 15 rfl rfl)
theorem dX0_move_40 : decode cX0_move 40 = .ok (.invokevirtual 130, 3) := dk_182 0 130 (dk_at dksX0_move_1 16 rfl rfl)
theorem dX0_move_43 : decode cX0_move 43 = .ok (.ireturn, 1) := dk_172 (dk_at dksX0_move_1 19 rfl rfl)
theorem dX0_move_44 : decode cX0_move 44 = .ok (.aload_n 0, 1) := dk_42 (dk_at dksX0_move_1 20 rfl rfl)
theorem dX0_move_45 : decode cX0_move 45 = .ok (.getfield 32, 3) := dk_180 0 32 (dk_at dksX0_move_1 21 rfl rfl)
theorem dX0_move_48 : decode cX0_move 48 = .ok (.getfield 159, 3) := dk_180 0 159 (dk_at dksX0_move_2 0 rfl rfl)
theorem dX0_move_51 : decode cX0_move 51 = .ok (.astore 5, 2) := dk_58 5 (dk_at dksX0_move_2 3 rfl rfl)
theorem dX0_move_53 : decode cX0_move 53 = .ok (.aload 5, 2) := dk_25 5 (dk_at dksX0_move_2 5 rfl rfl)
theorem dX0_move_55 : decode cX0_move 55 = .ok (.invokevirtual 137, 3) := dk_182 0 137 (dk_at dksX0_move_2 7 rfl rfl)
theorem dX0_move_58 : decode cX0_move 58 = .ok (.bipush 40, 2) := dk_16 40 (dk_at dksX0_move_2 10 rfl rfl)
theorem dX0_move_60 : decode cX0_move 60 = .ok (.if_icmp .ne 9, 3) := dk_160 0 9 (dk_at dksX0_move_2 12 rfl rfl)
theorem dX0_move_63 : decode cX0_move 63 = .ok (.aload_n 0, 1) := dk_42 (dk_at dksX0_move_2 15 rfl rfl)
theorem dX0_move_64 : decode cX0_move 64 = .ok (.iconst 3, 1) := dk_6 (dk_at dksX0_move_2 16 rfl rfl)
theorem dX0_move_65 : decode cX0_move 65 = .ok (.invokevirtual 130, 3) := dk_182 0 130 (dk_at dksX0_move_2 17 rfl rfl)
theorem dX0_move_68 : decode cX0_move 68 = .ok (.ireturn, 1) := dk_172 (dk_at dksX0_move_2 20 rfl rfl)
theorem dX0_move_69 : decode cX0_move 69 = .ok (.aload_n 0, 1) := dk_42 (dk_at dksX0_move_2 21 rfl rfl)
theorem dX0_move_70 : decode cX0_move 70 = .ok (.getfield 32, 3) := dk_180 0 32 (dk_at dksX0_move_3 0 rfl rfl)
theorem dX0_move_73 : decode cX0_move 73 = .ok (.iload_n 2, 1) := dk_28 (dk_at dksX0_move_3 3 rfl rfl)
theorem dX0_move_74 : decode cX0_move 74 = .ok (.bipush 100, 2) := dk_16 100 (dk_at dksX0_move_3 4 rfl rfl)
theorem dX0_move_76 : decode cX0_move 76 = .ok (.invokevirtual 168, 3) := dk_182 0 168 (dk_at dksX0_move_3 6 rfl rfl)
theorem dX0_move_79 : decode cX0_move 79 = .ok (.istore 6, 2) := dk_54 6 (dk_at dksX0_move_3 9 rfl rfl)
theorem dX0_move_81 : decode cX0_move 81 = .ok (.aload 5, 2) := dk_25 5 (dk_at dksX0_move_3 11 rfl rfl)
theorem dX0_move_83 : decode cX0_move 83 = .ok (.invokevirtual 137, 3) := dk_182 0 137 (dk_at dksX0_move_3 13 rfl rfl)
theorem dX0_move_86 : decode cX0_move 86 = .ok (.ifCond .le 30, 3) := dk_158 0 30 (dk_at dksX0_move_3 16 rfl rfl)
theorem dX0_move_89 : decode cX0_move 89 = .ok (.aload 5, 2) := dk_25 5 (dk_at dksX0_move_3 19 rfl rfl)
theorem dX0_move_91 : decode cX0_move 91 = .ok (.aload 5, 2) := dk_25 5 (dk_at dksX0_move_3 21 rfl rfl)
theorem dX0_move_93 : decode cX0_move 93 = .ok (.invokevirtual 137, 3) := dk_182 0 137 (dk_at dksX0_move_4 0 rfl rfl)
theorem dX0_move_96 : decode cX0_move 96 = .ok (.iconst 1, 1) := dk_4 (dk_at dksX0_move_4 3 rfl rfl)
theorem dX0_move_97 : decode cX0_move 97 = .ok (.isub, 1) := dk_100 (dk_at dksX0_move_4 4 rfl rfl)
theorem dX0_move_98 : decode cX0_move 98 = .ok (.invokevirtual 172, 3) := dk_182 0 172 (dk_at dksX0_move_4 5 rfl rfl)
theorem dX0_move_101 : decode cX0_move 101 = .ok (.checkcast 176, 3) := dk_192 0 176 (dk_at dksX0_move_4 8 rfl rfl)
theorem dX0_move_104 : decode cX0_move 104 = .ok (.getfield 178, 3) := dk_180 0 178 (dk_at dksX0_move_4 11 rfl rfl)
theorem dX0_move_107 : decode cX0_move 107 = .ok (.iload 4, 2) := dk_21 4 (dk_at dksX0_move_4 14 rfl rfl)
theorem dX0_move_109 : decode cX0_move 109 = .ok (.if_icmp .le 7, 3) := dk_164 0 7 (dk_at dksX0_move_4 16 rfl rfl)
theorem dX0_move_112 : decode cX0_move 112 = .ok (.iconst 1, 1) := dk_4 (dk_at dksX0_move_4 19 rfl rfl)
theorem dX0_move_113 : decode cX0_move 113 = .ok (.goto 4, 3) := dk_167 0 4 (dk_at dksX0_move_4 20 rfl rfl)
theorem dX0_move_116 : decode cX0_move 116 = .ok (.iconst 0, 1) := dk_3 (dk_at dksX0_move_4 23 rfl rfl)
theorem dX0_move_117 : decode cX0_move 117 = .ok (.istore 7, 2) := dk_54 7 (dk_at dksX0_move_5 0 rfl rfl)
theorem dX0_move_119 : decode cX0_move 119 = .ok (.iload 7, 2) := dk_21 7 (dk_at dksX0_move_5 2 rfl rfl)
theorem dX0_move_121 : decode cX0_move 121 = .ok (.ifCond .ne 42, 3) := dk_154 0 42 (dk_at dksX0_move_5 4 rfl rfl)
theorem dX0_move_124 : decode cX0_move 124 = .ok (.iload 6, 2) := dk_21 6 (dk_at dksX0_move_5 7 rfl rfl)
theorem dX0_move_126 : decode cX0_move 126 = .ok (.iload_n 3, 1) := dk_29 (dk_at dksX0_move_5 9 rfl rfl)
theorem dX0_move_127 : decode cX0_move 127 = .ok (.if_icmp .eq 36, 3) := dk_159 0 36 (dk_at dksX0_move_5 10 rfl rfl)
theorem dX0_move_130 : decode cX0_move 130 = .ok (.aload_n 0, 1) := dk_42 (dk_at dksX0_move_5 13 rfl rfl)
theorem dX0_move_131 : decode cX0_move 131 = .ok (.iload_n 1, 1) := dk_27 (dk_at dksX0_move_5 14 rfl rfl)
theorem dX0_move_132 : decode cX0_move 132 = .ok (.iconst 2, 1) := dk_5 (dk_at dksX0_move_5 15 rfl rfl)
theorem dX0_move_133 : decode cX0_move 133 = .ok (.idiv, 1) := dk_108 (dk_at dksX0_move_5 16 rfl rfl)
theorem dX0_move_134 : decode cX0_move 134 = .ok (.iload 6, 2) := dk_21 6 (dk_at dksX0_move_5 17 rfl rfl)
theorem dX0_move_136 : decode cX0_move 136 = .ok (.invokevirtual 181, 3) := dk_182 0 181 (dk_at dksX0_move_5 19 rfl rfl)
theorem dX0_move_139 : decode cX0_move 139 = .ok (.ifCond .eq 24, 3) := dk_153 0 24 (dk_at dksX0_move_6 0 rfl rfl)
theorem dX0_move_142 : decode cX0_move 142 = .ok (.aload_n 0, 1) := dk_42 (dk_at dksX0_move_6 3 rfl rfl)
theorem dX0_move_143 : decode cX0_move 143 = .ok (.iload_n 1, 1) := dk_27 (dk_at dksX0_move_6 4 rfl rfl)
theorem dX0_move_144 : decode cX0_move 144 = .ok (.iconst 2, 1) := dk_5 (dk_at dksX0_move_6 5 rfl rfl)
theorem dX0_move_145 : decode cX0_move 145 = .ok (.idiv, 1) := dk_108 (dk_at dksX0_move_6 6 rfl rfl)
theorem dX0_move_146 : decode cX0_move 146 = .ok (.iload_n 3, 1) := dk_29 (dk_at dksX0_move_6 7 rfl rfl)
theorem dX0_move_147 : decode cX0_move 147 = .ok (.invokevirtual 181, 3) := dk_182 0 181 (dk_at dksX0_move_6 8 rfl rfl)
theorem dX0_move_150 : decode cX0_move 150 = .ok (.ifCond .eq 13, 3) := dk_153 0 13 (dk_at dksX0_move_6 11 rfl rfl)
theorem dX0_move_153 : decode cX0_move 153 = .ok (.aload_n 0, 1) := dk_42 (dk_at dksX0_move_6 14 rfl rfl)
theorem dX0_move_154 : decode cX0_move 154 = .ok (.iload_n 1, 1) := dk_27 (dk_at dksX0_move_6 15 rfl rfl)
theorem dX0_move_155 : decode cX0_move 155 = .ok (.iload 4, 2) := dk_21 4 (dk_at dksX0_move_6 16 rfl rfl)
theorem dX0_move_157 : decode cX0_move 157 = .ok (.invokevirtual 184, 3) := dk_182 0 184 (dk_at dksX0_move_6 18 rfl rfl)
theorem dX0_move_160 : decode cX0_move 160 = .ok (.ifCond .ne 9, 3) := dk_154 0 9 (dk_at dksX0_move_6 21 rfl rfl)
theorem dX0_move_163 : decode cX0_move 163 = .ok (.aload_n 0, 1) := dk_42 (dk_at dksX0_move_7 0 rfl rfl)
theorem dX0_move_164 : decode cX0_move 164 = .ok (.iconst 5, 1) := dk_8 (dk_at dksX0_move_7 1 rfl rfl)
theorem dX0_move_165 : decode cX0_move 165 = .ok (.invokevirtual 130, 3) := dk_182 0 130 (dk_at dksX0_move_7 2 rfl rfl)
theorem dX0_move_168 : decode cX0_move 168 = .ok (.ireturn, 1) := dk_172 (dk_at dksX0_move_7 5 rfl rfl)
theorem dX0_move_169 : decode cX0_move 169 = .ok (.aload 5, 2) := dk_25 5 (dk_at dksX0_move_7 6 rfl rfl)
theorem dX0_move_171 : decode cX0_move 171 = .ok (.new 176, 3) := dk_187 0 176 (dk_at dksX0_move_7 8 rfl rfl)
theorem dX0_move_174 : decode cX0_move 174 = .ok (.dup, 1) := dk_89 (dk_at dksX0_move_7 11 rfl rfl)
theorem dX0_move_175 : decode cX0_move 175 = .ok (.iload_n 1, 1) := dk_27 (dk_at dksX0_move_7 12 rfl rfl)
theorem dX0_move_176 : decode cX0_move 176 = .ok (.iload_n 2, 1) := dk_28 (dk_at dksX0_move_7 13 rfl rfl)
theorem dX0_move_177 : decode cX0_move 177 = .ok (.iload 6, 2) := dk_21 6 (dk_at dksX0_move_7 14 rfl rfl)
theorem dX0_move_179 : decode cX0_move 179 = .ok (.iload_n 3, 1) := dk_29 (dk_at dksX0_move_7 16 rfl rfl)
theorem dX0_move_180 : decode cX0_move 180 = .ok (.iload 4, 2) := dk_21 4 (dk_at dksX0_move_7 17 rfl rfl)
theorem dX0_move_182 : decode cX0_move 182 = .ok (.invokespecial 187, 3) := dk_183 0 187 (dk_at dksX0_move_7 19 rfl rfl)
theorem dX0_move_185 : decode cX0_move 185 = .ok (.invokevirtual 146, 3) := dk_182 0 146 (dk_at dksX0_move_8 0 rfl rfl)
theorem dX0_move_188 : decode cX0_move 188 = .ok (.pop, 1) := dk_87 (dk_at dksX0_move_8 3 rfl rfl)
theorem dX0_move_189 : decode cX0_move 189 = .ok (.aload 5, 2) := dk_25 5 (dk_at dksX0_move_8 4 rfl rfl)
theorem dX0_move_191 : decode cX0_move 191 = .ok (.invokevirtual 137, 3) := dk_182 0 137 (dk_at dksX0_move_8 6 rfl rfl)
theorem dX0_move_194 : decode cX0_move 194 = .ok (.iconst 1, 1) := dk_4 (dk_at dksX0_move_8 9 rfl rfl)
theorem dX0_move_195 : decode cX0_move 195 = .ok (.isub, 1) := dk_100 (dk_at dksX0_move_8 10 rfl rfl)
theorem dX0_move_196 : decode cX0_move 196 = .ok (.ireturn, 1) := dk_172 (dk_at dksX0_move_8 11 rfl rfl)
abbrev cX0_isThing : ByteArray := prog_1_method_11_code
def yX0_isThing : MethodName := ⟨RX0, "isThing", "(I)Z"⟩
def dkwX0_isThing_0 : List UInt8 := [27, 133, 9, 42, 180, 0, 32, 180, 0, 88, 4, 100, 133, 184, 0, 5, 172]
abbrev dktX0_isThing_0 : List UInt8 := dkwX0_isThing_0 ++ []
theorem dksX0_isThing_0 : cX0_isThing.data.toList.drop 0 = dktX0_isThing_0 := by decide +kernel
theorem dX0_isThing_0 : decode cX0_isThing 0 = .ok (.iload_n 1, 1) := dk_27 (dk_at dksX0_isThing_0 0 rfl rfl)
theorem dX0_isThing_1 : decode cX0_isThing 1 = .ok (.i2l, 1) := dk_133 (dk_at dksX0_isThing_0 1 rfl rfl)
theorem dX0_isThing_2 : decode cX0_isThing 2 = .ok (.lconst 0, 1) := dk_9 (dk_at dksX0_isThing_0 2 rfl rfl)
theorem dX0_isThing_3 : decode cX0_isThing 3 = .ok (.aload_n 0, 1) := dk_42 (dk_at dksX0_isThing_0 3 rfl rfl)
theorem dX0_isThing_4 : decode cX0_isThing 4 = .ok (.getfield 32, 3) := dk_180 0 32 (dk_at dksX0_isThing_0 4 rfl rfl)
theorem dX0_isThing_7 : decode cX0_isThing 7 = .ok (.getfield 88, 3) := dk_180 0 88 (dk_at dksX0_isThing_0 7 rfl rfl)
theorem dX0_isThing_10 : decode cX0_isThing 10 = .ok (.iconst 1, 1) := dk_4 (dk_at dksX0_isThing_0 10 rfl rfl)
theorem dX0_isThing_11 : decode cX0_isThing 11 = .ok (.isub, 1) := dk_100 (dk_at dksX0_isThing_0 11 rfl rfl)
theorem dX0_isThing_12 : decode cX0_isThing 12 = .ok (.i2l, 1) := dk_133 (dk_at dksX0_isThing_0 12 rfl rfl)
theorem dX0_isThing_13 : decode cX0_isThing 13 = .ok (.invokestatic 5, 3) := dk_184 0 5 (dk_at dksX0_isThing_0 13 rfl rfl)
theorem dX0_isThing_16 : decode cX0_isThing 16 = .ok (.ireturn, 1) := dk_172 (dk_at dksX0_isThing_0 16 rfl rfl)
abbrev cX0_reaches : ByteArray := prog_1_method_13_code
def yX0_reaches : MethodName := ⟨RX0, "reaches", "(II)Z"⟩
def dkwX0_reaches_1 : List UInt8 := [167, 0, 4, 3, 172]
abbrev dktX0_reaches_1 : List UInt8 := dkwX0_reaches_1 ++ []
def dkwX0_reaches_0 : List UInt8 := [28, 42, 180, 0, 25, 159, 0, 17, 28, 27, 159, 0, 12, 42, 27, 28, 182, 0, 91, 153, 0, 7, 4]
abbrev dktX0_reaches_0 : List UInt8 := dkwX0_reaches_0 ++ dktX0_reaches_1
theorem dksX0_reaches_0 : cX0_reaches.data.toList.drop 0 = dktX0_reaches_0 := by decide +kernel
theorem dksX0_reaches_1 : cX0_reaches.data.toList.drop 23 = dktX0_reaches_1 := dk_seg dksX0_reaches_0 23 rfl rfl
theorem dX0_reaches_0 : decode cX0_reaches 0 = .ok (.iload_n 2, 1) := dk_28 (dk_at dksX0_reaches_0 0 rfl rfl)
theorem dX0_reaches_1 : decode cX0_reaches 1 = .ok (.aload_n 0, 1) := dk_42 (dk_at dksX0_reaches_0 1 rfl rfl)
theorem dX0_reaches_2 : decode cX0_reaches 2 = .ok (.getfield 25, 3) := dk_180 0 25 (dk_at dksX0_reaches_0 2 rfl rfl)
theorem dX0_reaches_5 : decode cX0_reaches 5 = .ok (.if_icmp .eq 17, 3) := dk_159 0 17 (dk_at dksX0_reaches_0 5 rfl rfl)
theorem dX0_reaches_8 : decode cX0_reaches 8 = .ok (.iload_n 2, 1) := dk_28 (dk_at dksX0_reaches_0 8 rfl rfl)
theorem dX0_reaches_9 : decode cX0_reaches 9 = .ok (.iload_n 1, 1) := dk_27 (dk_at dksX0_reaches_0 9 rfl rfl)
theorem dX0_reaches_10 : decode cX0_reaches 10 = .ok (.if_icmp .eq 12, 3) := dk_159 0 12 (dk_at dksX0_reaches_0 10 rfl rfl)
theorem dX0_reaches_13 : decode cX0_reaches 13 = .ok (.aload_n 0, 1) := dk_42 (dk_at dksX0_reaches_0 13 rfl rfl)
theorem dX0_reaches_14 : decode cX0_reaches 14 = .ok (.iload_n 1, 1) := dk_27 (dk_at dksX0_reaches_0 14 rfl rfl)
theorem dX0_reaches_15 : decode cX0_reaches 15 = .ok (.iload_n 2, 1) := dk_28 (dk_at dksX0_reaches_0 15 rfl rfl)
theorem dX0_reaches_16 : decode cX0_reaches 16 = .ok (.invokevirtual 91, 3) := dk_182 0 91 (dk_at dksX0_reaches_0 16 rfl rfl)
theorem dX0_reaches_19 : decode cX0_reaches 19 = .ok (.ifCond .eq 7, 3) := dk_153 0 7 (dk_at dksX0_reaches_0 19 rfl rfl)
theorem dX0_reaches_22 : decode cX0_reaches 22 = .ok (.iconst 1, 1) := dk_4 (dk_at dksX0_reaches_0 22 rfl rfl)
theorem dX0_reaches_23 : decode cX0_reaches 23 = .ok (.goto 4, 3) := dk_167 0 4 (dk_at dksX0_reaches_1 0 rfl rfl)
theorem dX0_reaches_26 : decode cX0_reaches 26 = .ok (.iconst 0, 1) := dk_3 (dk_at dksX0_reaches_1 3 rfl rfl)
theorem dX0_reaches_27 : decode cX0_reaches 27 = .ok (.ireturn, 1) := dk_172 (dk_at dksX0_reaches_1 4 rfl rfl)
abbrev cX0_isFree : ByteArray := prog_1_method_31_code
def yX0_isFree : MethodName := ⟨RX0, "isFree", "(II)Z"⟩
def dkwX0_isFree_2 : List UInt8 := [132, 3, 1, 167, 255, 226, 42, 27, 28, 182, 0, 234, 154, 0, 7, 4, 167, 0, 4, 3, 172]
abbrev dktX0_isFree_2 : List UInt8 := dkwX0_isFree_2 ++ []
def dkwX0_isFree_1 : List UInt8 := [180, 0, 25, 104, 162, 0, 26, 42, 180, 0, 32, 180, 0, 156, 29, 50, 28, 46, 27, 160, 0, 5, 3, 172]
abbrev dktX0_isFree_1 : List UInt8 := dkwX0_isFree_1 ++ dktX0_isFree_2
def dkwX0_isFree_0 : List UInt8 := [42, 180, 0, 32, 180, 0, 156, 27, 50, 28, 46, 2, 159, 0, 5, 3, 172, 3, 62, 29, 5, 42]
abbrev dktX0_isFree_0 : List UInt8 := dkwX0_isFree_0 ++ dktX0_isFree_1
theorem dksX0_isFree_0 : cX0_isFree.data.toList.drop 0 = dktX0_isFree_0 := by decide +kernel
theorem dksX0_isFree_1 : cX0_isFree.data.toList.drop 22 = dktX0_isFree_1 := dk_seg dksX0_isFree_0 22 rfl rfl
theorem dksX0_isFree_2 : cX0_isFree.data.toList.drop 46 = dktX0_isFree_2 := dk_seg dksX0_isFree_1 24 rfl rfl
theorem dX0_isFree_0 : decode cX0_isFree 0 = .ok (.aload_n 0, 1) := dk_42 (dk_at dksX0_isFree_0 0 rfl rfl)
theorem dX0_isFree_1 : decode cX0_isFree 1 = .ok (.getfield 32, 3) := dk_180 0 32 (dk_at dksX0_isFree_0 1 rfl rfl)
theorem dX0_isFree_4 : decode cX0_isFree 4 = .ok (.getfield 156, 3) := dk_180 0 156 (dk_at dksX0_isFree_0 4 rfl rfl)
theorem dX0_isFree_7 : decode cX0_isFree 7 = .ok (.iload_n 1, 1) := dk_27 (dk_at dksX0_isFree_0 7 rfl rfl)
theorem dX0_isFree_8 : decode cX0_isFree 8 = .ok (.aaload, 1) := dk_50 (dk_at dksX0_isFree_0 8 rfl rfl)
theorem dX0_isFree_9 : decode cX0_isFree 9 = .ok (.iload_n 2, 1) := dk_28 (dk_at dksX0_isFree_0 9 rfl rfl)
theorem dX0_isFree_10 : decode cX0_isFree 10 = .ok (.iaload, 1) := dk_46 (dk_at dksX0_isFree_0 10 rfl rfl)
theorem dX0_isFree_11 : decode cX0_isFree 11 = .ok (.iconst (-1), 1) := dk_2 (dk_at dksX0_isFree_0 11 rfl rfl)
theorem dX0_isFree_12 : decode cX0_isFree 12 = .ok (.if_icmp .eq 5, 3) := dk_159 0 5 (dk_at dksX0_isFree_0 12 rfl rfl)
theorem dX0_isFree_15 : decode cX0_isFree 15 = .ok (.iconst 0, 1) := dk_3 (dk_at dksX0_isFree_0 15 rfl rfl)
theorem dX0_isFree_16 : decode cX0_isFree 16 = .ok (.ireturn, 1) := dk_172 (dk_at dksX0_isFree_0 16 rfl rfl)
theorem dX0_isFree_17 : decode cX0_isFree 17 = .ok (.iconst 0, 1) := dk_3 (dk_at dksX0_isFree_0 17 rfl rfl)
theorem dX0_isFree_18 : decode cX0_isFree 18 = .ok (.istore_n 3, 1) := dk_62 (dk_at dksX0_isFree_0 18 rfl rfl)
theorem dX0_isFree_19 : decode cX0_isFree 19 = .ok (.iload_n 3, 1) := dk_29 (dk_at dksX0_isFree_0 19 rfl rfl)
theorem dX0_isFree_20 : decode cX0_isFree 20 = .ok (.iconst 2, 1) := dk_5 (dk_at dksX0_isFree_0 20 rfl rfl)
theorem dX0_isFree_21 : decode cX0_isFree 21 = .ok (.aload_n 0, 1) := dk_42 (dk_at dksX0_isFree_0 21 rfl rfl)
theorem dX0_isFree_22 : decode cX0_isFree 22 = .ok (.getfield 25, 3) := dk_180 0 25 (dk_at dksX0_isFree_1 0 rfl rfl)
theorem dX0_isFree_25 : decode cX0_isFree 25 = .ok (.imul, 1) := dk_104 (dk_at dksX0_isFree_1 3 rfl rfl)
theorem dX0_isFree_26 : decode cX0_isFree 26 = .ok (.if_icmp .ge 26, 3) := dk_162 0 26 (dk_at dksX0_isFree_1 4 rfl rfl)
theorem dX0_isFree_29 : decode cX0_isFree 29 = .ok (.aload_n 0, 1) := dk_42 (dk_at dksX0_isFree_1 7 rfl rfl)
theorem dX0_isFree_30 : decode cX0_isFree 30 = .ok (.getfield 32, 3) := dk_180 0 32 (dk_at dksX0_isFree_1 8 rfl rfl)
theorem dX0_isFree_33 : decode cX0_isFree 33 = .ok (.getfield 156, 3) := dk_180 0 156 (dk_at dksX0_isFree_1 11 rfl rfl)
theorem dX0_isFree_36 : decode cX0_isFree 36 = .ok (.iload_n 3, 1) := dk_29 (dk_at dksX0_isFree_1 14 rfl rfl)
theorem dX0_isFree_37 : decode cX0_isFree 37 = .ok (.aaload, 1) := dk_50 (dk_at dksX0_isFree_1 15 rfl rfl)
theorem dX0_isFree_38 : decode cX0_isFree 38 = .ok (.iload_n 2, 1) := dk_28 (dk_at dksX0_isFree_1 16 rfl rfl)
theorem dX0_isFree_39 : decode cX0_isFree 39 = .ok (.iaload, 1) := dk_46 (dk_at dksX0_isFree_1 17 rfl rfl)
theorem dX0_isFree_40 : decode cX0_isFree 40 = .ok (.iload_n 1, 1) := dk_27 (dk_at dksX0_isFree_1 18 rfl rfl)
theorem dX0_isFree_41 : decode cX0_isFree 41 = .ok (.if_icmp .ne 5, 3) := dk_160 0 5 (dk_at dksX0_isFree_1 19 rfl rfl)
theorem dX0_isFree_44 : decode cX0_isFree 44 = .ok (.iconst 0, 1) := dk_3 (dk_at dksX0_isFree_1 22 rfl rfl)
theorem dX0_isFree_45 : decode cX0_isFree 45 = .ok (.ireturn, 1) := dk_172 (dk_at dksX0_isFree_1 23 rfl rfl)
theorem dX0_isFree_46 : decode cX0_isFree 46 = .ok (.iinc 3 1, 3) := dk_132 3 1 (dk_at dksX0_isFree_2 0 rfl rfl)
theorem dX0_isFree_49 : decode cX0_isFree 49 = .ok (.goto (-30), 3) := dk_167 255 226 (dk_at dksX0_isFree_2 3 rfl rfl)
theorem dX0_isFree_52 : decode cX0_isFree 52 = .ok (.aload_n 0, 1) := dk_42 (dk_at dksX0_isFree_2 6 rfl rfl)
theorem dX0_isFree_53 : decode cX0_isFree 53 = .ok (.iload_n 1, 1) := dk_27 (dk_at dksX0_isFree_2 7 rfl rfl)
theorem dX0_isFree_54 : decode cX0_isFree 54 = .ok (.iload_n 2, 1) := dk_28 (dk_at dksX0_isFree_2 8 rfl rfl)
theorem dX0_isFree_55 : decode cX0_isFree 55 = .ok (.invokevirtual 234, 3) := dk_182 0 234 (dk_at dksX0_isFree_2 9 rfl rfl)
theorem dX0_isFree_58 : decode cX0_isFree 58 = .ok (.ifCond .ne 7, 3) := dk_154 0 7 (dk_at dksX0_isFree_2 12 rfl rfl)
theorem dX0_isFree_61 : decode cX0_isFree 61 = .ok (.iconst 1, 1) := dk_4 (dk_at dksX0_isFree_2 15 rfl rfl)
theorem dX0_isFree_62 : decode cX0_isFree 62 = .ok (.goto 4, 3) := dk_167 0 4 (dk_at dksX0_isFree_2 16 rfl rfl)
theorem dX0_isFree_65 : decode cX0_isFree 65 = .ok (.iconst 0, 1) := dk_3 (dk_at dksX0_isFree_2 19 rfl rfl)
theorem dX0_isFree_66 : decode cX0_isFree 66 = .ok (.ireturn, 1) := dk_172 (dk_at dksX0_isFree_2 20 rfl rfl)
abbrev cX0_isTied : ByteArray := prog_1_method_32_code
def yX0_isTied : MethodName := ⟨RX0, "isTied", "(II)Z"⟩
def dkwX0_isTied_2 : List UInt8 := [4, 172, 132, 3, 1, 167, 255, 206, 3, 172]
abbrev dktX0_isTied_2 : List UInt8 := dkwX0_isTied_2 ++ []
def dkwX0_isTied_1 : List UInt8 := [182, 0, 204, 153, 0, 23, 42, 180, 0, 45, 29, 182, 0, 172, 192, 0, 199, 27, 182, 0, 237, 153, 0, 5]
abbrev dktX0_isTied_1 : List UInt8 := dkwX0_isTied_1 ++ dktX0_isTied_2
def dkwX0_isTied_0 : List UInt8 := [3, 62, 42, 180, 0, 196, 153, 0, 49, 29, 42, 180, 0, 45, 182, 0, 137, 162, 0, 38, 42, 29, 28]
abbrev dktX0_isTied_0 : List UInt8 := dkwX0_isTied_0 ++ dktX0_isTied_1
theorem dksX0_isTied_0 : cX0_isTied.data.toList.drop 0 = dktX0_isTied_0 := by decide +kernel
theorem dksX0_isTied_1 : cX0_isTied.data.toList.drop 23 = dktX0_isTied_1 := dk_seg dksX0_isTied_0 23 rfl rfl
theorem dksX0_isTied_2 : cX0_isTied.data.toList.drop 47 = dktX0_isTied_2 := dk_seg dksX0_isTied_1 24 rfl rfl
theorem dX0_isTied_0 : decode cX0_isTied 0 = .ok (.iconst 0, 1) := dk_3 (dk_at dksX0_isTied_0 0 rfl rfl)
theorem dX0_isTied_1 : decode cX0_isTied 1 = .ok (.istore_n 3, 1) := dk_62 (dk_at dksX0_isTied_0 1 rfl rfl)
theorem dX0_isTied_2 : decode cX0_isTied 2 = .ok (.aload_n 0, 1) := dk_42 (dk_at dksX0_isTied_0 2 rfl rfl)
theorem dX0_isTied_3 : decode cX0_isTied 3 = .ok (.getfield 196, 3) := dk_180 0 196 (dk_at dksX0_isTied_0 3 rfl rfl)
theorem dX0_isTied_6 : decode cX0_isTied 6 = .ok (.ifCond .eq 49, 3) := dk_153 0 49 (dk_at dksX0_isTied_0 6 rfl rfl)
theorem dX0_isTied_9 : decode cX0_isTied 9 = .ok (.iload_n 3, 1) := dk_29 (dk_at dksX0_isTied_0 9 rfl rfl)
theorem dX0_isTied_10 : decode cX0_isTied 10 = .ok (.aload_n 0, 1) := dk_42 (dk_at dksX0_isTied_0 10 rfl rfl)
theorem dX0_isTied_11 : decode cX0_isTied 11 = .ok (.getfield 45, 3) := dk_180 0 45 (dk_at dksX0_isTied_0 11 rfl rfl)
theorem dX0_isTied_14 : decode cX0_isTied 14 = .ok (.invokevirtual 137, 3) := dk_182 0 137 (dk_at dksX0_isTied_0 14 rfl rfl)
theorem dX0_isTied_17 : decode cX0_isTied 17 = .ok (.if_icmp .ge 38, 3) := dk_162 0 38 (dk_at dksX0_isTied_0 17 rfl rfl)
theorem dX0_isTied_20 : decode cX0_isTied 20 = .ok (.aload_n 0, 1) := dk_42 (dk_at dksX0_isTied_0 20 rfl rfl)
theorem dX0_isTied_21 : decode cX0_isTied 21 = .ok (.iload_n 3, 1) := dk_29 (dk_at dksX0_isTied_0 21 rfl rfl)
theorem dX0_isTied_22 : decode cX0_isTied 22 = .ok (.iload_n 2, 1) := dk_28 (dk_at dksX0_isTied_0 22 rfl rfl)
theorem dX0_isTied_23 : decode cX0_isTied 23 = .ok (.invokevirtual 204, 3) := dk_182 0 204 (dk_at dksX0_isTied_1 0 rfl rfl)
theorem dX0_isTied_26 : decode cX0_isTied 26 = .ok (.ifCond .eq 23, 3) := dk_153 0 23 (dk_at dksX0_isTied_1 3 rfl rfl)
theorem dX0_isTied_29 : decode cX0_isTied 29 = .ok (.aload_n 0, 1) := dk_42 (dk_at dksX0_isTied_1 6 rfl rfl)
theorem dX0_isTied_30 : decode cX0_isTied 30 = .ok (.getfield 45, 3) := dk_180 0 45 (dk_at dksX0_isTied_1 7 rfl rfl)
theorem dX0_isTied_33 : decode cX0_isTied 33 = .ok (.iload_n 3, 1) := dk_29 (dk_at dksX0_isTied_1 10 rfl rfl)
theorem dX0_isTied_34 : decode cX0_isTied 34 = .ok (.invokevirtual 172, 3) := dk_182 0 172 (dk_at dksX0_isTied_1 11 rfl rfl)
theorem dX0_isTied_37 : decode cX0_isTied 37 = .ok (.checkcast 199, 3) := dk_192 0 199 (dk_at dksX0_isTied_1 14 rfl rfl)
theorem dX0_isTied_40 : decode cX0_isTied 40 = .ok (.iload_n 1, 1) := dk_27 (dk_at dksX0_isTied_1 17 rfl rfl)
theorem dX0_isTied_41 : decode cX0_isTied 41 = .ok (.invokevirtual 237, 3) := dk_182 0 237 (dk_at dksX0_isTied_1 18 rfl rfl)
theorem dX0_isTied_44 : decode cX0_isTied 44 = .ok (.ifCond .eq 5, 3) := dk_153 0 5 (dk_at dksX0_isTied_1 21 rfl rfl)
theorem dX0_isTied_47 : decode cX0_isTied 47 = .ok (.iconst 1, 1) := dk_4 (dk_at dksX0_isTied_2 0 rfl rfl)
theorem dX0_isTied_48 : decode cX0_isTied 48 = .ok (.ireturn, 1) := dk_172 (dk_at dksX0_isTied_2 1 rfl rfl)
theorem dX0_isTied_49 : decode cX0_isTied 49 = .ok (.iinc 3 1, 3) := dk_132 3 1 (dk_at dksX0_isTied_2 2 rfl rfl)
theorem dX0_isTied_52 : decode cX0_isTied 52 = .ok (.goto (-50), 3) := dk_167 255 206 (dk_at dksX0_isTied_2 5 rfl rfl)
theorem dX0_isTied_55 : decode cX0_isTied 55 = .ok (.iconst 0, 1) := dk_3 (dk_at dksX0_isTied_2 8 rfl rfl)
theorem dX0_isTied_56 : decode cX0_isTied 56 = .ok (.ireturn, 1) := dk_172 (dk_at dksX0_isTied_2 9 rfl rfl)
abbrev cX0_isInForce : ByteArray := prog_1_method_26_code
def yX0_isInForce : MethodName := ⟨RX0, "isInForce", "(II)Z"⟩
def dkwX0_isInForce_1 : List UInt8 := [182, 0, 201, 153, 0, 7, 4, 167, 0, 4, 3, 172]
abbrev dktX0_isInForce_1 : List UInt8 := dkwX0_isInForce_1 ++ []
def dkwX0_isInForce_0 : List UInt8 := [42, 180, 0, 196, 27, 122, 4, 126, 4, 160, 0, 25, 42, 180, 0, 45, 27, 182, 0, 172, 192, 0, 199, 28]
abbrev dktX0_isInForce_0 : List UInt8 := dkwX0_isInForce_0 ++ dktX0_isInForce_1
theorem dksX0_isInForce_0 : cX0_isInForce.data.toList.drop 0 = dktX0_isInForce_0 := by decide +kernel
theorem dksX0_isInForce_1 : cX0_isInForce.data.toList.drop 24 = dktX0_isInForce_1 := dk_seg dksX0_isInForce_0 24 rfl rfl
theorem dX0_isInForce_0 : decode cX0_isInForce 0 = .ok (.aload_n 0, 1) := dk_42 (dk_at dksX0_isInForce_0 0 rfl rfl)
theorem dX0_isInForce_1 : decode cX0_isInForce 1 = .ok (.getfield 196, 3) := dk_180 0 196 (dk_at dksX0_isInForce_0 1 rfl rfl)
theorem dX0_isInForce_4 : decode cX0_isInForce 4 = .ok (.iload_n 1, 1) := dk_27 (dk_at dksX0_isInForce_0 4 rfl rfl)
theorem dX0_isInForce_5 : decode cX0_isInForce 5 = .ok (.ishr, 1) := dk_122 (dk_at dksX0_isInForce_0 5 rfl rfl)
theorem dX0_isInForce_6 : decode cX0_isInForce 6 = .ok (.iconst 1, 1) := dk_4 (dk_at dksX0_isInForce_0 6 rfl rfl)
theorem dX0_isInForce_7 : decode cX0_isInForce 7 = .ok (.iand, 1) := dk_126 (dk_at dksX0_isInForce_0 7 rfl rfl)
theorem dX0_isInForce_8 : decode cX0_isInForce 8 = .ok (.iconst 1, 1) := dk_4 (dk_at dksX0_isInForce_0 8 rfl rfl)
theorem dX0_isInForce_9 : decode cX0_isInForce 9 = .ok (.if_icmp .ne 25, 3) := dk_160 0 25 (dk_at dksX0_isInForce_0 9 rfl rfl)
theorem dX0_isInForce_12 : decode cX0_isInForce 12 = .ok (.aload_n 0, 1) := dk_42 (dk_at dksX0_isInForce_0 12 rfl rfl)
theorem dX0_isInForce_13 : decode cX0_isInForce 13 = .ok (.getfield 45, 3) := dk_180 0 45 (dk_at dksX0_isInForce_0 13 rfl rfl)
theorem dX0_isInForce_16 : decode cX0_isInForce 16 = .ok (.iload_n 1, 1) := dk_27 (dk_at dksX0_isInForce_0 16 rfl rfl)
theorem dX0_isInForce_17 : decode cX0_isInForce 17 = .ok (.invokevirtual 172, 3) := dk_182 0 172 (dk_at dksX0_isInForce_0 17 rfl rfl)
theorem dX0_isInForce_20 : decode cX0_isInForce 20 = .ok (.checkcast 199, 3) := dk_192 0 199 (dk_at dksX0_isInForce_0 20 rfl rfl)
theorem dX0_isInForce_23 : decode cX0_isInForce 23 = .ok (.iload_n 2, 1) := dk_28 (dk_at dksX0_isInForce_0 23 rfl rfl)
theorem dX0_isInForce_24 : decode cX0_isInForce 24 = .ok (.invokevirtual 201, 3) := dk_182 0 201 (dk_at dksX0_isInForce_1 0 rfl rfl)
theorem dX0_isInForce_27 : decode cX0_isInForce 27 = .ok (.ifCond .eq 7, 3) := dk_153 0 7 (dk_at dksX0_isInForce_1 3 rfl rfl)
theorem dX0_isInForce_30 : decode cX0_isInForce 30 = .ok (.iconst 1, 1) := dk_4 (dk_at dksX0_isInForce_1 6 rfl rfl)
theorem dX0_isInForce_31 : decode cX0_isInForce 31 = .ok (.goto 4, 3) := dk_167 0 4 (dk_at dksX0_isInForce_1 7 rfl rfl)
theorem dX0_isInForce_34 : decode cX0_isInForce 34 = .ok (.iconst 0, 1) := dk_3 (dk_at dksX0_isInForce_1 10 rfl rfl)
theorem dX0_isInForce_35 : decode cX0_isInForce 35 = .ok (.ireturn, 1) := dk_172 (dk_at dksX0_isInForce_1 11 rfl rfl)
abbrev cX0_where : ByteArray := prog_1_method_23_code
def yX0_where : MethodName := ⟨RX0, "where", "(II)I"⟩
def dkwX0_where_1 : List UInt8 := [27, 28, 182, 0, 168, 167, 0, 4, 2, 172]
abbrev dktX0_where_1 : List UInt8 := dkwX0_where_1 ++ []
def dkwX0_where_0 : List UInt8 := [42, 27, 182, 0, 165, 153, 0, 27, 28, 2, 159, 0, 10, 28, 184, 0, 9, 153, 0, 15, 42, 180, 0, 32]
abbrev dktX0_where_0 : List UInt8 := dkwX0_where_0 ++ dktX0_where_1
theorem dksX0_where_0 : cX0_where.data.toList.drop 0 = dktX0_where_0 := by decide +kernel
theorem dksX0_where_1 : cX0_where.data.toList.drop 24 = dktX0_where_1 := dk_seg dksX0_where_0 24 rfl rfl
theorem dX0_where_0 : decode cX0_where 0 = .ok (.aload_n 0, 1) := dk_42 (dk_at dksX0_where_0 0 rfl rfl)
theorem dX0_where_1 : decode cX0_where 1 = .ok (.iload_n 1, 1) := dk_27 (dk_at dksX0_where_0 1 rfl rfl)
theorem dX0_where_2 : decode cX0_where 2 = .ok (.invokevirtual 165, 3) := dk_182 0 165 (dk_at dksX0_where_0 2 rfl rfl)
theorem dX0_where_5 : decode cX0_where 5 = .ok (.ifCond .eq 27, 3) := dk_153 0 27 (dk_at dksX0_where_0 5 rfl rfl)
theorem dX0_where_8 : decode cX0_where 8 = .ok (.iload_n 2, 1) := dk_28 (dk_at dksX0_where_0 8 rfl rfl)
theorem dX0_where_9 : decode cX0_where 9 = .ok (.iconst (-1), 1) := dk_2 (dk_at dksX0_where_0 9 rfl rfl)
theorem dX0_where_10 : decode cX0_where 10 = .ok (.if_icmp .eq 10, 3) := dk_159 0 10 (dk_at dksX0_where_0 10 rfl rfl)
theorem dX0_where_13 : decode cX0_where 13 = .ok (.iload_n 2, 1) := dk_28 (dk_at dksX0_where_0 13 rfl rfl)
theorem dX0_where_14 : decode cX0_where 14 = .ok (.invokestatic 9, 3) := dk_184 0 9 (dk_at dksX0_where_0 14 rfl rfl)
theorem dX0_where_17 : decode cX0_where 17 = .ok (.ifCond .eq 15, 3) := dk_153 0 15 (dk_at dksX0_where_0 17 rfl rfl)
theorem dX0_where_20 : decode cX0_where 20 = .ok (.aload_n 0, 1) := dk_42 (dk_at dksX0_where_0 20 rfl rfl)
theorem dX0_where_21 : decode cX0_where 21 = .ok (.getfield 32, 3) := dk_180 0 32 (dk_at dksX0_where_0 21 rfl rfl)
theorem dX0_where_24 : decode cX0_where 24 = .ok (.iload_n 1, 1) := dk_27 (dk_at dksX0_where_1 0 rfl rfl)
theorem dX0_where_25 : decode cX0_where 25 = .ok (.iload_n 2, 1) := dk_28 (dk_at dksX0_where_1 1 rfl rfl)
theorem dX0_where_26 : decode cX0_where 26 = .ok (.invokevirtual 168, 3) := dk_182 0 168 (dk_at dksX0_where_1 2 rfl rfl)
theorem dX0_where_29 : decode cX0_where 29 = .ok (.goto 4, 3) := dk_167 0 4 (dk_at dksX0_where_1 5 rfl rfl)
theorem dX0_where_32 : decode cX0_where 32 = .ok (.iconst (-1), 1) := dk_2 (dk_at dksX0_where_1 8 rfl rfl)
theorem dX0_where_33 : decode cX0_where 33 = .ok (.ireturn, 1) := dk_172 (dk_at dksX0_where_1 9 rfl rfl)
abbrev cX0_image : ByteArray := prog_1_method_24_code
def yX0_image : MethodName := ⟨RX0, "image", "(I)Z"⟩
def dkwX0_image_1 : List UInt8 := [3, 172, 42, 180, 0, 36, 27, 42, 180, 0, 32, 182, 0, 192, 83, 4, 172]
abbrev dktX0_image_1 : List UInt8 := dkwX0_image_1 ++ []
def dkwX0_image_0 : List UInt8 := [42, 27, 133, 9, 20, 0, 190, 184, 0, 5, 153, 0, 7, 3, 167, 0, 4, 4, 182, 0, 99, 154, 0, 5]
abbrev dktX0_image_0 : List UInt8 := dkwX0_image_0 ++ dktX0_image_1
theorem dksX0_image_0 : cX0_image.data.toList.drop 0 = dktX0_image_0 := by decide +kernel
theorem dksX0_image_1 : cX0_image.data.toList.drop 24 = dktX0_image_1 := dk_seg dksX0_image_0 24 rfl rfl
theorem dX0_image_0 : decode cX0_image 0 = .ok (.aload_n 0, 1) := dk_42 (dk_at dksX0_image_0 0 rfl rfl)
theorem dX0_image_1 : decode cX0_image 1 = .ok (.iload_n 1, 1) := dk_27 (dk_at dksX0_image_0 1 rfl rfl)
theorem dX0_image_2 : decode cX0_image 2 = .ok (.i2l, 1) := dk_133 (dk_at dksX0_image_0 2 rfl rfl)
theorem dX0_image_3 : decode cX0_image 3 = .ok (.lconst 0, 1) := dk_9 (dk_at dksX0_image_0 3 rfl rfl)
theorem dX0_image_4 : decode cX0_image 4 = .ok (.ldc2_w 190, 3) := dk_20 0 190 (dk_at dksX0_image_0 4 rfl rfl)
theorem dX0_image_7 : decode cX0_image 7 = .ok (.invokestatic 5, 3) := dk_184 0 5 (dk_at dksX0_image_0 7 rfl rfl)
theorem dX0_image_10 : decode cX0_image 10 = .ok (.ifCond .eq 7, 3) := dk_153 0 7 (dk_at dksX0_image_0 10 rfl rfl)
theorem dX0_image_13 : decode cX0_image 13 = .ok (.iconst 0, 1) := dk_3 (dk_at dksX0_image_0 13 rfl rfl)
theorem dX0_image_14 : decode cX0_image 14 = .ok (.goto 4, 3) := dk_167 0 4 (dk_at dksX0_image_0 14 rfl rfl)
theorem dX0_image_17 : decode cX0_image 17 = .ok (.iconst 1, 1) := dk_4 (dk_at dksX0_image_0 17 rfl rfl)
theorem dX0_image_18 : decode cX0_image 18 = .ok (.invokevirtual 99, 3) := dk_182 0 99 (dk_at dksX0_image_0 18 rfl rfl)
theorem dX0_image_21 : decode cX0_image 21 = .ok (.ifCond .ne 5, 3) := dk_154 0 5 (dk_at dksX0_image_0 21 rfl rfl)
theorem dX0_image_24 : decode cX0_image 24 = .ok (.iconst 0, 1) := dk_3 (dk_at dksX0_image_1 0 rfl rfl)
theorem dX0_image_25 : decode cX0_image 25 = .ok (.ireturn, 1) := dk_172 (dk_at dksX0_image_1 1 rfl rfl)
theorem dX0_image_26 : decode cX0_image 26 = .ok (.aload_n 0, 1) := dk_42 (dk_at dksX0_image_1 2 rfl rfl)
theorem dX0_image_27 : decode cX0_image 27 = .ok (.getfield 36, 3) := dk_180 0 36 (dk_at dksX0_image_1 3 rfl rfl)
theorem dX0_image_30 : decode cX0_image 30 = .ok (.iload_n 1, 1) := dk_27 (dk_at dksX0_image_1 6 rfl rfl)
theorem dX0_image_31 : decode cX0_image 31 = .ok (.aload_n 0, 1) := dk_42 (dk_at dksX0_image_1 7 rfl rfl)
theorem dX0_image_32 : decode cX0_image 32 = .ok (.getfield 32, 3) := dk_180 0 32 (dk_at dksX0_image_1 8 rfl rfl)
theorem dX0_image_35 : decode cX0_image 35 = .ok (.invokevirtual 192, 3) := dk_182 0 192 (dk_at dksX0_image_1 11 rfl rfl)
theorem dX0_image_38 : decode cX0_image 38 = .ok (.aastore, 1) := dk_83 (dk_at dksX0_image_1 14 rfl rfl)
theorem dX0_image_39 : decode cX0_image 39 = .ok (.iconst 1, 1) := dk_4 (dk_at dksX0_image_1 15 rfl rfl)
theorem dX0_image_40 : decode cX0_image 40 = .ok (.ireturn, 1) := dk_172 (dk_at dksX0_image_1 16 rfl rfl)
abbrev cX0_restore : ByteArray := prog_1_method_25_code
def yX0_restore : MethodName := ⟨RX0, "restore", "(I)Z"⟩
def dkwX0_restore_2 : List UInt8 := [182, 0, 192, 181, 0, 32, 4, 172]
abbrev dktX0_restore_2 : List UInt8 := dkwX0_restore_2 ++ []
def dkwX0_restore_1 : List UInt8 := [199, 0, 7, 8, 167, 0, 4, 3, 182, 0, 99, 154, 0, 5, 3, 172, 42, 42, 180, 0, 36, 27, 50]
abbrev dktX0_restore_1 : List UInt8 := dkwX0_restore_1 ++ dktX0_restore_2
def dkwX0_restore_0 : List UInt8 := [42, 27, 133, 9, 20, 0, 190, 184, 0, 5, 154, 0, 7, 4, 167, 0, 17, 42, 180, 0, 36, 27, 50]
abbrev dktX0_restore_0 : List UInt8 := dkwX0_restore_0 ++ dktX0_restore_1
theorem dksX0_restore_0 : cX0_restore.data.toList.drop 0 = dktX0_restore_0 := by decide +kernel
theorem dksX0_restore_1 : cX0_restore.data.toList.drop 23 = dktX0_restore_1 := dk_seg dksX0_restore_0 23 rfl rfl
theorem dksX0_restore_2 : cX0_restore.data.toList.drop 46 = dktX0_restore_2 := dk_seg dksX0_restore_1 23 rfl rfl
theorem dX0_restore_0 : decode cX0_restore 0 = .ok (.aload_n 0, 1) := dk_42 (dk_at dksX0_restore_0 0 rfl rfl)
theorem dX0_restore_1 : decode cX0_restore 1 = .ok (.iload_n 1, 1) := dk_27 (dk_at dksX0_restore_0 1 rfl rfl)
theorem dX0_restore_2 : decode cX0_restore 2 = .ok (.i2l, 1) := dk_133 (dk_at dksX0_restore_0 2 rfl rfl)
theorem dX0_restore_3 : decode cX0_restore 3 = .ok (.lconst 0, 1) := dk_9 (dk_at dksX0_restore_0 3 rfl rfl)
theorem dX0_restore_4 : decode cX0_restore 4 = .ok (.ldc2_w 190, 3) := dk_20 0 190 (dk_at dksX0_restore_0 4 rfl rfl)
theorem dX0_restore_7 : decode cX0_restore 7 = .ok (.invokestatic 5, 3) := dk_184 0 5 (dk_at dksX0_restore_0 7 rfl rfl)
theorem dX0_restore_10 : decode cX0_restore 10 = .ok (.ifCond .ne 7, 3) := dk_154 0 7 (dk_at dksX0_restore_0 10 rfl rfl)
theorem dX0_restore_13 : decode cX0_restore 13 = .ok (.iconst 1, 1) := dk_4 (dk_at dksX0_restore_0 13 rfl rfl)
theorem dX0_restore_14 : decode cX0_restore 14 = .ok (.goto 17, 3) := dk_167 0 17 (dk_at dksX0_restore_0 14 rfl rfl)
theorem dX0_restore_17 : decode cX0_restore 17 = .ok (.aload_n 0, 1) := dk_42 (dk_at dksX0_restore_0 17 rfl rfl)
theorem dX0_restore_18 : decode cX0_restore 18 = .ok (.getfield 36, 3) := dk_180 0 36 (dk_at dksX0_restore_0 18 rfl rfl)
theorem dX0_restore_21 : decode cX0_restore 21 = .ok (.iload_n 1, 1) := dk_27 (dk_at dksX0_restore_0 21 rfl rfl)
theorem dX0_restore_22 : decode cX0_restore 22 = .ok (.aaload, 1) := dk_50 (dk_at dksX0_restore_0 22 rfl rfl)
theorem dX0_restore_23 : decode cX0_restore 23 = .ok (.ifnonnull 7, 3) := dk_199 0 7 (dk_at dksX0_restore_1 0 rfl rfl)
theorem dX0_restore_26 : decode cX0_restore 26 = .ok (.iconst 5, 1) := dk_8 (dk_at dksX0_restore_1 3 rfl rfl)
theorem dX0_restore_27 : decode cX0_restore 27 = .ok (.goto 4, 3) := dk_167 0 4 (dk_at dksX0_restore_1 4 rfl rfl)
theorem dX0_restore_30 : decode cX0_restore 30 = .ok (.iconst 0, 1) := dk_3 (dk_at dksX0_restore_1 7 rfl rfl)
theorem dX0_restore_31 : decode cX0_restore 31 = .ok (.invokevirtual 99, 3) := dk_182 0 99 (dk_at dksX0_restore_1 8 rfl rfl)
theorem dX0_restore_34 : decode cX0_restore 34 = .ok (.ifCond .ne 5, 3) := dk_154 0 5 (dk_at dksX0_restore_1 11 rfl rfl)
theorem dX0_restore_37 : decode cX0_restore 37 = .ok (.iconst 0, 1) := dk_3 (dk_at dksX0_restore_1 14 rfl rfl)
theorem dX0_restore_38 : decode cX0_restore 38 = .ok (.ireturn, 1) := dk_172 (dk_at dksX0_restore_1 15 rfl rfl)
theorem dX0_restore_39 : decode cX0_restore 39 = .ok (.aload_n 0, 1) := dk_42 (dk_at dksX0_restore_1 16 rfl rfl)
theorem dX0_restore_40 : decode cX0_restore 40 = .ok (.aload_n 0, 1) := dk_42 (dk_at dksX0_restore_1 17 rfl rfl)
theorem dX0_restore_41 : decode cX0_restore 41 = .ok (.getfield 36, 3) := dk_180 0 36 (dk_at dksX0_restore_1 18 rfl rfl)
theorem dX0_restore_44 : decode cX0_restore 44 = .ok (.iload_n 1, 1) := dk_27 (dk_at dksX0_restore_1 21 rfl rfl)
theorem dX0_restore_45 : decode cX0_restore 45 = .ok (.aaload, 1) := dk_50 (dk_at dksX0_restore_1 22 rfl rfl)
theorem dX0_restore_46 : decode cX0_restore 46 = .ok (.invokevirtual 192, 3) := dk_182 0 192 (dk_at dksX0_restore_2 0 rfl rfl)
theorem dX0_restore_49 : decode cX0_restore 49 = .ok (.putfield 32, 3) := dk_181 0 32 (dk_at dksX0_restore_2 3 rfl rfl)
theorem dX0_restore_52 : decode cX0_restore 52 = .ok (.iconst 1, 1) := dk_4 (dk_at dksX0_restore_2 6 rfl rfl)
theorem dX0_restore_53 : decode cX0_restore 53 = .ok (.ireturn, 1) := dk_172 (dk_at dksX0_restore_2 7 rfl rfl)
abbrev cX0_at : ByteArray := prog_1_method_35_code
def yX0_at : MethodName := ⟨RX0, "at", "(III)I"⟩
def dkwX0_at_6 : List UInt8 := [28, 50, 29, 46, 172, 42, 180, 0, 32, 28, 29, 182, 0, 221, 199, 0, 7, 3, 167, 0, 4, 4, 172]
abbrev dktX0_at_6 : List UInt8 := dkwX0_at_6 ++ []
def dkwX0_at_5 : List UInt8 := [167, 0, 4, 3, 172, 42, 180, 0, 32, 180, 0, 153, 28, 50, 29, 46, 172, 42, 180, 0, 32, 180, 0, 156]
abbrev dktX0_at_5 : List UInt8 := dkwX0_at_5 ++ dktX0_at_6
def dkwX0_at_4 : List UInt8 := [42, 29, 182, 0, 231, 172, 42, 28, 29, 182, 0, 228, 172, 42, 28, 29, 182, 0, 184, 153, 0, 7, 4]
abbrev dktX0_at_4 : List UInt8 := dkwX0_at_4 ++ dktX0_at_5
def dkwX0_at_3 : List UInt8 := [170, 0, 0, 0, 0, 86, 0, 0, 0, 0, 0, 0, 0, 4, 0, 0, 0, 34, 0, 0, 0, 40, 0, 0, 0, 47, 0, 0, 0, 62, 0, 0, 0, 74]
abbrev dktX0_at_3 : List UInt8 := dkwX0_at_3 ++ dktX0_at_4
def dkwX0_at_2 : List UInt8 := [182, 0, 150, 154, 0, 5, 2, 172, 27]
abbrev dktX0_at_2 : List UInt8 := dkwX0_at_2 ++ dktX0_at_3
def dkwX0_at_1 : List UInt8 := [182, 0, 108, 154, 0, 27, 27, 133, 20, 0, 190, 20, 0, 248, 184, 0, 5, 153, 0, 11, 42, 28]
abbrev dktX0_at_1 : List UInt8 := dkwX0_at_1 ++ dktX0_at_2
def dkwX0_at_0 : List UInt8 := [29, 184, 0, 9, 153, 0, 47, 27, 153, 0, 45, 27, 4, 159, 0, 8, 27, 8, 160, 0, 11, 42, 28]
abbrev dktX0_at_0 : List UInt8 := dkwX0_at_0 ++ dktX0_at_1
theorem dksX0_at_0 : cX0_at.data.toList.drop 0 = dktX0_at_0 := by decide +kernel
theorem dksX0_at_1 : cX0_at.data.toList.drop 23 = dktX0_at_1 := dk_seg dksX0_at_0 23 rfl rfl
theorem dksX0_at_2 : cX0_at.data.toList.drop 45 = dktX0_at_2 := dk_seg dksX0_at_1 22 rfl rfl
theorem dksX0_at_3 : cX0_at.data.toList.drop 54 = dktX0_at_3 := dk_seg dksX0_at_2 9 rfl rfl
theorem dksX0_at_4 : cX0_at.data.toList.drop 88 = dktX0_at_4 := dk_seg dksX0_at_3 34 rfl rfl
theorem dksX0_at_5 : cX0_at.data.toList.drop 111 = dktX0_at_5 := dk_seg dksX0_at_4 23 rfl rfl
theorem dksX0_at_6 : cX0_at.data.toList.drop 135 = dktX0_at_6 := dk_seg dksX0_at_5 24 rfl rfl
theorem dX0_at_0 : decode cX0_at 0 = .ok (.iload_n 3, 1) := dk_29 (dk_at dksX0_at_0 0 rfl rfl)
theorem dX0_at_1 : decode cX0_at 1 = .ok (.invokestatic 9, 3) := dk_184 0 9 (dk_at dksX0_at_0 1 rfl rfl)
theorem dX0_at_4 : decode cX0_at 4 = .ok (.ifCond .eq 47, 3) := dk_153 0 47 (dk_at dksX0_at_0 4 rfl rfl)
theorem dX0_at_7 : decode cX0_at 7 = .ok (.iload_n 1, 1) := dk_27 (dk_at dksX0_at_0 7 rfl rfl)
theorem dX0_at_8 : decode cX0_at 8 = .ok (.ifCond .eq 45, 3) := dk_153 0 45 (dk_at dksX0_at_0 8 rfl rfl)
theorem dX0_at_11 : decode cX0_at 11 = .ok (.iload_n 1, 1) := dk_27 (dk_at dksX0_at_0 11 rfl rfl)
theorem dX0_at_12 : decode cX0_at 12 = .ok (.iconst 1, 1) := dk_4 (dk_at dksX0_at_0 12 rfl rfl)
theorem dX0_at_13 : decode cX0_at 13 = .ok (.if_icmp .eq 8, 3) := dk_159 0 8 (dk_at dksX0_at_0 13 rfl rfl)
theorem dX0_at_16 : decode cX0_at 16 = .ok (.iload_n 1, 1) := dk_27 (dk_at dksX0_at_0 16 rfl rfl)
theorem dX0_at_17 : decode cX0_at 17 = .ok (.iconst 5, 1) := dk_8 (dk_at dksX0_at_0 17 rfl rfl)
theorem dX0_at_18 : decode cX0_at 18 = .ok (.if_icmp .ne 11, 3) := dk_160 0 11 (dk_at dksX0_at_0 18 rfl rfl)
theorem dX0_at_21 : decode cX0_at 21 = .ok (.aload_n 0, 1) := dk_42 (dk_at dksX0_at_0 21 rfl rfl)
theorem dX0_at_22 : decode cX0_at 22 = .ok (.iload_n 2, 1) := dk_28 (dk_at dksX0_at_0 22 rfl rfl)
theorem dX0_at_23 : decode cX0_at 23 = .ok (.invokevirtual 108, 3) := dk_182 0 108 (dk_at dksX0_at_1 0 rfl rfl)
theorem dX0_at_26 : decode cX0_at 26 = .ok (.ifCond .ne 27, 3) := dk_154 0 27 (dk_at dksX0_at_1 3 rfl rfl)
theorem dX0_at_29 : decode cX0_at 29 = .ok (.iload_n 1, 1) := dk_27 (dk_at dksX0_at_1 6 rfl rfl)
theorem dX0_at_30 : decode cX0_at 30 = .ok (.i2l, 1) := dk_133 (dk_at dksX0_at_1 7 rfl rfl)
theorem dX0_at_31 : decode cX0_at 31 = .ok (.ldc2_w 190, 3) := dk_20 0 190 (dk_at dksX0_at_1 8 rfl rfl)
theorem dX0_at_34 : decode cX0_at 34 = .ok (.ldc2_w 248, 3) := dk_20 0 248 (dk_at dksX0_at_1 11 rfl rfl)
theorem dX0_at_37 : decode cX0_at 37 = .ok (.invokestatic 5, 3) := dk_184 0 5 (dk_at dksX0_at_1 14 rfl rfl)
theorem dX0_at_40 : decode cX0_at 40 = .ok (.ifCond .eq 11, 3) := dk_153 0 11 (dk_at dksX0_at_1 17 rfl rfl)
theorem dX0_at_43 : decode cX0_at 43 = .ok (.aload_n 0, 1) := dk_42 (dk_at dksX0_at_1 20 rfl rfl)
theorem dX0_at_44 : decode cX0_at 44 = .ok (.iload_n 2, 1) := dk_28 (dk_at dksX0_at_1 21 rfl rfl)
theorem dX0_at_45 : decode cX0_at 45 = .ok (.invokevirtual 150, 3) := dk_182 0 150 (dk_at dksX0_at_2 0 rfl rfl)
theorem dX0_at_48 : decode cX0_at 48 = .ok (.ifCond .ne 5, 3) := dk_154 0 5 (dk_at dksX0_at_2 3 rfl rfl)
theorem dX0_at_51 : decode cX0_at 51 = .ok (.iconst (-1), 1) := dk_2 (dk_at dksX0_at_2 6 rfl rfl)
theorem dX0_at_52 : decode cX0_at 52 = .ok (.ireturn, 1) := dk_172 (dk_at dksX0_at_2 7 rfl rfl)
theorem dX0_at_53 : decode cX0_at 53 = .ok (.iload_n 1, 1) := dk_27 (dk_at dksX0_at_2 8 rfl rfl)
theorem dX0_at_54 : decode cX0_at 54 = .ok (.tableswitch 86 0 4 #[34, 40, 47, 62, 74], 34) := by decide +kernel
theorem dX0_at_88 : decode cX0_at 88 = .ok (.aload_n 0, 1) := dk_42 (dk_at dksX0_at_4 0 rfl rfl)
theorem dX0_at_89 : decode cX0_at 89 = .ok (.iload_n 3, 1) := dk_29 (dk_at dksX0_at_4 1 rfl rfl)
theorem dX0_at_90 : decode cX0_at 90 = .ok (.invokevirtual 231, 3) := dk_182 0 231 (dk_at dksX0_at_4 2 rfl rfl)
theorem dX0_at_93 : decode cX0_at 93 = .ok (.ireturn, 1) := dk_172 (dk_at dksX0_at_4 5 rfl rfl)
theorem dX0_at_94 : decode cX0_at 94 = .ok (.aload_n 0, 1) := dk_42 (dk_at dksX0_at_4 6 rfl rfl)
theorem dX0_at_95 : decode cX0_at 95 = .ok (.iload_n 2, 1) := dk_28 (dk_at dksX0_at_4 7 rfl rfl)
theorem dX0_at_96 : decode cX0_at 96 = .ok (.iload_n 3, 1) := dk_29 (dk_at dksX0_at_4 8 rfl rfl)
theorem dX0_at_97 : decode cX0_at 97 = .ok (.invokevirtual 228, 3) := dk_182 0 228 (dk_at dksX0_at_4 9 rfl rfl)
theorem dX0_at_100 : decode cX0_at 100 = .ok (.ireturn, 1) := dk_172 (dk_at dksX0_at_4 12 rfl rfl)
theorem dX0_at_101 : decode cX0_at 101 = .ok (.aload_n 0, 1) := dk_42 (dk_at dksX0_at_4 13 rfl rfl)
theorem dX0_at_102 : decode cX0_at 102 = .ok (.iload_n 2, 1) := dk_28 (dk_at dksX0_at_4 14 rfl rfl)
theorem dX0_at_103 : decode cX0_at 103 = .ok (.iload_n 3, 1) := dk_29 (dk_at dksX0_at_4 15 rfl rfl)
theorem dX0_at_104 : decode cX0_at 104 = .ok (.invokevirtual 184, 3) := dk_182 0 184 (dk_at dksX0_at_4 16 rfl rfl)
theorem dX0_at_107 : decode cX0_at 107 = .ok (.ifCond .eq 7, 3) := dk_153 0 7 (dk_at dksX0_at_4 19 rfl rfl)
theorem dX0_at_110 : decode cX0_at 110 = .ok (.iconst 1, 1) := dk_4 (dk_at dksX0_at_4 22 rfl rfl)
theorem dX0_at_111 : decode cX0_at 111 = .ok (.goto 4, 3) := dk_167 0 4 (dk_at dksX0_at_5 0 rfl rfl)
theorem dX0_at_114 : decode cX0_at 114 = .ok (.iconst 0, 1) := dk_3 (dk_at dksX0_at_5 3 rfl rfl)
theorem dX0_at_115 : decode cX0_at 115 = .ok (.ireturn, 1) := dk_172 (dk_at dksX0_at_5 4 rfl rfl)
theorem dX0_at_116 : decode cX0_at 116 = .ok (.aload_n 0, 1) := dk_42 (dk_at dksX0_at_5 5 rfl rfl)
theorem dX0_at_117 : decode cX0_at 117 = .ok (.getfield 32, 3) := dk_180 0 32 (dk_at dksX0_at_5 6 rfl rfl)
theorem dX0_at_120 : decode cX0_at 120 = .ok (.getfield 153, 3) := dk_180 0 153 (dk_at dksX0_at_5 9 rfl rfl)
theorem dX0_at_123 : decode cX0_at 123 = .ok (.iload_n 2, 1) := dk_28 (dk_at dksX0_at_5 12 rfl rfl)
theorem dX0_at_124 : decode cX0_at 124 = .ok (.aaload, 1) := dk_50 (dk_at dksX0_at_5 13 rfl rfl)
theorem dX0_at_125 : decode cX0_at 125 = .ok (.iload_n 3, 1) := dk_29 (dk_at dksX0_at_5 14 rfl rfl)
theorem dX0_at_126 : decode cX0_at 126 = .ok (.iaload, 1) := dk_46 (dk_at dksX0_at_5 15 rfl rfl)
theorem dX0_at_127 : decode cX0_at 127 = .ok (.ireturn, 1) := dk_172 (dk_at dksX0_at_5 16 rfl rfl)
theorem dX0_at_128 : decode cX0_at 128 = .ok (.aload_n 0, 1) := dk_42 (dk_at dksX0_at_5 17 rfl rfl)
theorem dX0_at_129 : decode cX0_at 129 = .ok (.getfield 32, 3) := dk_180 0 32 (dk_at dksX0_at_5 18 rfl rfl)
theorem dX0_at_132 : decode cX0_at 132 = .ok (.getfield 156, 3) := dk_180 0 156 (dk_at dksX0_at_5 21 rfl rfl)
theorem dX0_at_135 : decode cX0_at 135 = .ok (.iload_n 2, 1) := dk_28 (dk_at dksX0_at_6 0 rfl rfl)
theorem dX0_at_136 : decode cX0_at 136 = .ok (.aaload, 1) := dk_50 (dk_at dksX0_at_6 1 rfl rfl)
theorem dX0_at_137 : decode cX0_at 137 = .ok (.iload_n 3, 1) := dk_29 (dk_at dksX0_at_6 2 rfl rfl)
theorem dX0_at_138 : decode cX0_at 138 = .ok (.iaload, 1) := dk_46 (dk_at dksX0_at_6 3 rfl rfl)
theorem dX0_at_139 : decode cX0_at 139 = .ok (.ireturn, 1) := dk_172 (dk_at dksX0_at_6 4 rfl rfl)
theorem dX0_at_140 : decode cX0_at 140 = .ok (.aload_n 0, 1) := dk_42 (dk_at dksX0_at_6 5 rfl rfl)
theorem dX0_at_141 : decode cX0_at 141 = .ok (.getfield 32, 3) := dk_180 0 32 (dk_at dksX0_at_6 6 rfl rfl)
theorem dX0_at_144 : decode cX0_at 144 = .ok (.iload_n 2, 1) := dk_28 (dk_at dksX0_at_6 9 rfl rfl)
theorem dX0_at_145 : decode cX0_at 145 = .ok (.iload_n 3, 1) := dk_29 (dk_at dksX0_at_6 10 rfl rfl)
theorem dX0_at_146 : decode cX0_at 146 = .ok (.invokevirtual 221, 3) := dk_182 0 221 (dk_at dksX0_at_6 11 rfl rfl)
theorem dX0_at_149 : decode cX0_at 149 = .ok (.ifnonnull 7, 3) := dk_199 0 7 (dk_at dksX0_at_6 14 rfl rfl)
theorem dX0_at_152 : decode cX0_at 152 = .ok (.iconst 0, 1) := dk_3 (dk_at dksX0_at_6 17 rfl rfl)
theorem dX0_at_153 : decode cX0_at 153 = .ok (.goto 4, 3) := dk_167 0 4 (dk_at dksX0_at_6 18 rfl rfl)
theorem dX0_at_156 : decode cX0_at 156 = .ok (.iconst 1, 1) := dk_4 (dk_at dksX0_at_6 21 rfl rfl)
theorem dX0_at_157 : decode cX0_at 157 = .ok (.ireturn, 1) := dk_172 (dk_at dksX0_at_6 22 rfl rfl)
abbrev cX0_lightAt : ByteArray := prog_1_method_27_code
def yX0_lightAt : MethodName := ⟨RX0, "lightAt", "(I)I"⟩
def dkwX0_lightAt_2 : List UInt8 := [192, 0, 199, 182, 0, 207, 184, 0, 210, 61, 132, 3, 1, 167, 255, 207, 28, 172]
abbrev dktX0_lightAt_2 : List UInt8 := dkwX0_lightAt_2 ++ []
def dkwX0_lightAt_1 : List UInt8 := [182, 0, 137, 162, 0, 37, 42, 29, 27, 182, 0, 204, 153, 0, 22, 28, 42, 180, 0, 45, 29, 182, 0, 172]
abbrev dktX0_lightAt_1 : List UInt8 := dkwX0_lightAt_1 ++ dktX0_lightAt_2
def dkwX0_lightAt_0 : List UInt8 := [42, 180, 0, 32, 180, 0, 120, 27, 46, 61, 3, 62, 42, 180, 0, 196, 153, 0, 48, 29, 42, 180, 0, 45]
abbrev dktX0_lightAt_0 : List UInt8 := dkwX0_lightAt_0 ++ dktX0_lightAt_1
theorem dksX0_lightAt_0 : cX0_lightAt.data.toList.drop 0 = dktX0_lightAt_0 := by decide +kernel
theorem dksX0_lightAt_1 : cX0_lightAt.data.toList.drop 24 = dktX0_lightAt_1 := dk_seg dksX0_lightAt_0 24 rfl rfl
theorem dksX0_lightAt_2 : cX0_lightAt.data.toList.drop 48 = dktX0_lightAt_2 := dk_seg dksX0_lightAt_1 24 rfl rfl
theorem dX0_lightAt_0 : decode cX0_lightAt 0 = .ok (.aload_n 0, 1) := dk_42 (dk_at dksX0_lightAt_0 0 rfl rfl)
theorem dX0_lightAt_1 : decode cX0_lightAt 1 = .ok (.getfield 32, 3) := dk_180 0 32 (dk_at dksX0_lightAt_0 1 rfl rfl)
theorem dX0_lightAt_4 : decode cX0_lightAt 4 = .ok (.getfield 120, 3) := dk_180 0 120 (dk_at dksX0_lightAt_0 4 rfl rfl)
theorem dX0_lightAt_7 : decode cX0_lightAt 7 = .ok (.iload_n 1, 1) := dk_27 (dk_at dksX0_lightAt_0 7 rfl rfl)
theorem dX0_lightAt_8 : decode cX0_lightAt 8 = .ok (.iaload, 1) := dk_46 (dk_at dksX0_lightAt_0 8 rfl rfl)
theorem dX0_lightAt_9 : decode cX0_lightAt 9 = .ok (.istore_n 2, 1) := dk_61 (dk_at dksX0_lightAt_0 9 rfl rfl)
theorem dX0_lightAt_10 : decode cX0_lightAt 10 = .ok (.iconst 0, 1) := dk_3 (dk_at dksX0_lightAt_0 10 rfl rfl)
theorem dX0_lightAt_11 : decode cX0_lightAt 11 = .ok (.istore_n 3, 1) := dk_62 (dk_at dksX0_lightAt_0 11 rfl rfl)
theorem dX0_lightAt_12 : decode cX0_lightAt 12 = .ok (.aload_n 0, 1) := dk_42 (dk_at dksX0_lightAt_0 12 rfl rfl)
theorem dX0_lightAt_13 : decode cX0_lightAt 13 = .ok (.getfield 196, 3) := dk_180 0 196 (dk_at dksX0_lightAt_0 13 rfl rfl)
theorem dX0_lightAt_16 : decode cX0_lightAt 16 = .ok (.ifCond .eq 48, 3) := dk_153 0 48 (dk_at dksX0_lightAt_0 16 rfl rfl)
theorem dX0_lightAt_19 : decode cX0_lightAt 19 = .ok (.iload_n 3, 1) := dk_29 (dk_at dksX0_lightAt_0 19 rfl rfl)
theorem dX0_lightAt_20 : decode cX0_lightAt 20 = .ok (.aload_n 0, 1) := dk_42 (dk_at dksX0_lightAt_0 20 rfl rfl)
theorem dX0_lightAt_21 : decode cX0_lightAt 21 = .ok (.getfield 45, 3) := dk_180 0 45 (dk_at dksX0_lightAt_0 21 rfl rfl)
theorem dX0_lightAt_24 : decode cX0_lightAt 24 = .ok (.invokevirtual 137, 3) := dk_182 0 137 (dk_at dksX0_lightAt_1 0 rfl rfl)
theorem dX0_lightAt_27 : decode cX0_lightAt 27 = .ok (.if_icmp .ge 37, 3) := dk_162 0 37 (dk_at dksX0_lightAt_1 3 rfl rfl)
theorem dX0_lightAt_30 : decode cX0_lightAt 30 = .ok (.aload_n 0, 1) := dk_42 (dk_at dksX0_lightAt_1 6 rfl rfl)
theorem dX0_lightAt_31 : decode cX0_lightAt 31 = .ok (.iload_n 3, 1) := dk_29 (dk_at dksX0_lightAt_1 7 rfl rfl)
theorem dX0_lightAt_32 : decode cX0_lightAt 32 = .ok (.iload_n 1, 1) := dk_27 (dk_at dksX0_lightAt_1 8 rfl rfl)
theorem dX0_lightAt_33 : decode cX0_lightAt 33 = .ok (.invokevirtual 204, 3) := dk_182 0 204 (dk_at dksX0_lightAt_1 9 rfl rfl)
theorem dX0_lightAt_36 : decode cX0_lightAt 36 = .ok (.ifCond .eq 22, 3) := dk_153 0 22 (dk_at dksX0_lightAt_1 12 rfl rfl)
theorem dX0_lightAt_39 : decode cX0_lightAt 39 = .ok (.iload_n 2, 1) := dk_28 (dk_at dksX0_lightAt_1 15 rfl rfl)
theorem dX0_lightAt_40 : decode cX0_lightAt 40 = .ok (.aload_n 0, 1) := dk_42 (dk_at dksX0_lightAt_1 16 rfl rfl)
theorem dX0_lightAt_41 : decode cX0_lightAt 41 = .ok (.getfield 45, 3) := dk_180 0 45 (dk_at dksX0_lightAt_1 17 rfl rfl)
theorem dX0_lightAt_44 : decode cX0_lightAt 44 = .ok (.iload_n 3, 1) := dk_29 (dk_at dksX0_lightAt_1 20 rfl rfl)
theorem dX0_lightAt_45 : decode cX0_lightAt 45 = .ok (.invokevirtual 172, 3) := dk_182 0 172 (dk_at dksX0_lightAt_1 21 rfl rfl)
theorem dX0_lightAt_48 : decode cX0_lightAt 48 = .ok (.checkcast 199, 3) := dk_192 0 199 (dk_at dksX0_lightAt_2 0 rfl rfl)
theorem dX0_lightAt_51 : decode cX0_lightAt 51 = .ok (.invokevirtual 207, 3) := dk_182 0 207 (dk_at dksX0_lightAt_2 3 rfl rfl)
theorem dX0_lightAt_54 : decode cX0_lightAt 54 = .ok (.invokestatic 210, 3) := dk_184 0 210 (dk_at dksX0_lightAt_2 6 rfl rfl)
theorem dX0_lightAt_57 : decode cX0_lightAt 57 = .ok (.istore_n 2, 1) := dk_61 (dk_at dksX0_lightAt_2 9 rfl rfl)
theorem dX0_lightAt_58 : decode cX0_lightAt 58 = .ok (.iinc 3 1, 3) := dk_132 3 1 (dk_at dksX0_lightAt_2 10 rfl rfl)
theorem dX0_lightAt_61 : decode cX0_lightAt 61 = .ok (.goto (-49), 3) := dk_167 255 207 (dk_at dksX0_lightAt_2 13 rfl rfl)
theorem dX0_lightAt_64 : decode cX0_lightAt 64 = .ok (.iload_n 2, 1) := dk_28 (dk_at dksX0_lightAt_2 16 rfl rfl)
theorem dX0_lightAt_65 : decode cX0_lightAt 65 = .ok (.ireturn, 1) := dk_172 (dk_at dksX0_lightAt_2 17 rfl rfl)
abbrev cX0_eyesOf : ByteArray := prog_1_method_29_code
def yX0_eyesOf : MethodName := ⟨RX0, "eyesOf", "(II)I"⟩
def dkwX0_eyesOf_2 : List UInt8 := [180, 0, 225, 172]
abbrev dktX0_eyesOf_2 : List UInt8 := dkwX0_eyesOf_2 ++ []
def dkwX0_eyesOf_1 : List UInt8 := [58, 4, 25, 4, 199, 0, 17, 42, 180, 0, 32, 180, 0, 126, 27, 50, 28, 46, 167, 0, 8, 25, 4]
abbrev dktX0_eyesOf_1 : List UInt8 := dkwX0_eyesOf_1 ++ dktX0_eyesOf_2
def dkwX0_eyesOf_0 : List UInt8 := [42, 27, 28, 182, 0, 218, 62, 29, 2, 159, 0, 5, 29, 172, 42, 180, 0, 32, 27, 28, 182, 0, 221]
abbrev dktX0_eyesOf_0 : List UInt8 := dkwX0_eyesOf_0 ++ dktX0_eyesOf_1
theorem dksX0_eyesOf_0 : cX0_eyesOf.data.toList.drop 0 = dktX0_eyesOf_0 := by decide +kernel
theorem dksX0_eyesOf_1 : cX0_eyesOf.data.toList.drop 23 = dktX0_eyesOf_1 := dk_seg dksX0_eyesOf_0 23 rfl rfl
theorem dksX0_eyesOf_2 : cX0_eyesOf.data.toList.drop 46 = dktX0_eyesOf_2 := dk_seg dksX0_eyesOf_1 23 rfl rfl
theorem dX0_eyesOf_0 : decode cX0_eyesOf 0 = .ok (.aload_n 0, 1) := dk_42 (dk_at dksX0_eyesOf_0 0 rfl rfl)
theorem dX0_eyesOf_1 : decode cX0_eyesOf 1 = .ok (.iload_n 1, 1) := dk_27 (dk_at dksX0_eyesOf_0 1 rfl rfl)
theorem dX0_eyesOf_2 : decode cX0_eyesOf 2 = .ok (.iload_n 2, 1) := dk_28 (dk_at dksX0_eyesOf_0 2 rfl rfl)
theorem dX0_eyesOf_3 : decode cX0_eyesOf 3 = .ok (.invokevirtual 218, 3) := dk_182 0 218 (dk_at dksX0_eyesOf_0 3 rfl rfl)
theorem dX0_eyesOf_6 : decode cX0_eyesOf 6 = .ok (.istore_n 3, 1) := dk_62 (dk_at dksX0_eyesOf_0 6 rfl rfl)
theorem dX0_eyesOf_7 : decode cX0_eyesOf 7 = .ok (.iload_n 3, 1) := dk_29 (dk_at dksX0_eyesOf_0 7 rfl rfl)
theorem dX0_eyesOf_8 : decode cX0_eyesOf 8 = .ok (.iconst (-1), 1) := dk_2 (dk_at dksX0_eyesOf_0 8 rfl rfl)
theorem dX0_eyesOf_9 : decode cX0_eyesOf 9 = .ok (.if_icmp .eq 5, 3) := dk_159 0 5 (dk_at dksX0_eyesOf_0 9 rfl rfl)
theorem dX0_eyesOf_12 : decode cX0_eyesOf 12 = .ok (.iload_n 3, 1) := dk_29 (dk_at dksX0_eyesOf_0 12 rfl rfl)
theorem dX0_eyesOf_13 : decode cX0_eyesOf 13 = .ok (.ireturn, 1) := dk_172 (dk_at dksX0_eyesOf_0 13 rfl rfl)
theorem dX0_eyesOf_14 : decode cX0_eyesOf 14 = .ok (.aload_n 0, 1) := dk_42 (dk_at dksX0_eyesOf_0 14 rfl rfl)
theorem dX0_eyesOf_15 : decode cX0_eyesOf 15 = .ok (.getfield 32, 3) := dk_180 0 32 (dk_at dksX0_eyesOf_0 15 rfl rfl)
theorem dX0_eyesOf_18 : decode cX0_eyesOf 18 = .ok (.iload_n 1, 1) := dk_27 (dk_at dksX0_eyesOf_0 18 rfl rfl)
theorem dX0_eyesOf_19 : decode cX0_eyesOf 19 = .ok (.iload_n 2, 1) := dk_28 (dk_at dksX0_eyesOf_0 19 rfl rfl)
theorem dX0_eyesOf_20 : decode cX0_eyesOf 20 = .ok (.invokevirtual 221, 3) := dk_182 0 221 (dk_at dksX0_eyesOf_0 20 rfl rfl)
theorem dX0_eyesOf_23 : decode cX0_eyesOf 23 = .ok (.astore 4, 2) := dk_58 4 (dk_at dksX0_eyesOf_1 0 rfl rfl)
theorem dX0_eyesOf_25 : decode cX0_eyesOf 25 = .ok (.aload 4, 2) := dk_25 4 (dk_at dksX0_eyesOf_1 2 rfl rfl)
theorem dX0_eyesOf_27 : decode cX0_eyesOf 27 = .ok (.ifnonnull 17, 3) := dk_199 0 17 (dk_at dksX0_eyesOf_1 4 rfl rfl)
theorem dX0_eyesOf_30 : decode cX0_eyesOf 30 = .ok (.aload_n 0, 1) := dk_42 (dk_at dksX0_eyesOf_1 7 rfl rfl)
theorem dX0_eyesOf_31 : decode cX0_eyesOf 31 = .ok (.getfield 32, 3) := dk_180 0 32 (dk_at dksX0_eyesOf_1 8 rfl rfl)
theorem dX0_eyesOf_34 : decode cX0_eyesOf 34 = .ok (.getfield 126, 3) := dk_180 0 126 (dk_at dksX0_eyesOf_1 11 rfl rfl)
theorem dX0_eyesOf_37 : decode cX0_eyesOf 37 = .ok (.iload_n 1, 1) := dk_27 (dk_at dksX0_eyesOf_1 14 rfl rfl)
theorem dX0_eyesOf_38 : decode cX0_eyesOf 38 = .ok (.aaload, 1) := dk_50 (dk_at dksX0_eyesOf_1 15 rfl rfl)
theorem dX0_eyesOf_39 : decode cX0_eyesOf 39 = .ok (.iload_n 2, 1) := dk_28 (dk_at dksX0_eyesOf_1 16 rfl rfl)
theorem dX0_eyesOf_40 : decode cX0_eyesOf 40 = .ok (.iaload, 1) := dk_46 (dk_at dksX0_eyesOf_1 17 rfl rfl)
theorem dX0_eyesOf_41 : decode cX0_eyesOf 41 = .ok (.goto 8, 3) := dk_167 0 8 (dk_at dksX0_eyesOf_1 18 rfl rfl)
theorem dX0_eyesOf_44 : decode cX0_eyesOf 44 = .ok (.aload 4, 2) := dk_25 4 (dk_at dksX0_eyesOf_1 21 rfl rfl)
theorem dX0_eyesOf_46 : decode cX0_eyesOf 46 = .ok (.getfield 225, 3) := dk_180 0 225 (dk_at dksX0_eyesOf_2 0 rfl rfl)
theorem dX0_eyesOf_49 : decode cX0_eyesOf 49 = .ok (.ireturn, 1) := dk_172 (dk_at dksX0_eyesOf_2 3 rfl rfl)
abbrev cX0_ordered : ByteArray := prog_1_method_28_code
def yX0_ordered : MethodName := ⟨RX0, "ordered", "(II)I"⟩
def dkwX0_ordered_3 : List UInt8 := [167, 255, 198, 2, 172]
abbrev dktX0_ordered_3 : List UInt8 := dkwX0_ordered_3 ++ []
def dkwX0_ordered_2 : List UInt8 := [159, 0, 19, 42, 180, 0, 45, 29, 182, 0, 172, 192, 0, 199, 27, 182, 0, 215, 172, 132, 3, 255]
abbrev dktX0_ordered_2 : List UInt8 := dkwX0_ordered_2 ++ dktX0_ordered_3
def dkwX0_ordered_1 : List UInt8 := [182, 0, 204, 153, 0, 38, 42, 180, 0, 45, 29, 182, 0, 172, 192, 0, 199, 27, 182, 0, 215, 2]
abbrev dktX0_ordered_1 : List UInt8 := dkwX0_ordered_1 ++ dktX0_ordered_2
def dkwX0_ordered_0 : List UInt8 := [42, 180, 0, 45, 182, 0, 137, 4, 100, 62, 42, 180, 0, 196, 153, 0, 57, 29, 155, 0, 53, 42, 29, 28]
abbrev dktX0_ordered_0 : List UInt8 := dkwX0_ordered_0 ++ dktX0_ordered_1
theorem dksX0_ordered_0 : cX0_ordered.data.toList.drop 0 = dktX0_ordered_0 := by decide +kernel
theorem dksX0_ordered_1 : cX0_ordered.data.toList.drop 24 = dktX0_ordered_1 := dk_seg dksX0_ordered_0 24 rfl rfl
theorem dksX0_ordered_2 : cX0_ordered.data.toList.drop 46 = dktX0_ordered_2 := dk_seg dksX0_ordered_1 22 rfl rfl
theorem dksX0_ordered_3 : cX0_ordered.data.toList.drop 68 = dktX0_ordered_3 := dk_seg dksX0_ordered_2 22 rfl rfl
theorem dX0_ordered_0 : decode cX0_ordered 0 = .ok (.aload_n 0, 1) := dk_42 (dk_at dksX0_ordered_0 0 rfl rfl)
theorem dX0_ordered_1 : decode cX0_ordered 1 = .ok (.getfield 45, 3) := dk_180 0 45 (dk_at dksX0_ordered_0 1 rfl rfl)
theorem dX0_ordered_4 : decode cX0_ordered 4 = .ok (.invokevirtual 137, 3) := dk_182 0 137 (dk_at dksX0_ordered_0 4 rfl rfl)
theorem dX0_ordered_7 : decode cX0_ordered 7 = .ok (.iconst 1, 1) := dk_4 (dk_at dksX0_ordered_0 7 rfl rfl)
theorem dX0_ordered_8 : decode cX0_ordered 8 = .ok (.isub, 1) := dk_100 (dk_at dksX0_ordered_0 8 rfl rfl)
theorem dX0_ordered_9 : decode cX0_ordered 9 = .ok (.istore_n 3, 1) := dk_62 (dk_at dksX0_ordered_0 9 rfl rfl)
theorem dX0_ordered_10 : decode cX0_ordered 10 = .ok (.aload_n 0, 1) := dk_42 (dk_at dksX0_ordered_0 10 rfl rfl)
theorem dX0_ordered_11 : decode cX0_ordered 11 = .ok (.getfield 196, 3) := dk_180 0 196 (dk_at dksX0_ordered_0 11 rfl rfl)
theorem dX0_ordered_14 : decode cX0_ordered 14 = .ok (.ifCond .eq 57, 3) := dk_153 0 57 (dk_at dksX0_ordered_0 14 rfl rfl)
theorem dX0_ordered_17 : decode cX0_ordered 17 = .ok (.iload_n 3, 1) := dk_29 (dk_at dksX0_ordered_0 17 rfl rfl)
theorem dX0_ordered_18 : decode cX0_ordered 18 = .ok (.ifCond .lt 53, 3) := dk_155 0 53 (dk_at dksX0_ordered_0 18 rfl rfl)
theorem dX0_ordered_21 : decode cX0_ordered 21 = .ok (.aload_n 0, 1) := dk_42 (dk_at dksX0_ordered_0 21 rfl rfl)
theorem dX0_ordered_22 : decode cX0_ordered 22 = .ok (.iload_n 3, 1) := dk_29 (dk_at dksX0_ordered_0 22 rfl rfl)
theorem dX0_ordered_23 : decode cX0_ordered 23 = .ok (.iload_n 2, 1) := dk_28 (dk_at dksX0_ordered_0 23 rfl rfl)
theorem dX0_ordered_24 : decode cX0_ordered 24 = .ok (.invokevirtual 204, 3) := dk_182 0 204 (dk_at dksX0_ordered_1 0 rfl rfl)
theorem dX0_ordered_27 : decode cX0_ordered 27 = .ok (.ifCond .eq 38, 3) := dk_153 0 38 (dk_at dksX0_ordered_1 3 rfl rfl)
theorem dX0_ordered_30 : decode cX0_ordered 30 = .ok (.aload_n 0, 1) := dk_42 (dk_at dksX0_ordered_1 6 rfl rfl)
theorem dX0_ordered_31 : decode cX0_ordered 31 = .ok (.getfield 45, 3) := dk_180 0 45 (dk_at dksX0_ordered_1 7 rfl rfl)
theorem dX0_ordered_34 : decode cX0_ordered 34 = .ok (.iload_n 3, 1) := dk_29 (dk_at dksX0_ordered_1 10 rfl rfl)
theorem dX0_ordered_35 : decode cX0_ordered 35 = .ok (.invokevirtual 172, 3) := dk_182 0 172 (dk_at dksX0_ordered_1 11 rfl rfl)
theorem dX0_ordered_38 : decode cX0_ordered 38 = .ok (.checkcast 199, 3) := dk_192 0 199 (dk_at dksX0_ordered_1 14 rfl rfl)
theorem dX0_ordered_41 : decode cX0_ordered 41 = .ok (.iload_n 1, 1) := dk_27 (dk_at dksX0_ordered_1 17 rfl rfl)
theorem dX0_ordered_42 : decode cX0_ordered 42 = .ok (.invokevirtual 215, 3) := dk_182 0 215 (dk_at dksX0_ordered_1 18 rfl rfl)
theorem dX0_ordered_45 : decode cX0_ordered 45 = .ok (.iconst (-1), 1) := dk_2 (dk_at dksX0_ordered_1 21 rfl rfl)
theorem dX0_ordered_46 : decode cX0_ordered 46 = .ok (.if_icmp .eq 19, 3) := dk_159 0 19 (dk_at dksX0_ordered_2 0 rfl rfl)
theorem dX0_ordered_49 : decode cX0_ordered 49 = .ok (.aload_n 0, 1) := dk_42 (dk_at dksX0_ordered_2 3 rfl rfl)
theorem dX0_ordered_50 : decode cX0_ordered 50 = .ok (.getfield 45, 3) := dk_180 0 45 (dk_at dksX0_ordered_2 4 rfl rfl)
theorem dX0_ordered_53 : decode cX0_ordered 53 = .ok (.iload_n 3, 1) := dk_29 (dk_at dksX0_ordered_2 7 rfl rfl)
theorem dX0_ordered_54 : decode cX0_ordered 54 = .ok (.invokevirtual 172, 3) := dk_182 0 172 (dk_at dksX0_ordered_2 8 rfl rfl)
theorem dX0_ordered_57 : decode cX0_ordered 57 = .ok (.checkcast 199, 3) := dk_192 0 199 (dk_at dksX0_ordered_2 11 rfl rfl)
theorem dX0_ordered_60 : decode cX0_ordered 60 = .ok (.iload_n 1, 1) := dk_27 (dk_at dksX0_ordered_2 14 rfl rfl)
theorem dX0_ordered_61 : decode cX0_ordered 61 = .ok (.invokevirtual 215, 3) := dk_182 0 215 (dk_at dksX0_ordered_2 15 rfl rfl)
theorem dX0_ordered_64 : decode cX0_ordered 64 = .ok (.ireturn, 1) := dk_172 (dk_at dksX0_ordered_2 18 rfl rfl)
theorem dX0_ordered_65 : decode cX0_ordered 65 = .ok (.iinc 3 (-1), 3) := dk_132 3 255 (dk_at dksX0_ordered_2 19 rfl rfl)
theorem dX0_ordered_68 : decode cX0_ordered 68 = .ok (.goto (-58), 3) := dk_167 255 198 (dk_at dksX0_ordered_3 0 rfl rfl)
theorem dX0_ordered_71 : decode cX0_ordered 71 = .ok (.iconst (-1), 1) := dk_2 (dk_at dksX0_ordered_3 3 rfl rfl)
theorem dX0_ordered_72 : decode cX0_ordered 72 = .ok (.ireturn, 1) := dk_172 (dk_at dksX0_ordered_3 4 rfl rfl)
abbrev cX0_vouch : ByteArray := prog_1_method_36_code
def yX0_vouch : MethodName := ⟨RX0, "vouch", "(IIZ)I"⟩
def dkwX0_vouch_1 : List UInt8 := [167, 0, 4, 2, 172]
abbrev dktX0_vouch_1 : List UInt8 := dkwX0_vouch_1 ++ []
def dkwX0_vouch_0 : List UInt8 := [42, 27, 182, 0, 150, 153, 0, 20, 28, 184, 0, 9, 153, 0, 13, 42, 27, 28, 29, 182, 0, 250]
abbrev dktX0_vouch_0 : List UInt8 := dkwX0_vouch_0 ++ dktX0_vouch_1
theorem dksX0_vouch_0 : cX0_vouch.data.toList.drop 0 = dktX0_vouch_0 := by decide +kernel
theorem dksX0_vouch_1 : cX0_vouch.data.toList.drop 22 = dktX0_vouch_1 := dk_seg dksX0_vouch_0 22 rfl rfl
theorem dX0_vouch_0 : decode cX0_vouch 0 = .ok (.aload_n 0, 1) := dk_42 (dk_at dksX0_vouch_0 0 rfl rfl)
theorem dX0_vouch_1 : decode cX0_vouch 1 = .ok (.iload_n 1, 1) := dk_27 (dk_at dksX0_vouch_0 1 rfl rfl)
theorem dX0_vouch_2 : decode cX0_vouch 2 = .ok (.invokevirtual 150, 3) := dk_182 0 150 (dk_at dksX0_vouch_0 2 rfl rfl)
theorem dX0_vouch_5 : decode cX0_vouch 5 = .ok (.ifCond .eq 20, 3) := dk_153 0 20 (dk_at dksX0_vouch_0 5 rfl rfl)
theorem dX0_vouch_8 : decode cX0_vouch 8 = .ok (.iload_n 2, 1) := dk_28 (dk_at dksX0_vouch_0 8 rfl rfl)
theorem dX0_vouch_9 : decode cX0_vouch 9 = .ok (.invokestatic 9, 3) := dk_184 0 9 (dk_at dksX0_vouch_0 9 rfl rfl)
theorem dX0_vouch_12 : decode cX0_vouch 12 = .ok (.ifCond .eq 13, 3) := dk_153 0 13 (dk_at dksX0_vouch_0 12 rfl rfl)
theorem dX0_vouch_15 : decode cX0_vouch 15 = .ok (.aload_n 0, 1) := dk_42 (dk_at dksX0_vouch_0 15 rfl rfl)
theorem dX0_vouch_16 : decode cX0_vouch 16 = .ok (.iload_n 1, 1) := dk_27 (dk_at dksX0_vouch_0 16 rfl rfl)
theorem dX0_vouch_17 : decode cX0_vouch 17 = .ok (.iload_n 2, 1) := dk_28 (dk_at dksX0_vouch_0 17 rfl rfl)
theorem dX0_vouch_18 : decode cX0_vouch 18 = .ok (.iload_n 3, 1) := dk_29 (dk_at dksX0_vouch_0 18 rfl rfl)
theorem dX0_vouch_19 : decode cX0_vouch 19 = .ok (.invokevirtual 250, 3) := dk_182 0 250 (dk_at dksX0_vouch_0 19 rfl rfl)
theorem dX0_vouch_22 : decode cX0_vouch 22 = .ok (.goto 4, 3) := dk_167 0 4 (dk_at dksX0_vouch_1 0 rfl rfl)
theorem dX0_vouch_25 : decode cX0_vouch 25 = .ok (.iconst (-1), 1) := dk_2 (dk_at dksX0_vouch_1 3 rfl rfl)
theorem dX0_vouch_26 : decode cX0_vouch 26 = .ok (.ireturn, 1) := dk_172 (dk_at dksX0_vouch_1 4 rfl rfl)
abbrev cX0_vouchers : ByteArray := prog_1_method_34_code
def yX0_vouchers : MethodName := ⟨RX0, "vouchers", "(IIZ)I"⟩
def dkwX0_vouchers_2 : List UInt8 := [21, 4, 172]
abbrev dktX0_vouchers_2 : List UInt8 := dkwX0_vouchers_2 ++ []
def dkwX0_vouchers_1 : List UInt8 := [182, 0, 244, 153, 0, 10, 4, 21, 5, 120, 167, 0, 4, 3, 128, 54, 4, 132, 5, 1, 167, 255, 219]
abbrev dktX0_vouchers_1 : List UInt8 := dkwX0_vouchers_1 ++ dktX0_vouchers_2
def dkwX0_vouchers_0 : List UInt8 := [3, 54, 4, 3, 54, 5, 21, 5, 42, 180, 0, 25, 162, 0, 34, 21, 4, 42, 21, 5, 27, 28, 29]
abbrev dktX0_vouchers_0 : List UInt8 := dkwX0_vouchers_0 ++ dktX0_vouchers_1
theorem dksX0_vouchers_0 : cX0_vouchers.data.toList.drop 0 = dktX0_vouchers_0 := by decide +kernel
theorem dksX0_vouchers_1 : cX0_vouchers.data.toList.drop 23 = dktX0_vouchers_1 := dk_seg dksX0_vouchers_0 23 rfl rfl
theorem dksX0_vouchers_2 : cX0_vouchers.data.toList.drop 46 = dktX0_vouchers_2 := dk_seg dksX0_vouchers_1 23 rfl rfl
theorem dX0_vouchers_0 : decode cX0_vouchers 0 = .ok (.iconst 0, 1) := dk_3 (dk_at dksX0_vouchers_0 0 rfl rfl)
theorem dX0_vouchers_1 : decode cX0_vouchers 1 = .ok (.istore 4, 2) := dk_54 4 (dk_at dksX0_vouchers_0 1 rfl rfl)
theorem dX0_vouchers_3 : decode cX0_vouchers 3 = .ok (.iconst 0, 1) := dk_3 (dk_at dksX0_vouchers_0 3 rfl rfl)
theorem dX0_vouchers_4 : decode cX0_vouchers 4 = .ok (.istore 5, 2) := dk_54 5 (dk_at dksX0_vouchers_0 4 rfl rfl)
theorem dX0_vouchers_6 : decode cX0_vouchers 6 = .ok (.iload 5, 2) := dk_21 5 (dk_at dksX0_vouchers_0 6 rfl rfl)
theorem dX0_vouchers_8 : decode cX0_vouchers 8 = .ok (.aload_n 0, 1) := dk_42 (dk_at dksX0_vouchers_0 8 rfl rfl)
theorem dX0_vouchers_9 : decode cX0_vouchers 9 = .ok (.getfield 25, 3) := dk_180 0 25 (dk_at dksX0_vouchers_0 9 rfl rfl)
theorem dX0_vouchers_12 : decode cX0_vouchers 12 = .ok (.if_icmp .ge 34, 3) := dk_162 0 34 (dk_at dksX0_vouchers_0 12 rfl rfl)
theorem dX0_vouchers_15 : decode cX0_vouchers 15 = .ok (.iload 4, 2) := dk_21 4 (dk_at dksX0_vouchers_0 15 rfl rfl)
theorem dX0_vouchers_17 : decode cX0_vouchers 17 = .ok (.aload_n 0, 1) := dk_42 (dk_at dksX0_vouchers_0 17 rfl rfl)
theorem dX0_vouchers_18 : decode cX0_vouchers 18 = .ok (.iload 5, 2) := dk_21 5 (dk_at dksX0_vouchers_0 18 rfl rfl)
theorem dX0_vouchers_20 : decode cX0_vouchers 20 = .ok (.iload_n 1, 1) := dk_27 (dk_at dksX0_vouchers_0 20 rfl rfl)
theorem dX0_vouchers_21 : decode cX0_vouchers 21 = .ok (.iload_n 2, 1) := dk_28 (dk_at dksX0_vouchers_0 21 rfl rfl)
theorem dX0_vouchers_22 : decode cX0_vouchers 22 = .ok (.iload_n 3, 1) := dk_29 (dk_at dksX0_vouchers_0 22 rfl rfl)
theorem dX0_vouchers_23 : decode cX0_vouchers 23 = .ok (.invokevirtual 244, 3) := dk_182 0 244 (dk_at dksX0_vouchers_1 0 rfl rfl)
theorem dX0_vouchers_26 : decode cX0_vouchers 26 = .ok (.ifCond .eq 10, 3) := dk_153 0 10 (dk_at dksX0_vouchers_1 3 rfl rfl)
theorem dX0_vouchers_29 : decode cX0_vouchers 29 = .ok (.iconst 1, 1) := dk_4 (dk_at dksX0_vouchers_1 6 rfl rfl)
theorem dX0_vouchers_30 : decode cX0_vouchers 30 = .ok (.iload 5, 2) := dk_21 5 (dk_at dksX0_vouchers_1 7 rfl rfl)
theorem dX0_vouchers_32 : decode cX0_vouchers 32 = .ok (.ishl, 1) := dk_120 (dk_at dksX0_vouchers_1 9 rfl rfl)
theorem dX0_vouchers_33 : decode cX0_vouchers 33 = .ok (.goto 4, 3) := dk_167 0 4 (dk_at dksX0_vouchers_1 10 rfl rfl)
theorem dX0_vouchers_36 : decode cX0_vouchers 36 = .ok (.iconst 0, 1) := dk_3 (dk_at dksX0_vouchers_1 13 rfl rfl)
theorem dX0_vouchers_37 : decode cX0_vouchers 37 = .ok (.ior, 1) := dk_128 (dk_at dksX0_vouchers_1 14 rfl rfl)
theorem dX0_vouchers_38 : decode cX0_vouchers 38 = .ok (.istore 4, 2) := dk_54 4 (dk_at dksX0_vouchers_1 15 rfl rfl)
theorem dX0_vouchers_40 : decode cX0_vouchers 40 = .ok (.iinc 5 1, 3) := dk_132 5 1 (dk_at dksX0_vouchers_1 17 rfl rfl)
theorem dX0_vouchers_43 : decode cX0_vouchers 43 = .ok (.goto (-37), 3) := dk_167 255 219 (dk_at dksX0_vouchers_1 20 rfl rfl)
theorem dX0_vouchers_46 : decode cX0_vouchers 46 = .ok (.iload 4, 2) := dk_21 4 (dk_at dksX0_vouchers_2 0 rfl rfl)
theorem dX0_vouchers_48 : decode cX0_vouchers 48 = .ok (.ireturn, 1) := dk_172 (dk_at dksX0_vouchers_2 2 rfl rfl)
abbrev cX0_vouches : ByteArray := prog_1_method_33_code
def yX0_vouches : MethodName := ⟨RX0, "vouches", "(IIIZ)Z"⟩
def dkwX0_vouches_3 : List UInt8 := [167, 0, 4, 3, 172]
abbrev dktX0_vouches_3 : List UInt8 := dkwX0_vouches_3 ++ []
def dkwX0_vouches_2 : List UInt8 := [27, 104, 4, 96, 50, 29, 46, 28, 159, 0, 15, 42, 27, 28, 5, 108, 29, 182, 0, 240, 153, 0, 7, 4]
abbrev dktX0_vouches_2 : List UInt8 := dkwX0_vouches_2 ++ dktX0_vouches_3
def dkwX0_vouches_1 : List UInt8 := [42, 180, 0, 32, 180, 0, 153, 58, 5, 25, 5, 5, 27, 104, 50, 29, 46, 28, 159, 0, 29, 25, 5, 5]
abbrev dktX0_vouches_1 : List UInt8 := dkwX0_vouches_1 ++ dktX0_vouches_2
def dkwX0_vouches_0 : List UInt8 := [28, 5, 108, 27, 160, 0, 5, 3, 172, 21, 4, 153, 0, 13, 42, 180, 0, 32, 180, 0, 156, 167, 0, 10]
abbrev dktX0_vouches_0 : List UInt8 := dkwX0_vouches_0 ++ dktX0_vouches_1
theorem dksX0_vouches_0 : cX0_vouches.data.toList.drop 0 = dktX0_vouches_0 := by decide +kernel
theorem dksX0_vouches_1 : cX0_vouches.data.toList.drop 24 = dktX0_vouches_1 := dk_seg dksX0_vouches_0 24 rfl rfl
theorem dksX0_vouches_2 : cX0_vouches.data.toList.drop 48 = dktX0_vouches_2 := dk_seg dksX0_vouches_1 24 rfl rfl
theorem dksX0_vouches_3 : cX0_vouches.data.toList.drop 72 = dktX0_vouches_3 := dk_seg dksX0_vouches_2 24 rfl rfl
theorem dX0_vouches_0 : decode cX0_vouches 0 = .ok (.iload_n 2, 1) := dk_28 (dk_at dksX0_vouches_0 0 rfl rfl)
theorem dX0_vouches_1 : decode cX0_vouches 1 = .ok (.iconst 2, 1) := dk_5 (dk_at dksX0_vouches_0 1 rfl rfl)
theorem dX0_vouches_2 : decode cX0_vouches 2 = .ok (.idiv, 1) := dk_108 (dk_at dksX0_vouches_0 2 rfl rfl)
theorem dX0_vouches_3 : decode cX0_vouches 3 = .ok (.iload_n 1, 1) := dk_27 (dk_at dksX0_vouches_0 3 rfl rfl)
theorem dX0_vouches_4 : decode cX0_vouches 4 = .ok (.if_icmp .ne 5, 3) := dk_160 0 5 (dk_at dksX0_vouches_0 4 rfl rfl)
theorem dX0_vouches_7 : decode cX0_vouches 7 = .ok (.iconst 0, 1) := dk_3 (dk_at dksX0_vouches_0 7 rfl rfl)
theorem dX0_vouches_8 : decode cX0_vouches 8 = .ok (.ireturn, 1) := dk_172 (dk_at dksX0_vouches_0 8 rfl rfl)
theorem dX0_vouches_9 : decode cX0_vouches 9 = .ok (.iload 4, 2) := dk_21 4 (dk_at dksX0_vouches_0 9 rfl rfl)
theorem dX0_vouches_11 : decode cX0_vouches 11 = .ok (.ifCond .eq 13, 3) := dk_153 0 13 (dk_at dksX0_vouches_0 11 rfl rfl)
theorem dX0_vouches_14 : decode cX0_vouches 14 = .ok (.aload_n 0, 1) := dk_42 (dk_at dksX0_vouches_0 14 rfl rfl)
theorem dX0_vouches_15 : decode cX0_vouches 15 = .ok (.getfield 32, 3) := dk_180 0 32 (dk_at dksX0_vouches_0 15 rfl rfl)
theorem dX0_vouches_18 : decode cX0_vouches 18 = .ok (.getfield 156, 3) := dk_180 0 156 (dk_at dksX0_vouches_0 18 rfl rfl)
theorem dX0_vouches_21 : decode cX0_vouches 21 = .ok (.goto 10, 3) := dk_167 0 10 (dk_at dksX0_vouches_0 21 rfl rfl)
theorem dX0_vouches_24 : decode cX0_vouches 24 = .ok (.aload_n 0, 1) := dk_42 (dk_at dksX0_vouches_1 0 rfl rfl)
theorem dX0_vouches_25 : decode cX0_vouches 25 = .ok (.getfield 32, 3) := dk_180 0 32 (dk_at dksX0_vouches_1 1 rfl rfl)
theorem dX0_vouches_28 : decode cX0_vouches 28 = .ok (.getfield 153, 3) := dk_180 0 153 (dk_at dksX0_vouches_1 4 rfl rfl)
theorem dX0_vouches_31 : decode cX0_vouches 31 = .ok (.astore 5, 2) := dk_58 5 (dk_at dksX0_vouches_1 7 rfl rfl)
theorem dX0_vouches_33 : decode cX0_vouches 33 = .ok (.aload 5, 2) := dk_25 5 (dk_at dksX0_vouches_1 9 rfl rfl)
theorem dX0_vouches_35 : decode cX0_vouches 35 = .ok (.iconst 2, 1) := dk_5 (dk_at dksX0_vouches_1 11 rfl rfl)
theorem dX0_vouches_36 : decode cX0_vouches 36 = .ok (.iload_n 1, 1) := dk_27 (dk_at dksX0_vouches_1 12 rfl rfl)
theorem dX0_vouches_37 : decode cX0_vouches 37 = .ok (.imul, 1) := dk_104 (dk_at dksX0_vouches_1 13 rfl rfl)
theorem dX0_vouches_38 : decode cX0_vouches 38 = .ok (.aaload, 1) := dk_50 (dk_at dksX0_vouches_1 14 rfl rfl)
theorem dX0_vouches_39 : decode cX0_vouches 39 = .ok (.iload_n 3, 1) := dk_29 (dk_at dksX0_vouches_1 15 rfl rfl)
theorem dX0_vouches_40 : decode cX0_vouches 40 = .ok (.iaload, 1) := dk_46 (dk_at dksX0_vouches_1 16 rfl rfl)
theorem dX0_vouches_41 : decode cX0_vouches 41 = .ok (.iload_n 2, 1) := dk_28 (dk_at dksX0_vouches_1 17 rfl rfl)
theorem dX0_vouches_42 : decode cX0_vouches 42 = .ok (.if_icmp .eq 29, 3) := dk_159 0 29 (dk_at dksX0_vouches_1 18 rfl rfl)
theorem dX0_vouches_45 : decode cX0_vouches 45 = .ok (.aload 5, 2) := dk_25 5 (dk_at dksX0_vouches_1 21 rfl rfl)
theorem dX0_vouches_47 : decode cX0_vouches 47 = .ok (.iconst 2, 1) := dk_5 (dk_at dksX0_vouches_1 23 rfl rfl)
theorem dX0_vouches_48 : decode cX0_vouches 48 = .ok (.iload_n 1, 1) := dk_27 (dk_at dksX0_vouches_2 0 rfl rfl)
theorem dX0_vouches_49 : decode cX0_vouches 49 = .ok (.imul, 1) := dk_104 (dk_at dksX0_vouches_2 1 rfl rfl)
theorem dX0_vouches_50 : decode cX0_vouches 50 = .ok (.iconst 1, 1) := dk_4 (dk_at dksX0_vouches_2 2 rfl rfl)
theorem dX0_vouches_51 : decode cX0_vouches 51 = .ok (.iadd, 1) := dk_96 (dk_at dksX0_vouches_2 3 rfl rfl)
theorem dX0_vouches_52 : decode cX0_vouches 52 = .ok (.aaload, 1) := dk_50 (dk_at dksX0_vouches_2 4 rfl rfl)
theorem dX0_vouches_53 : decode cX0_vouches 53 = .ok (.iload_n 3, 1) := dk_29 (dk_at dksX0_vouches_2 5 rfl rfl)
theorem dX0_vouches_54 : decode cX0_vouches 54 = .ok (.iaload, 1) := dk_46 (dk_at dksX0_vouches_2 6 rfl rfl)
theorem dX0_vouches_55 : decode cX0_vouches 55 = .ok (.iload_n 2, 1) := dk_28 (dk_at dksX0_vouches_2 7 rfl rfl)
theorem dX0_vouches_56 : decode cX0_vouches 56 = .ok (.if_icmp .eq 15, 3) := dk_159 0 15 (dk_at dksX0_vouches_2 8 rfl rfl)
theorem dX0_vouches_59 : decode cX0_vouches 59 = .ok (.aload_n 0, 1) := dk_42 (dk_at dksX0_vouches_2 11 rfl rfl)
theorem dX0_vouches_60 : decode cX0_vouches 60 = .ok (.iload_n 1, 1) := dk_27 (dk_at dksX0_vouches_2 12 rfl rfl)
theorem dX0_vouches_61 : decode cX0_vouches 61 = .ok (.iload_n 2, 1) := dk_28 (dk_at dksX0_vouches_2 13 rfl rfl)
theorem dX0_vouches_62 : decode cX0_vouches 62 = .ok (.iconst 2, 1) := dk_5 (dk_at dksX0_vouches_2 14 rfl rfl)
theorem dX0_vouches_63 : decode cX0_vouches 63 = .ok (.idiv, 1) := dk_108 (dk_at dksX0_vouches_2 15 rfl rfl)
theorem dX0_vouches_64 : decode cX0_vouches 64 = .ok (.iload_n 3, 1) := dk_29 (dk_at dksX0_vouches_2 16 rfl rfl)
theorem dX0_vouches_65 : decode cX0_vouches 65 = .ok (.invokevirtual 240, 3) := dk_182 0 240 (dk_at dksX0_vouches_2 17 rfl rfl)
theorem dX0_vouches_68 : decode cX0_vouches 68 = .ok (.ifCond .eq 7, 3) := dk_153 0 7 (dk_at dksX0_vouches_2 20 rfl rfl)
theorem dX0_vouches_71 : decode cX0_vouches 71 = .ok (.iconst 1, 1) := dk_4 (dk_at dksX0_vouches_2 23 rfl rfl)
theorem dX0_vouches_72 : decode cX0_vouches 72 = .ok (.goto 4, 3) := dk_167 0 4 (dk_at dksX0_vouches_3 0 rfl rfl)
theorem dX0_vouches_75 : decode cX0_vouches 75 = .ok (.iconst 0, 1) := dk_3 (dk_at dksX0_vouches_3 3 rfl rfl)
theorem dX0_vouches_76 : decode cX0_vouches 76 = .ok (.ireturn, 1) := dk_172 (dk_at dksX0_vouches_3 4 rfl rfl)
abbrev cX0_sees : ByteArray := prog_1_method_30_code
def yX0_sees : MethodName := ⟨RX0, "sees", "(III)Z"⟩
def dkwX0_sees_1 : List UInt8 := [161, 0, 7, 4, 167, 0, 4, 3, 172]
abbrev dktX0_sees_1 : List UInt8 := dkwX0_sees_1 ++ []
def dkwX0_sees_0 : List UInt8 := [42, 27, 29, 182, 0, 228, 28, 160, 0, 24, 42, 29, 182, 0, 231, 42, 180, 0, 32, 180, 0, 111, 27, 46]
abbrev dktX0_sees_0 : List UInt8 := dkwX0_sees_0 ++ dktX0_sees_1
theorem dksX0_sees_0 : cX0_sees.data.toList.drop 0 = dktX0_sees_0 := by decide +kernel
theorem dksX0_sees_1 : cX0_sees.data.toList.drop 24 = dktX0_sees_1 := dk_seg dksX0_sees_0 24 rfl rfl
theorem dX0_sees_0 : decode cX0_sees 0 = .ok (.aload_n 0, 1) := dk_42 (dk_at dksX0_sees_0 0 rfl rfl)
theorem dX0_sees_1 : decode cX0_sees 1 = .ok (.iload_n 1, 1) := dk_27 (dk_at dksX0_sees_0 1 rfl rfl)
theorem dX0_sees_2 : decode cX0_sees 2 = .ok (.iload_n 3, 1) := dk_29 (dk_at dksX0_sees_0 2 rfl rfl)
theorem dX0_sees_3 : decode cX0_sees 3 = .ok (.invokevirtual 228, 3) := dk_182 0 228 (dk_at dksX0_sees_0 3 rfl rfl)
theorem dX0_sees_6 : decode cX0_sees 6 = .ok (.iload_n 2, 1) := dk_28 (dk_at dksX0_sees_0 6 rfl rfl)
theorem dX0_sees_7 : decode cX0_sees 7 = .ok (.if_icmp .ne 24, 3) := dk_160 0 24 (dk_at dksX0_sees_0 7 rfl rfl)
theorem dX0_sees_10 : decode cX0_sees 10 = .ok (.aload_n 0, 1) := dk_42 (dk_at dksX0_sees_0 10 rfl rfl)
theorem dX0_sees_11 : decode cX0_sees 11 = .ok (.iload_n 3, 1) := dk_29 (dk_at dksX0_sees_0 11 rfl rfl)
theorem dX0_sees_12 : decode cX0_sees 12 = .ok (.invokevirtual 231, 3) := dk_182 0 231 (dk_at dksX0_sees_0 12 rfl rfl)
theorem dX0_sees_15 : decode cX0_sees 15 = .ok (.aload_n 0, 1) := dk_42 (dk_at dksX0_sees_0 15 rfl rfl)
theorem dX0_sees_16 : decode cX0_sees 16 = .ok (.getfield 32, 3) := dk_180 0 32 (dk_at dksX0_sees_0 16 rfl rfl)
theorem dX0_sees_19 : decode cX0_sees 19 = .ok (.getfield 111, 3) := dk_180 0 111 (dk_at dksX0_sees_0 19 rfl rfl)
theorem dX0_sees_22 : decode cX0_sees 22 = .ok (.iload_n 1, 1) := dk_27 (dk_at dksX0_sees_0 22 rfl rfl)
theorem dX0_sees_23 : decode cX0_sees 23 = .ok (.iaload, 1) := dk_46 (dk_at dksX0_sees_0 23 rfl rfl)
theorem dX0_sees_24 : decode cX0_sees 24 = .ok (.if_icmp .lt 7, 3) := dk_161 0 7 (dk_at dksX0_sees_1 0 rfl rfl)
theorem dX0_sees_27 : decode cX0_sees 27 = .ok (.iconst 1, 1) := dk_4 (dk_at dksX0_sees_1 3 rfl rfl)
theorem dX0_sees_28 : decode cX0_sees 28 = .ok (.goto 4, 3) := dk_167 0 4 (dk_at dksX0_sees_1 4 rfl rfl)
theorem dX0_sees_31 : decode cX0_sees 31 = .ok (.iconst 0, 1) := dk_3 (dk_at dksX0_sees_1 7 rfl rfl)
theorem dX0_sees_32 : decode cX0_sees 32 = .ok (.ireturn, 1) := dk_172 (dk_at dksX0_sees_1 8 rfl rfl)
abbrev cX0_gap : ByteArray := prog_1_method_37_code
def yX0_gap : MethodName := ⟨RX0, "gap", "(IZI)I"⟩
def dkwX0_gap_8 : List UInt8 := [21, 7, 167, 0, 5, 21, 8, 172]
abbrev dktX0_gap_8 : List UInt8 := dkwX0_gap_8 ++ []
def dkwX0_gap_7 : List UInt8 := [154, 0, 8, 21, 4, 167, 0, 25, 29, 4, 160, 0, 8, 21, 5, 167, 0, 15, 29, 5, 160, 0, 8]
abbrev dktX0_gap_7 : List UInt8 := dkwX0_gap_7 ++ dktX0_gap_8
def dkwX0_gap_6 : List UInt8 := [3, 182, 0, 250, 153, 0, 7, 4, 167, 0, 4, 3, 96, 54, 8, 132, 9, 1, 167, 255, 137, 29]
abbrev dktX0_gap_6 : List UInt8 := dkwX0_gap_6 ++ dktX0_gap_7
def dkwX0_gap_5 : List UInt8 := [21, 6, 184, 0, 210, 54, 7, 21, 8, 42, 27, 21, 9, 4, 182, 0, 250, 154, 0, 18, 42, 27, 21, 9]
abbrev dktX0_gap_5 : List UInt8 := dkwX0_gap_5 ++ dktX0_gap_6
def dkwX0_gap_4 : List UInt8 := [167, 0, 5, 21, 5, 54, 5, 21, 10, 153, 0, 10, 21, 6, 4, 96, 167, 0, 4, 3, 54, 6, 21, 7]
abbrev dktX0_gap_4 : List UInt8 := dkwX0_gap_4 ++ dktX0_gap_5
def dkwX0_gap_3 : List UInt8 := [153, 0, 7, 4, 167, 0, 4, 3, 96, 54, 4, 21, 10, 153, 0, 14, 21, 5, 2, 160, 0, 8, 21, 9]
abbrev dktX0_gap_3 : List UInt8 := dkwX0_gap_3 ++ dktX0_gap_4
def dkwX0_gap_2 : List UInt8 := [42, 27, 21, 9, 28, 182, 0, 250, 154, 0, 7, 4, 167, 0, 4, 3, 54, 10, 21, 4, 21, 10]
abbrev dktX0_gap_2 : List UInt8 := dkwX0_gap_2 ++ dktX0_gap_3
def dkwX0_gap_1 : List UInt8 := [54, 4, 2, 54, 5, 3, 54, 6, 3, 54, 7, 3, 54, 8, 3, 54, 9, 21, 9, 16, 100, 162, 0, 118]
abbrev dktX0_gap_1 : List UInt8 := dkwX0_gap_1 ++ dktX0_gap_2
def dkwX0_gap_0 : List UInt8 := [42, 27, 182, 0, 150, 153, 0, 15, 29, 133, 9, 20, 0, 95, 184, 0, 5, 154, 0, 5, 2, 172, 3]
abbrev dktX0_gap_0 : List UInt8 := dkwX0_gap_0 ++ dktX0_gap_1
theorem dksX0_gap_0 : cX0_gap.data.toList.drop 0 = dktX0_gap_0 := by decide +kernel
theorem dksX0_gap_1 : cX0_gap.data.toList.drop 23 = dktX0_gap_1 := dk_seg dksX0_gap_0 23 rfl rfl
theorem dksX0_gap_2 : cX0_gap.data.toList.drop 47 = dktX0_gap_2 := dk_seg dksX0_gap_1 24 rfl rfl
theorem dksX0_gap_3 : cX0_gap.data.toList.drop 69 = dktX0_gap_3 := dk_seg dksX0_gap_2 22 rfl rfl
theorem dksX0_gap_4 : cX0_gap.data.toList.drop 93 = dktX0_gap_4 := dk_seg dksX0_gap_3 24 rfl rfl
theorem dksX0_gap_5 : cX0_gap.data.toList.drop 117 = dktX0_gap_5 := dk_seg dksX0_gap_4 24 rfl rfl
theorem dksX0_gap_6 : cX0_gap.data.toList.drop 141 = dktX0_gap_6 := dk_seg dksX0_gap_5 24 rfl rfl
theorem dksX0_gap_7 : cX0_gap.data.toList.drop 163 = dktX0_gap_7 := dk_seg dksX0_gap_6 22 rfl rfl
theorem dksX0_gap_8 : cX0_gap.data.toList.drop 186 = dktX0_gap_8 := dk_seg dksX0_gap_7 23 rfl rfl
theorem dX0_gap_0 : decode cX0_gap 0 = .ok (.aload_n 0, 1) := dk_42 (dk_at dksX0_gap_0 0 rfl rfl)
theorem dX0_gap_1 : decode cX0_gap 1 = .ok (.iload_n 1, 1) := dk_27 (dk_at dksX0_gap_0 1 rfl rfl)
theorem dX0_gap_2 : decode cX0_gap 2 = .ok (.invokevirtual 150, 3) := dk_182 0 150 (dk_at dksX0_gap_0 2 rfl rfl)
theorem dX0_gap_5 : decode cX0_gap 5 = .ok (.ifCond .eq 15, 3) := dk_153 0 15 (dk_at dksX0_gap_0 5 rfl rfl)
theorem dX0_gap_8 : decode cX0_gap 8 = .ok (.iload_n 3, 1) := dk_29 (dk_at dksX0_gap_0 8 rfl rfl)
theorem dX0_gap_9 : decode cX0_gap 9 = .ok (.i2l, 1) := dk_133 (dk_at dksX0_gap_0 9 rfl rfl)
theorem dX0_gap_10 : decode cX0_gap 10 = .ok (.lconst 0, 1) := dk_9 (dk_at dksX0_gap_0 10 rfl rfl)
theorem dX0_gap_11 : decode cX0_gap 11 = .ok (.ldc2_w 95, 3) := dk_20 0 95 (dk_at dksX0_gap_0 11 rfl rfl)
theorem dX0_gap_14 : decode cX0_gap 14 = .ok (.invokestatic 5, 3) := dk_184 0 5 (dk_at dksX0_gap_0 14 rfl rfl)
theorem dX0_gap_17 : decode cX0_gap 17 = .ok (.ifCond .ne 5, 3) := dk_154 0 5 (dk_at dksX0_gap_0 17 rfl rfl)
theorem dX0_gap_20 : decode cX0_gap 20 = .ok (.iconst (-1), 1) := dk_2 (dk_at dksX0_gap_0 20 rfl rfl)
theorem dX0_gap_21 : decode cX0_gap 21 = .ok (.ireturn, 1) := dk_172 (dk_at dksX0_gap_0 21 rfl rfl)
theorem dX0_gap_22 : decode cX0_gap 22 = .ok (.iconst 0, 1) := dk_3 (dk_at dksX0_gap_0 22 rfl rfl)
theorem dX0_gap_23 : decode cX0_gap 23 = .ok (.istore 4, 2) := dk_54 4 (dk_at dksX0_gap_1 0 rfl rfl)
theorem dX0_gap_25 : decode cX0_gap 25 = .ok (.iconst (-1), 1) := dk_2 (dk_at dksX0_gap_1 2 rfl rfl)
theorem dX0_gap_26 : decode cX0_gap 26 = .ok (.istore 5, 2) := dk_54 5 (dk_at dksX0_gap_1 3 rfl rfl)
theorem dX0_gap_28 : decode cX0_gap 28 = .ok (.iconst 0, 1) := dk_3 (dk_at dksX0_gap_1 5 rfl rfl)
theorem dX0_gap_29 : decode cX0_gap 29 = .ok (.istore 6, 2) := dk_54 6 (dk_at dksX0_gap_1 6 rfl rfl)
theorem dX0_gap_31 : decode cX0_gap 31 = .ok (.iconst 0, 1) := dk_3 (dk_at dksX0_gap_1 8 rfl rfl)
theorem dX0_gap_32 : decode cX0_gap 32 = .ok (.istore 7, 2) := dk_54 7 (dk_at dksX0_gap_1 9 rfl rfl)
theorem dX0_gap_34 : decode cX0_gap 34 = .ok (.iconst 0, 1) := dk_3 (dk_at dksX0_gap_1 11 rfl rfl)
theorem dX0_gap_35 : decode cX0_gap 35 = .ok (.istore 8, 2) := dk_54 8 (dk_at dksX0_gap_1 12 rfl rfl)
theorem dX0_gap_37 : decode cX0_gap 37 = .ok (.iconst 0, 1) := dk_3 (dk_at dksX0_gap_1 14 rfl rfl)
theorem dX0_gap_38 : decode cX0_gap 38 = .ok (.istore 9, 2) := dk_54 9 (dk_at dksX0_gap_1 15 rfl rfl)
theorem dX0_gap_40 : decode cX0_gap 40 = .ok (.iload 9, 2) := dk_21 9 (dk_at dksX0_gap_1 17 rfl rfl)
theorem dX0_gap_42 : decode cX0_gap 42 = .ok (.bipush 100, 2) := dk_16 100 (dk_at dksX0_gap_1 19 rfl rfl)
theorem dX0_gap_44 : decode cX0_gap 44 = .ok (.if_icmp .ge 118, 3) := dk_162 0 118 (dk_at dksX0_gap_1 21 rfl rfl)
theorem dX0_gap_47 : decode cX0_gap 47 = .ok (.aload_n 0, 1) := dk_42 (dk_at dksX0_gap_2 0 rfl rfl)
theorem dX0_gap_48 : decode cX0_gap 48 = .ok (.iload_n 1, 1) := dk_27 (dk_at dksX0_gap_2 1 rfl rfl)
theorem dX0_gap_49 : decode cX0_gap 49 = .ok (.iload 9, 2) := dk_21 9 (dk_at dksX0_gap_2 2 rfl rfl)
theorem dX0_gap_51 : decode cX0_gap 51 = .ok (.iload_n 2, 1) := dk_28 (dk_at dksX0_gap_2 4 rfl rfl)
theorem dX0_gap_52 : decode cX0_gap 52 = .ok (.invokevirtual 250, 3) := dk_182 0 250 (dk_at dksX0_gap_2 5 rfl rfl)
theorem dX0_gap_55 : decode cX0_gap 55 = .ok (.ifCond .ne 7, 3) := dk_154 0 7 (dk_at dksX0_gap_2 8 rfl rfl)
theorem dX0_gap_58 : decode cX0_gap 58 = .ok (.iconst 1, 1) := dk_4 (dk_at dksX0_gap_2 11 rfl rfl)
theorem dX0_gap_59 : decode cX0_gap 59 = .ok (.goto 4, 3) := dk_167 0 4 (dk_at dksX0_gap_2 12 rfl rfl)
theorem dX0_gap_62 : decode cX0_gap 62 = .ok (.iconst 0, 1) := dk_3 (dk_at dksX0_gap_2 15 rfl rfl)
theorem dX0_gap_63 : decode cX0_gap 63 = .ok (.istore 10, 2) := dk_54 10 (dk_at dksX0_gap_2 16 rfl rfl)
theorem dX0_gap_65 : decode cX0_gap 65 = .ok (.iload 4, 2) := dk_21 4 (dk_at dksX0_gap_2 18 rfl rfl)
theorem dX0_gap_67 : decode cX0_gap 67 = .ok (.iload 10, 2) := dk_21 10 (dk_at dksX0_gap_2 20 rfl rfl)
theorem dX0_gap_69 : decode cX0_gap 69 = .ok (.ifCond .eq 7, 3) := dk_153 0 7 (dk_at dksX0_gap_3 0 rfl rfl)
theorem dX0_gap_72 : decode cX0_gap 72 = .ok (.iconst 1, 1) := dk_4 (dk_at dksX0_gap_3 3 rfl rfl)
theorem dX0_gap_73 : decode cX0_gap 73 = .ok (.goto 4, 3) := dk_167 0 4 (dk_at dksX0_gap_3 4 rfl rfl)
theorem dX0_gap_76 : decode cX0_gap 76 = .ok (.iconst 0, 1) := dk_3 (dk_at dksX0_gap_3 7 rfl rfl)
theorem dX0_gap_77 : decode cX0_gap 77 = .ok (.iadd, 1) := dk_96 (dk_at dksX0_gap_3 8 rfl rfl)
theorem dX0_gap_78 : decode cX0_gap 78 = .ok (.istore 4, 2) := dk_54 4 (dk_at dksX0_gap_3 9 rfl rfl)
theorem dX0_gap_80 : decode cX0_gap 80 = .ok (.iload 10, 2) := dk_21 10 (dk_at dksX0_gap_3 11 rfl rfl)
theorem dX0_gap_82 : decode cX0_gap 82 = .ok (.ifCond .eq 14, 3) := dk_153 0 14 (dk_at dksX0_gap_3 13 rfl rfl)
theorem dX0_gap_85 : decode cX0_gap 85 = .ok (.iload 5, 2) := dk_21 5 (dk_at dksX0_gap_3 16 rfl rfl)
theorem dX0_gap_87 : decode cX0_gap 87 = .ok (.iconst (-1), 1) := dk_2 (dk_at dksX0_gap_3 18 rfl rfl)
theorem dX0_gap_88 : decode cX0_gap 88 = .ok (.if_icmp .ne 8, 3) := dk_160 0 8 (dk_at dksX0_gap_3 19 rfl rfl)
theorem dX0_gap_91 : decode cX0_gap 91 = .ok (.iload 9, 2) := dk_21 9 (dk_at dksX0_gap_3 22 rfl rfl)
theorem dX0_gap_93 : decode cX0_gap 93 = .ok (.goto 5, 3) := dk_167 0 5 (dk_at dksX0_gap_4 0 rfl rfl)
theorem dX0_gap_96 : decode cX0_gap 96 = .ok (.iload 5, 2) := dk_21 5 (dk_at dksX0_gap_4 3 rfl rfl)
theorem dX0_gap_98 : decode cX0_gap 98 = .ok (.istore 5, 2) := dk_54 5 (dk_at dksX0_gap_4 5 rfl rfl)
theorem dX0_gap_100 : decode cX0_gap 100 = .ok (.iload 10, 2) := dk_21 10 (dk_at dksX0_gap_4 7 rfl rfl)
theorem dX0_gap_102 : decode cX0_gap 102 = .ok (.ifCond .eq 10, 3) := dk_153 0 10 (dk_at dksX0_gap_4 9 rfl rfl)
theorem dX0_gap_105 : decode cX0_gap 105 = .ok (.iload 6, 2) := dk_21 6 (dk_at dksX0_gap_4 12 rfl rfl)
theorem dX0_gap_107 : decode cX0_gap 107 = .ok (.iconst 1, 1) := dk_4 (dk_at dksX0_gap_4 14 rfl rfl)
theorem dX0_gap_108 : decode cX0_gap 108 = .ok (.iadd, 1) := dk_96 (dk_at dksX0_gap_4 15 rfl rfl)
theorem dX0_gap_109 : decode cX0_gap 109 = .ok (.goto 4, 3) := dk_167 0 4 (dk_at dksX0_gap_4 16 rfl rfl)
theorem dX0_gap_112 : decode cX0_gap 112 = .ok (.iconst 0, 1) := dk_3 (dk_at dksX0_gap_4 19 rfl rfl)
theorem dX0_gap_113 : decode cX0_gap 113 = .ok (.istore 6, 2) := dk_54 6 (dk_at dksX0_gap_4 20 rfl rfl)
theorem dX0_gap_115 : decode cX0_gap 115 = .ok (.iload 7, 2) := dk_21 7 (dk_at dksX0_gap_4 22 rfl rfl)
theorem dX0_gap_117 : decode cX0_gap 117 = .ok (.iload 6, 2) := dk_21 6 (dk_at dksX0_gap_5 0 rfl rfl)
theorem dX0_gap_119 : decode cX0_gap 119 = .ok (.invokestatic 210, 3) := dk_184 0 210 (dk_at dksX0_gap_5 2 rfl rfl)
theorem dX0_gap_122 : decode cX0_gap 122 = .ok (.istore 7, 2) := dk_54 7 (dk_at dksX0_gap_5 5 rfl rfl)
theorem dX0_gap_124 : decode cX0_gap 124 = .ok (.iload 8, 2) := dk_21 8 (dk_at dksX0_gap_5 7 rfl rfl)
theorem dX0_gap_126 : decode cX0_gap 126 = .ok (.aload_n 0, 1) := dk_42 (dk_at dksX0_gap_5 9 rfl rfl)
theorem dX0_gap_127 : decode cX0_gap 127 = .ok (.iload_n 1, 1) := dk_27 (dk_at dksX0_gap_5 10 rfl rfl)
theorem dX0_gap_128 : decode cX0_gap 128 = .ok (.iload 9, 2) := dk_21 9 (dk_at dksX0_gap_5 11 rfl rfl)
theorem dX0_gap_130 : decode cX0_gap 130 = .ok (.iconst 1, 1) := dk_4 (dk_at dksX0_gap_5 13 rfl rfl)
theorem dX0_gap_131 : decode cX0_gap 131 = .ok (.invokevirtual 250, 3) := dk_182 0 250 (dk_at dksX0_gap_5 14 rfl rfl)
theorem dX0_gap_134 : decode cX0_gap 134 = .ok (.ifCond .ne 18, 3) := dk_154 0 18 (dk_at dksX0_gap_5 17 rfl rfl)
theorem dX0_gap_137 : decode cX0_gap 137 = .ok (.aload_n 0, 1) := dk_42 (dk_at dksX0_gap_5 20 rfl rfl)
theorem dX0_gap_138 : decode cX0_gap 138 = .ok (.iload_n 1, 1) := dk_27 (dk_at dksX0_gap_5 21 rfl rfl)
theorem dX0_gap_139 : decode cX0_gap 139 = .ok (.iload 9, 2) := dk_21 9 (dk_at dksX0_gap_5 22 rfl rfl)
theorem dX0_gap_141 : decode cX0_gap 141 = .ok (.iconst 0, 1) := dk_3 (dk_at dksX0_gap_6 0 rfl rfl)
theorem dX0_gap_142 : decode cX0_gap 142 = .ok (.invokevirtual 250, 3) := dk_182 0 250 (dk_at dksX0_gap_6 1 rfl rfl)
theorem dX0_gap_145 : decode cX0_gap 145 = .ok (.ifCond .eq 7, 3) := dk_153 0 7 (dk_at dksX0_gap_6 4 rfl rfl)
theorem dX0_gap_148 : decode cX0_gap 148 = .ok (.iconst 1, 1) := dk_4 (dk_at dksX0_gap_6 7 rfl rfl)
theorem dX0_gap_149 : decode cX0_gap 149 = .ok (.goto 4, 3) := dk_167 0 4 (dk_at dksX0_gap_6 8 rfl rfl)
theorem dX0_gap_152 : decode cX0_gap 152 = .ok (.iconst 0, 1) := dk_3 (dk_at dksX0_gap_6 11 rfl rfl)
theorem dX0_gap_153 : decode cX0_gap 153 = .ok (.iadd, 1) := dk_96 (dk_at dksX0_gap_6 12 rfl rfl)
theorem dX0_gap_154 : decode cX0_gap 154 = .ok (.istore 8, 2) := dk_54 8 (dk_at dksX0_gap_6 13 rfl rfl)
theorem dX0_gap_156 : decode cX0_gap 156 = .ok (.iinc 9 1, 3) := dk_132 9 1 (dk_at dksX0_gap_6 15 rfl rfl)
theorem dX0_gap_159 : decode cX0_gap 159 = .ok (.goto (-119), 3) := dk_167 255 137 (dk_at dksX0_gap_6 18 rfl rfl)
theorem dX0_gap_162 : decode cX0_gap 162 = .ok (.iload_n 3, 1) := dk_29 (dk_at dksX0_gap_6 21 rfl rfl)
theorem dX0_gap_163 : decode cX0_gap 163 = .ok (.ifCond .ne 8, 3) := dk_154 0 8 (dk_at dksX0_gap_7 0 rfl rfl)
theorem dX0_gap_166 : decode cX0_gap 166 = .ok (.iload 4, 2) := dk_21 4 (dk_at dksX0_gap_7 3 rfl rfl)
theorem dX0_gap_168 : decode cX0_gap 168 = .ok (.goto 25, 3) := dk_167 0 25 (dk_at dksX0_gap_7 5 rfl rfl)
theorem dX0_gap_171 : decode cX0_gap 171 = .ok (.iload_n 3, 1) := dk_29 (dk_at dksX0_gap_7 8 rfl rfl)
theorem dX0_gap_172 : decode cX0_gap 172 = .ok (.iconst 1, 1) := dk_4 (dk_at dksX0_gap_7 9 rfl rfl)
theorem dX0_gap_173 : decode cX0_gap 173 = .ok (.if_icmp .ne 8, 3) := dk_160 0 8 (dk_at dksX0_gap_7 10 rfl rfl)
theorem dX0_gap_176 : decode cX0_gap 176 = .ok (.iload 5, 2) := dk_21 5 (dk_at dksX0_gap_7 13 rfl rfl)
theorem dX0_gap_178 : decode cX0_gap 178 = .ok (.goto 15, 3) := dk_167 0 15 (dk_at dksX0_gap_7 15 rfl rfl)
theorem dX0_gap_181 : decode cX0_gap 181 = .ok (.iload_n 3, 1) := dk_29 (dk_at dksX0_gap_7 18 rfl rfl)
theorem dX0_gap_182 : decode cX0_gap 182 = .ok (.iconst 2, 1) := dk_5 (dk_at dksX0_gap_7 19 rfl rfl)
theorem dX0_gap_183 : decode cX0_gap 183 = .ok (.if_icmp .ne 8, 3) := dk_160 0 8 (dk_at dksX0_gap_7 20 rfl rfl)
theorem dX0_gap_186 : decode cX0_gap 186 = .ok (.iload 7, 2) := dk_21 7 (dk_at dksX0_gap_8 0 rfl rfl)
theorem dX0_gap_188 : decode cX0_gap 188 = .ok (.goto 5, 3) := dk_167 0 5 (dk_at dksX0_gap_8 2 rfl rfl)
theorem dX0_gap_191 : decode cX0_gap 191 = .ok (.iload 8, 2) := dk_21 8 (dk_at dksX0_gap_8 5 rfl rfl)
theorem dX0_gap_193 : decode cX0_gap 193 = .ok (.ireturn, 1) := dk_172 (dk_at dksX0_gap_8 7 rfl rfl)
abbrev cX0_saw : ByteArray := prog_1_method_39_code
def yX0_saw : MethodName := ⟨RX0, "saw", "(II)I"⟩
def dkwX0_saw_3 : List UInt8 := [167, 0, 4, 3, 172]
abbrev dktX0_saw_3 : List UInt8 := dkwX0_saw_3 ++ []
def dkwX0_saw_2 : List UInt8 := [180, 0, 254, 5, 108, 28, 160, 0, 7, 2, 167, 0, 17, 42, 28, 45, 182, 1, 7, 153, 0, 7, 4]
abbrev dktX0_saw_2 : List UInt8 := dkwX0_saw_2 ++ dktX0_saw_3
def dkwX0_saw_1 : List UInt8 := [182, 0, 108, 154, 0, 5, 2, 172, 42, 180, 0, 32, 180, 0, 159, 27, 182, 0, 172, 192, 0, 176, 78, 45]
abbrev dktX0_saw_1 : List UInt8 := dkwX0_saw_1 ++ dktX0_saw_2
def dkwX0_saw_0 : List UInt8 := [27, 133, 9, 42, 180, 0, 32, 180, 0, 159, 182, 0, 137, 4, 100, 133, 184, 0, 5, 153, 0, 11, 42, 28]
abbrev dktX0_saw_0 : List UInt8 := dkwX0_saw_0 ++ dktX0_saw_1
theorem dksX0_saw_0 : cX0_saw.data.toList.drop 0 = dktX0_saw_0 := by decide +kernel
theorem dksX0_saw_1 : cX0_saw.data.toList.drop 24 = dktX0_saw_1 := dk_seg dksX0_saw_0 24 rfl rfl
theorem dksX0_saw_2 : cX0_saw.data.toList.drop 48 = dktX0_saw_2 := dk_seg dksX0_saw_1 24 rfl rfl
theorem dksX0_saw_3 : cX0_saw.data.toList.drop 71 = dktX0_saw_3 := dk_seg dksX0_saw_2 23 rfl rfl
theorem dX0_saw_0 : decode cX0_saw 0 = .ok (.iload_n 1, 1) := dk_27 (dk_at dksX0_saw_0 0 rfl rfl)
theorem dX0_saw_1 : decode cX0_saw 1 = .ok (.i2l, 1) := dk_133 (dk_at dksX0_saw_0 1 rfl rfl)
theorem dX0_saw_2 : decode cX0_saw 2 = .ok (.lconst 0, 1) := dk_9 (dk_at dksX0_saw_0 2 rfl rfl)
theorem dX0_saw_3 : decode cX0_saw 3 = .ok (.aload_n 0, 1) := dk_42 (dk_at dksX0_saw_0 3 rfl rfl)
theorem dX0_saw_4 : decode cX0_saw 4 = .ok (.getfield 32, 3) := dk_180 0 32 (dk_at dksX0_saw_0 4 rfl rfl)
theorem dX0_saw_7 : decode cX0_saw 7 = .ok (.getfield 159, 3) := dk_180 0 159 (dk_at dksX0_saw_0 7 rfl rfl)
theorem dX0_saw_10 : decode cX0_saw 10 = .ok (.invokevirtual 137, 3) := dk_182 0 137 (dk_at dksX0_saw_0 10 rfl rfl)
theorem dX0_saw_13 : decode cX0_saw 13 = .ok (.iconst 1, 1) := dk_4 (dk_at dksX0_saw_0 13 rfl rfl)
theorem dX0_saw_14 : decode cX0_saw 14 = .ok (.isub, 1) := dk_100 (dk_at dksX0_saw_0 14 rfl rfl)
theorem dX0_saw_15 : decode cX0_saw 15 = .ok (.i2l, 1) := dk_133 (dk_at dksX0_saw_0 15 rfl rfl)
theorem dX0_saw_16 : decode cX0_saw 16 = .ok (.invokestatic 5, 3) := dk_184 0 5 (dk_at dksX0_saw_0 16 rfl rfl)
theorem dX0_saw_19 : decode cX0_saw 19 = .ok (.ifCond .eq 11, 3) := dk_153 0 11 (dk_at dksX0_saw_0 19 rfl rfl)
theorem dX0_saw_22 : decode cX0_saw 22 = .ok (.aload_n 0, 1) := dk_42 (dk_at dksX0_saw_0 22 rfl rfl)
theorem dX0_saw_23 : decode cX0_saw 23 = .ok (.iload_n 2, 1) := dk_28 (dk_at dksX0_saw_0 23 rfl rfl)
theorem dX0_saw_24 : decode cX0_saw 24 = .ok (.invokevirtual 108, 3) := dk_182 0 108 (dk_at dksX0_saw_1 0 rfl rfl)
theorem dX0_saw_27 : decode cX0_saw 27 = .ok (.ifCond .ne 5, 3) := dk_154 0 5 (dk_at dksX0_saw_1 3 rfl rfl)
theorem dX0_saw_30 : decode cX0_saw 30 = .ok (.iconst (-1), 1) := dk_2 (dk_at dksX0_saw_1 6 rfl rfl)
theorem dX0_saw_31 : decode cX0_saw 31 = .ok (.ireturn, 1) := dk_172 (dk_at dksX0_saw_1 7 rfl rfl)
theorem dX0_saw_32 : decode cX0_saw 32 = .ok (.aload_n 0, 1) := dk_42 (dk_at dksX0_saw_1 8 rfl rfl)
theorem dX0_saw_33 : decode cX0_saw 33 = .ok (.getfield 32, 3) := dk_180 0 32 (dk_at dksX0_saw_1 9 rfl rfl)
theorem dX0_saw_36 : decode cX0_saw 36 = .ok (.getfield 159, 3) := dk_180 0 159 (dk_at dksX0_saw_1 12 rfl rfl)
theorem dX0_saw_39 : decode cX0_saw 39 = .ok (.iload_n 1, 1) := dk_27 (dk_at dksX0_saw_1 15 rfl rfl)
theorem dX0_saw_40 : decode cX0_saw 40 = .ok (.invokevirtual 172, 3) := dk_182 0 172 (dk_at dksX0_saw_1 16 rfl rfl)
theorem dX0_saw_43 : decode cX0_saw 43 = .ok (.checkcast 176, 3) := dk_192 0 176 (dk_at dksX0_saw_1 19 rfl rfl)
theorem dX0_saw_46 : decode cX0_saw 46 = .ok (.astore_n 3, 1) := dk_78 (dk_at dksX0_saw_1 22 rfl rfl)
theorem dX0_saw_47 : decode cX0_saw 47 = .ok (.aload_n 3, 1) := dk_45 (dk_at dksX0_saw_1 23 rfl rfl)
theorem dX0_saw_48 : decode cX0_saw 48 = .ok (.getfield 254, 3) := dk_180 0 254 (dk_at dksX0_saw_2 0 rfl rfl)
theorem dX0_saw_51 : decode cX0_saw 51 = .ok (.iconst 2, 1) := dk_5 (dk_at dksX0_saw_2 3 rfl rfl)
theorem dX0_saw_52 : decode cX0_saw 52 = .ok (.idiv, 1) := dk_108 (dk_at dksX0_saw_2 4 rfl rfl)
theorem dX0_saw_53 : decode cX0_saw 53 = .ok (.iload_n 2, 1) := dk_28 (dk_at dksX0_saw_2 5 rfl rfl)
theorem dX0_saw_54 : decode cX0_saw 54 = .ok (.if_icmp .ne 7, 3) := dk_160 0 7 (dk_at dksX0_saw_2 6 rfl rfl)
theorem dX0_saw_57 : decode cX0_saw 57 = .ok (.iconst (-1), 1) := dk_2 (dk_at dksX0_saw_2 9 rfl rfl)
theorem dX0_saw_58 : decode cX0_saw 58 = .ok (.goto 17, 3) := dk_167 0 17 (dk_at dksX0_saw_2 10 rfl rfl)
theorem dX0_saw_61 : decode cX0_saw 61 = .ok (.aload_n 0, 1) := dk_42 (dk_at dksX0_saw_2 13 rfl rfl)
theorem dX0_saw_62 : decode cX0_saw 62 = .ok (.iload_n 2, 1) := dk_28 (dk_at dksX0_saw_2 14 rfl rfl)
theorem dX0_saw_63 : decode cX0_saw 63 = .ok (.aload_n 3, 1) := dk_45 (dk_at dksX0_saw_2 15 rfl rfl)
theorem dX0_saw_64 : decode cX0_saw 64 = .ok (.invokevirtual 263, 3) := dk_182 1 7 (dk_at dksX0_saw_2 16 rfl rfl)
theorem dX0_saw_67 : decode cX0_saw 67 = .ok (.ifCond .eq 7, 3) := dk_153 0 7 (dk_at dksX0_saw_2 19 rfl rfl)
theorem dX0_saw_70 : decode cX0_saw 70 = .ok (.iconst 1, 1) := dk_4 (dk_at dksX0_saw_2 22 rfl rfl)
theorem dX0_saw_71 : decode cX0_saw 71 = .ok (.goto 4, 3) := dk_167 0 4 (dk_at dksX0_saw_3 0 rfl rfl)
theorem dX0_saw_74 : decode cX0_saw 74 = .ok (.iconst 0, 1) := dk_3 (dk_at dksX0_saw_3 3 rfl rfl)
theorem dX0_saw_75 : decode cX0_saw 75 = .ok (.ireturn, 1) := dk_172 (dk_at dksX0_saw_3 4 rfl rfl)
abbrev cX0_sawIt : ByteArray := prog_1_method_38_code
def yX0_sawIt : MethodName := ⟨RX0, "sawIt", "(ILRapTable$Move;)Z"⟩
def dkwX0_sawIt_2 : List UInt8 := [172]
abbrev dktX0_sawIt_2 : List UInt8 := dkwX0_sawIt_2 ++ []
def dkwX0_sawIt_1 : List UInt8 := [154, 0, 19, 42, 27, 44, 180, 1, 4, 44, 180, 0, 178, 182, 0, 240, 153, 0, 7, 4, 167, 0, 4, 3]
abbrev dktX0_sawIt_1 : List UInt8 := dkwX0_sawIt_1 ++ dktX0_sawIt_2
def dkwX0_sawIt_0 : List UInt8 := [27, 44, 180, 0, 254, 5, 108, 159, 0, 39, 42, 27, 44, 180, 1, 1, 44, 180, 0, 178, 182, 0, 240]
abbrev dktX0_sawIt_0 : List UInt8 := dkwX0_sawIt_0 ++ dktX0_sawIt_1
theorem dksX0_sawIt_0 : cX0_sawIt.data.toList.drop 0 = dktX0_sawIt_0 := by decide +kernel
theorem dksX0_sawIt_1 : cX0_sawIt.data.toList.drop 23 = dktX0_sawIt_1 := dk_seg dksX0_sawIt_0 23 rfl rfl
theorem dksX0_sawIt_2 : cX0_sawIt.data.toList.drop 47 = dktX0_sawIt_2 := dk_seg dksX0_sawIt_1 24 rfl rfl
theorem dX0_sawIt_0 : decode cX0_sawIt 0 = .ok (.iload_n 1, 1) := dk_27 (dk_at dksX0_sawIt_0 0 rfl rfl)
theorem dX0_sawIt_1 : decode cX0_sawIt 1 = .ok (.aload_n 2, 1) := dk_44 (dk_at dksX0_sawIt_0 1 rfl rfl)
theorem dX0_sawIt_2 : decode cX0_sawIt 2 = .ok (.getfield 254, 3) := dk_180 0 254 (dk_at dksX0_sawIt_0 2 rfl rfl)
theorem dX0_sawIt_5 : decode cX0_sawIt 5 = .ok (.iconst 2, 1) := dk_5 (dk_at dksX0_sawIt_0 5 rfl rfl)
theorem dX0_sawIt_6 : decode cX0_sawIt 6 = .ok (.idiv, 1) := dk_108 (dk_at dksX0_sawIt_0 6 rfl rfl)
theorem dX0_sawIt_7 : decode cX0_sawIt 7 = .ok (.if_icmp .eq 39, 3) := dk_159 0 39 (dk_at dksX0_sawIt_0 7 rfl rfl)
theorem dX0_sawIt_10 : decode cX0_sawIt 10 = .ok (.aload_n 0, 1) := dk_42 (dk_at dksX0_sawIt_0 10 rfl rfl)
theorem dX0_sawIt_11 : decode cX0_sawIt 11 = .ok (.iload_n 1, 1) := dk_27 (dk_at dksX0_sawIt_0 11 rfl rfl)
theorem dX0_sawIt_12 : decode cX0_sawIt 12 = .ok (.aload_n 2, 1) := dk_44 (dk_at dksX0_sawIt_0 12 rfl rfl)
theorem dX0_sawIt_13 : decode cX0_sawIt 13 = .ok (.getfield 257, 3) := dk_180 1 1 (dk_at dksX0_sawIt_0 13 rfl rfl)
theorem dX0_sawIt_16 : decode cX0_sawIt 16 = .ok (.aload_n 2, 1) := dk_44 (dk_at dksX0_sawIt_0 16 rfl rfl)
theorem dX0_sawIt_17 : decode cX0_sawIt 17 = .ok (.getfield 178, 3) := dk_180 0 178 (dk_at dksX0_sawIt_0 17 rfl rfl)
theorem dX0_sawIt_20 : decode cX0_sawIt 20 = .ok (.invokevirtual 240, 3) := dk_182 0 240 (dk_at dksX0_sawIt_0 20 rfl rfl)
theorem dX0_sawIt_23 : decode cX0_sawIt 23 = .ok (.ifCond .ne 19, 3) := dk_154 0 19 (dk_at dksX0_sawIt_1 0 rfl rfl)
theorem dX0_sawIt_26 : decode cX0_sawIt 26 = .ok (.aload_n 0, 1) := dk_42 (dk_at dksX0_sawIt_1 3 rfl rfl)
theorem dX0_sawIt_27 : decode cX0_sawIt 27 = .ok (.iload_n 1, 1) := dk_27 (dk_at dksX0_sawIt_1 4 rfl rfl)
theorem dX0_sawIt_28 : decode cX0_sawIt 28 = .ok (.aload_n 2, 1) := dk_44 (dk_at dksX0_sawIt_1 5 rfl rfl)
theorem dX0_sawIt_29 : decode cX0_sawIt 29 = .ok (.getfield 260, 3) := dk_180 1 4 (dk_at dksX0_sawIt_1 6 rfl rfl)
theorem dX0_sawIt_32 : decode cX0_sawIt 32 = .ok (.aload_n 2, 1) := dk_44 (dk_at dksX0_sawIt_1 9 rfl rfl)
theorem dX0_sawIt_33 : decode cX0_sawIt 33 = .ok (.getfield 178, 3) := dk_180 0 178 (dk_at dksX0_sawIt_1 10 rfl rfl)
theorem dX0_sawIt_36 : decode cX0_sawIt 36 = .ok (.invokevirtual 240, 3) := dk_182 0 240 (dk_at dksX0_sawIt_1 13 rfl rfl)
theorem dX0_sawIt_39 : decode cX0_sawIt 39 = .ok (.ifCond .eq 7, 3) := dk_153 0 7 (dk_at dksX0_sawIt_1 16 rfl rfl)
theorem dX0_sawIt_42 : decode cX0_sawIt 42 = .ok (.iconst 1, 1) := dk_4 (dk_at dksX0_sawIt_1 19 rfl rfl)
theorem dX0_sawIt_43 : decode cX0_sawIt 43 = .ok (.goto 4, 3) := dk_167 0 4 (dk_at dksX0_sawIt_1 20 rfl rfl)
theorem dX0_sawIt_46 : decode cX0_sawIt 46 = .ok (.iconst 0, 1) := dk_3 (dk_at dksX0_sawIt_1 23 rfl rfl)
theorem dX0_sawIt_47 : decode cX0_sawIt 47 = .ok (.ireturn, 1) := dk_172 (dk_at dksX0_sawIt_2 0 rfl rfl)
abbrev cX0_way : ByteArray := prog_1_method_44_code
def yX0_way : MethodName := ⟨RX0, "way", "(II)I"⟩
def dkwX0_way_2 : List UInt8 := [182, 0, 172, 192, 1, 26, 180, 1, 25, 167, 0, 4, 2, 172]
abbrev dktX0_way_2 : List UInt8 := dkwX0_way_2 ++ []
def dkwX0_way_1 : List UInt8 := [192, 1, 26, 180, 1, 36, 182, 0, 137, 167, 0, 26, 28, 4, 160, 0, 20, 42, 180, 0, 49, 27]
abbrev dktX0_way_1 : List UInt8 := dkwX0_way_1 ++ dktX0_way_2
def dkwX0_way_0 : List UInt8 := [42, 27, 182, 1, 58, 154, 0, 7, 2, 167, 0, 50, 28, 154, 0, 23, 42, 180, 0, 49, 27, 182, 0, 172]
abbrev dktX0_way_0 : List UInt8 := dkwX0_way_0 ++ dktX0_way_1
theorem dksX0_way_0 : cX0_way.data.toList.drop 0 = dktX0_way_0 := by decide +kernel
theorem dksX0_way_1 : cX0_way.data.toList.drop 24 = dktX0_way_1 := dk_seg dksX0_way_0 24 rfl rfl
theorem dksX0_way_2 : cX0_way.data.toList.drop 46 = dktX0_way_2 := dk_seg dksX0_way_1 22 rfl rfl
theorem dX0_way_0 : decode cX0_way 0 = .ok (.aload_n 0, 1) := dk_42 (dk_at dksX0_way_0 0 rfl rfl)
theorem dX0_way_1 : decode cX0_way 1 = .ok (.iload_n 1, 1) := dk_27 (dk_at dksX0_way_0 1 rfl rfl)
theorem dX0_way_2 : decode cX0_way 2 = .ok (.invokevirtual 314, 3) := dk_182 1 58 (dk_at dksX0_way_0 2 rfl rfl)
theorem dX0_way_5 : decode cX0_way 5 = .ok (.ifCond .ne 7, 3) := dk_154 0 7 (dk_at dksX0_way_0 5 rfl rfl)
theorem dX0_way_8 : decode cX0_way 8 = .ok (.iconst (-1), 1) := dk_2 (dk_at dksX0_way_0 8 rfl rfl)
theorem dX0_way_9 : decode cX0_way 9 = .ok (.goto 50, 3) := dk_167 0 50 (dk_at dksX0_way_0 9 rfl rfl)
theorem dX0_way_12 : decode cX0_way 12 = .ok (.iload_n 2, 1) := dk_28 (dk_at dksX0_way_0 12 rfl rfl)
theorem dX0_way_13 : decode cX0_way 13 = .ok (.ifCond .ne 23, 3) := dk_154 0 23 (dk_at dksX0_way_0 13 rfl rfl)
theorem dX0_way_16 : decode cX0_way 16 = .ok (.aload_n 0, 1) := dk_42 (dk_at dksX0_way_0 16 rfl rfl)
theorem dX0_way_17 : decode cX0_way 17 = .ok (.getfield 49, 3) := dk_180 0 49 (dk_at dksX0_way_0 17 rfl rfl)
theorem dX0_way_20 : decode cX0_way 20 = .ok (.iload_n 1, 1) := dk_27 (dk_at dksX0_way_0 20 rfl rfl)
theorem dX0_way_21 : decode cX0_way 21 = .ok (.invokevirtual 172, 3) := dk_182 0 172 (dk_at dksX0_way_0 21 rfl rfl)
theorem dX0_way_24 : decode cX0_way 24 = .ok (.checkcast 282, 3) := dk_192 1 26 (dk_at dksX0_way_1 0 rfl rfl)
theorem dX0_way_27 : decode cX0_way 27 = .ok (.getfield 292, 3) := dk_180 1 36 (dk_at dksX0_way_1 3 rfl rfl)
theorem dX0_way_30 : decode cX0_way 30 = .ok (.invokevirtual 137, 3) := dk_182 0 137 (dk_at dksX0_way_1 6 rfl rfl)
theorem dX0_way_33 : decode cX0_way 33 = .ok (.goto 26, 3) := dk_167 0 26 (dk_at dksX0_way_1 9 rfl rfl)
theorem dX0_way_36 : decode cX0_way 36 = .ok (.iload_n 2, 1) := dk_28 (dk_at dksX0_way_1 12 rfl rfl)
theorem dX0_way_37 : decode cX0_way 37 = .ok (.iconst 1, 1) := dk_4 (dk_at dksX0_way_1 13 rfl rfl)
theorem dX0_way_38 : decode cX0_way 38 = .ok (.if_icmp .ne 20, 3) := dk_160 0 20 (dk_at dksX0_way_1 14 rfl rfl)
theorem dX0_way_41 : decode cX0_way 41 = .ok (.aload_n 0, 1) := dk_42 (dk_at dksX0_way_1 17 rfl rfl)
theorem dX0_way_42 : decode cX0_way 42 = .ok (.getfield 49, 3) := dk_180 0 49 (dk_at dksX0_way_1 18 rfl rfl)
theorem dX0_way_45 : decode cX0_way 45 = .ok (.iload_n 1, 1) := dk_27 (dk_at dksX0_way_1 21 rfl rfl)
theorem dX0_way_46 : decode cX0_way 46 = .ok (.invokevirtual 172, 3) := dk_182 0 172 (dk_at dksX0_way_2 0 rfl rfl)
theorem dX0_way_49 : decode cX0_way 49 = .ok (.checkcast 282, 3) := dk_192 1 26 (dk_at dksX0_way_2 3 rfl rfl)
theorem dX0_way_52 : decode cX0_way 52 = .ok (.getfield 281, 3) := dk_180 1 25 (dk_at dksX0_way_2 6 rfl rfl)
theorem dX0_way_55 : decode cX0_way 55 = .ok (.goto 4, 3) := dk_167 0 4 (dk_at dksX0_way_2 9 rfl rfl)
theorem dX0_way_58 : decode cX0_way 58 = .ok (.iconst (-1), 1) := dk_2 (dk_at dksX0_way_2 12 rfl rfl)
theorem dX0_way_59 : decode cX0_way 59 = .ok (.ireturn, 1) := dk_172 (dk_at dksX0_way_2 13 rfl rfl)
abbrev cX0_isWay : ByteArray := prog_1_method_43_code
def yX0_isWay : MethodName := ⟨RX0, "isWay", "(I)Z"⟩
def dkwX0_isWay_0 : List UInt8 := [27, 133, 9, 42, 180, 0, 49, 182, 0, 137, 4, 100, 133, 184, 0, 5, 172]
abbrev dktX0_isWay_0 : List UInt8 := dkwX0_isWay_0 ++ []
theorem dksX0_isWay_0 : cX0_isWay.data.toList.drop 0 = dktX0_isWay_0 := by decide +kernel
theorem dX0_isWay_0 : decode cX0_isWay 0 = .ok (.iload_n 1, 1) := dk_27 (dk_at dksX0_isWay_0 0 rfl rfl)
theorem dX0_isWay_1 : decode cX0_isWay 1 = .ok (.i2l, 1) := dk_133 (dk_at dksX0_isWay_0 1 rfl rfl)
theorem dX0_isWay_2 : decode cX0_isWay 2 = .ok (.lconst 0, 1) := dk_9 (dk_at dksX0_isWay_0 2 rfl rfl)
theorem dX0_isWay_3 : decode cX0_isWay 3 = .ok (.aload_n 0, 1) := dk_42 (dk_at dksX0_isWay_0 3 rfl rfl)
theorem dX0_isWay_4 : decode cX0_isWay 4 = .ok (.getfield 49, 3) := dk_180 0 49 (dk_at dksX0_isWay_0 4 rfl rfl)
theorem dX0_isWay_7 : decode cX0_isWay 7 = .ok (.invokevirtual 137, 3) := dk_182 0 137 (dk_at dksX0_isWay_0 7 rfl rfl)
theorem dX0_isWay_10 : decode cX0_isWay 10 = .ok (.iconst 1, 1) := dk_4 (dk_at dksX0_isWay_0 10 rfl rfl)
theorem dX0_isWay_11 : decode cX0_isWay 11 = .ok (.isub, 1) := dk_100 (dk_at dksX0_isWay_0 11 rfl rfl)
theorem dX0_isWay_12 : decode cX0_isWay 12 = .ok (.i2l, 1) := dk_133 (dk_at dksX0_isWay_0 12 rfl rfl)
theorem dX0_isWay_13 : decode cX0_isWay 13 = .ok (.invokestatic 5, 3) := dk_184 0 5 (dk_at dksX0_isWay_0 13 rfl rfl)
theorem dX0_isWay_16 : decode cX0_isWay 16 = .ok (.ireturn, 1) := dk_172 (dk_at dksX0_isWay_0 16 rfl rfl)
abbrev cX0_fits : ByteArray := prog_1_method_45_code
def yX0_fits : MethodName := ⟨RX0, "fits", "(IIIIIII)I"⟩
def dkwX0_fits_2 : List UInt8 := [182, 0, 172, 192, 1, 26, 28, 29, 21, 4, 21, 5, 21, 6, 21, 7, 182, 1, 68, 172]
abbrev dktX0_fits_2 : List UInt8 := dkwX0_fits_2 ++ []
def dkwX0_fits_1 : List UInt8 := [42, 21, 4, 21, 5, 21, 6, 21, 7, 182, 1, 64, 154, 0, 5, 2, 172, 42, 42, 180, 0, 49, 27]
abbrev dktX0_fits_1 : List UInt8 := dkwX0_fits_1 ++ dktX0_fits_2
def dkwX0_fits_0 : List UInt8 := [42, 27, 182, 1, 58, 153, 0, 34, 42, 28, 182, 0, 108, 153, 0, 26, 42, 29, 182, 1, 61, 153, 0, 18]
abbrev dktX0_fits_0 : List UInt8 := dkwX0_fits_0 ++ dktX0_fits_1
theorem dksX0_fits_0 : cX0_fits.data.toList.drop 0 = dktX0_fits_0 := by decide +kernel
theorem dksX0_fits_1 : cX0_fits.data.toList.drop 24 = dktX0_fits_1 := dk_seg dksX0_fits_0 24 rfl rfl
theorem dksX0_fits_2 : cX0_fits.data.toList.drop 47 = dktX0_fits_2 := dk_seg dksX0_fits_1 23 rfl rfl
theorem dX0_fits_0 : decode cX0_fits 0 = .ok (.aload_n 0, 1) := dk_42 (dk_at dksX0_fits_0 0 rfl rfl)
theorem dX0_fits_1 : decode cX0_fits 1 = .ok (.iload_n 1, 1) := dk_27 (dk_at dksX0_fits_0 1 rfl rfl)
theorem dX0_fits_2 : decode cX0_fits 2 = .ok (.invokevirtual 314, 3) := dk_182 1 58 (dk_at dksX0_fits_0 2 rfl rfl)
theorem dX0_fits_5 : decode cX0_fits 5 = .ok (.ifCond .eq 34, 3) := dk_153 0 34 (dk_at dksX0_fits_0 5 rfl rfl)
theorem dX0_fits_8 : decode cX0_fits 8 = .ok (.aload_n 0, 1) := dk_42 (dk_at dksX0_fits_0 8 rfl rfl)
theorem dX0_fits_9 : decode cX0_fits 9 = .ok (.iload_n 2, 1) := dk_28 (dk_at dksX0_fits_0 9 rfl rfl)
theorem dX0_fits_10 : decode cX0_fits 10 = .ok (.invokevirtual 108, 3) := dk_182 0 108 (dk_at dksX0_fits_0 10 rfl rfl)
theorem dX0_fits_13 : decode cX0_fits 13 = .ok (.ifCond .eq 26, 3) := dk_153 0 26 (dk_at dksX0_fits_0 13 rfl rfl)
theorem dX0_fits_16 : decode cX0_fits 16 = .ok (.aload_n 0, 1) := dk_42 (dk_at dksX0_fits_0 16 rfl rfl)
theorem dX0_fits_17 : decode cX0_fits 17 = .ok (.iload_n 3, 1) := dk_29 (dk_at dksX0_fits_0 17 rfl rfl)
theorem dX0_fits_18 : decode cX0_fits 18 = .ok (.invokevirtual 317, 3) := dk_182 1 61 (dk_at dksX0_fits_0 18 rfl rfl)
theorem dX0_fits_21 : decode cX0_fits 21 = .ok (.ifCond .eq 18, 3) := dk_153 0 18 (dk_at dksX0_fits_0 21 rfl rfl)
theorem dX0_fits_24 : decode cX0_fits 24 = .ok (.aload_n 0, 1) := dk_42 (dk_at dksX0_fits_1 0 rfl rfl)
theorem dX0_fits_25 : decode cX0_fits 25 = .ok (.iload 4, 2) := dk_21 4 (dk_at dksX0_fits_1 1 rfl rfl)
theorem dX0_fits_27 : decode cX0_fits 27 = .ok (.iload 5, 2) := dk_21 5 (dk_at dksX0_fits_1 3 rfl rfl)
theorem dX0_fits_29 : decode cX0_fits 29 = .ok (.iload 6, 2) := dk_21 6 (dk_at dksX0_fits_1 5 rfl rfl)
theorem dX0_fits_31 : decode cX0_fits 31 = .ok (.iload 7, 2) := dk_21 7 (dk_at dksX0_fits_1 7 rfl rfl)
theorem dX0_fits_33 : decode cX0_fits 33 = .ok (.invokevirtual 320, 3) := dk_182 1 64 (dk_at dksX0_fits_1 9 rfl rfl)
theorem dX0_fits_36 : decode cX0_fits 36 = .ok (.ifCond .ne 5, 3) := dk_154 0 5 (dk_at dksX0_fits_1 12 rfl rfl)
theorem dX0_fits_39 : decode cX0_fits 39 = .ok (.iconst (-1), 1) := dk_2 (dk_at dksX0_fits_1 15 rfl rfl)
theorem dX0_fits_40 : decode cX0_fits 40 = .ok (.ireturn, 1) := dk_172 (dk_at dksX0_fits_1 16 rfl rfl)
theorem dX0_fits_41 : decode cX0_fits 41 = .ok (.aload_n 0, 1) := dk_42 (dk_at dksX0_fits_1 17 rfl rfl)
theorem dX0_fits_42 : decode cX0_fits 42 = .ok (.aload_n 0, 1) := dk_42 (dk_at dksX0_fits_1 18 rfl rfl)
theorem dX0_fits_43 : decode cX0_fits 43 = .ok (.getfield 49, 3) := dk_180 0 49 (dk_at dksX0_fits_1 19 rfl rfl)
theorem dX0_fits_46 : decode cX0_fits 46 = .ok (.iload_n 1, 1) := dk_27 (dk_at dksX0_fits_1 22 rfl rfl)
theorem dX0_fits_47 : decode cX0_fits 47 = .ok (.invokevirtual 172, 3) := dk_182 0 172 (dk_at dksX0_fits_2 0 rfl rfl)
theorem dX0_fits_50 : decode cX0_fits 50 = .ok (.checkcast 282, 3) := dk_192 1 26 (dk_at dksX0_fits_2 3 rfl rfl)
theorem dX0_fits_53 : decode cX0_fits 53 = .ok (.iload_n 2, 1) := dk_28 (dk_at dksX0_fits_2 6 rfl rfl)
theorem dX0_fits_54 : decode cX0_fits 54 = .ok (.iload_n 3, 1) := dk_29 (dk_at dksX0_fits_2 7 rfl rfl)
theorem dX0_fits_55 : decode cX0_fits 55 = .ok (.iload 4, 2) := dk_21 4 (dk_at dksX0_fits_2 8 rfl rfl)
theorem dX0_fits_57 : decode cX0_fits 57 = .ok (.iload 5, 2) := dk_21 5 (dk_at dksX0_fits_2 10 rfl rfl)
theorem dX0_fits_59 : decode cX0_fits 59 = .ok (.iload 6, 2) := dk_21 6 (dk_at dksX0_fits_2 12 rfl rfl)
theorem dX0_fits_61 : decode cX0_fits 61 = .ok (.iload 7, 2) := dk_21 7 (dk_at dksX0_fits_2 14 rfl rfl)
theorem dX0_fits_63 : decode cX0_fits 63 = .ok (.invokevirtual 324, 3) := dk_182 1 68 (dk_at dksX0_fits_2 16 rfl rfl)
theorem dX0_fits_66 : decode cX0_fits 66 = .ok (.ireturn, 1) := dk_172 (dk_at dksX0_fits_2 19 rfl rfl)
abbrev cX0_isSet : ByteArray := prog_1_method_14_code
def yX0_isSet : MethodName := ⟨RX0, "isSet", "(I)Z"⟩
def dkwX0_isSet_0 : List UInt8 := [27, 155, 0, 17, 27, 4, 42, 180, 0, 25, 120, 162, 0, 7, 4, 167, 0, 4, 3, 172]
abbrev dktX0_isSet_0 : List UInt8 := dkwX0_isSet_0 ++ []
theorem dksX0_isSet_0 : cX0_isSet.data.toList.drop 0 = dktX0_isSet_0 := by decide +kernel
theorem dX0_isSet_0 : decode cX0_isSet 0 = .ok (.iload_n 1, 1) := dk_27 (dk_at dksX0_isSet_0 0 rfl rfl)
theorem dX0_isSet_1 : decode cX0_isSet 1 = .ok (.ifCond .lt 17, 3) := dk_155 0 17 (dk_at dksX0_isSet_0 1 rfl rfl)
theorem dX0_isSet_4 : decode cX0_isSet 4 = .ok (.iload_n 1, 1) := dk_27 (dk_at dksX0_isSet_0 4 rfl rfl)
theorem dX0_isSet_5 : decode cX0_isSet 5 = .ok (.iconst 1, 1) := dk_4 (dk_at dksX0_isSet_0 5 rfl rfl)
theorem dX0_isSet_6 : decode cX0_isSet 6 = .ok (.aload_n 0, 1) := dk_42 (dk_at dksX0_isSet_0 6 rfl rfl)
theorem dX0_isSet_7 : decode cX0_isSet 7 = .ok (.getfield 25, 3) := dk_180 0 25 (dk_at dksX0_isSet_0 7 rfl rfl)
theorem dX0_isSet_10 : decode cX0_isSet 10 = .ok (.ishl, 1) := dk_120 (dk_at dksX0_isSet_0 10 rfl rfl)
theorem dX0_isSet_11 : decode cX0_isSet 11 = .ok (.if_icmp .ge 7, 3) := dk_162 0 7 (dk_at dksX0_isSet_0 11 rfl rfl)
theorem dX0_isSet_14 : decode cX0_isSet 14 = .ok (.iconst 1, 1) := dk_4 (dk_at dksX0_isSet_0 14 rfl rfl)
theorem dX0_isSet_15 : decode cX0_isSet 15 = .ok (.goto 4, 3) := dk_167 0 4 (dk_at dksX0_isSet_0 15 rfl rfl)
theorem dX0_isSet_18 : decode cX0_isSet 18 = .ok (.iconst 0, 1) := dk_3 (dk_at dksX0_isSet_0 18 rfl rfl)
theorem dX0_isSet_19 : decode cX0_isSet 19 = .ok (.ireturn, 1) := dk_172 (dk_at dksX0_isSet_0 19 rfl rfl)
abbrev cX0_isTask : ByteArray := prog_1_method_42_code
def yX0_isTask : MethodName := ⟨RX0, "isTask", "(IIII)Z"⟩
def dkwX0_isTask_1 : List UInt8 := [153, 0, 7, 4, 167, 0, 4, 3, 172]
abbrev dktX0_isTask_1 : List UInt8 := dkwX0_isTask_1 ++ []
def dkwX0_isTask_0 : List UInt8 := [42, 27, 182, 0, 165, 153, 0, 24, 42, 28, 182, 0, 123, 153, 0, 16, 29, 21, 4, 184, 0, 117]
abbrev dktX0_isTask_0 : List UInt8 := dkwX0_isTask_0 ++ dktX0_isTask_1
theorem dksX0_isTask_0 : cX0_isTask.data.toList.drop 0 = dktX0_isTask_0 := by decide +kernel
theorem dksX0_isTask_1 : cX0_isTask.data.toList.drop 22 = dktX0_isTask_1 := dk_seg dksX0_isTask_0 22 rfl rfl
theorem dX0_isTask_0 : decode cX0_isTask 0 = .ok (.aload_n 0, 1) := dk_42 (dk_at dksX0_isTask_0 0 rfl rfl)
theorem dX0_isTask_1 : decode cX0_isTask 1 = .ok (.iload_n 1, 1) := dk_27 (dk_at dksX0_isTask_0 1 rfl rfl)
theorem dX0_isTask_2 : decode cX0_isTask 2 = .ok (.invokevirtual 165, 3) := dk_182 0 165 (dk_at dksX0_isTask_0 2 rfl rfl)
theorem dX0_isTask_5 : decode cX0_isTask 5 = .ok (.ifCond .eq 24, 3) := dk_153 0 24 (dk_at dksX0_isTask_0 5 rfl rfl)
theorem dX0_isTask_8 : decode cX0_isTask 8 = .ok (.aload_n 0, 1) := dk_42 (dk_at dksX0_isTask_0 8 rfl rfl)
theorem dX0_isTask_9 : decode cX0_isTask 9 = .ok (.iload_n 2, 1) := dk_28 (dk_at dksX0_isTask_0 9 rfl rfl)
theorem dX0_isTask_10 : decode cX0_isTask 10 = .ok (.invokevirtual 123, 3) := dk_182 0 123 (dk_at dksX0_isTask_0 10 rfl rfl)
theorem dX0_isTask_13 : decode cX0_isTask 13 = .ok (.ifCond .eq 16, 3) := dk_153 0 16 (dk_at dksX0_isTask_0 13 rfl rfl)
theorem dX0_isTask_16 : decode cX0_isTask 16 = .ok (.iload_n 3, 1) := dk_29 (dk_at dksX0_isTask_0 16 rfl rfl)
theorem dX0_isTask_17 : decode cX0_isTask 17 = .ok (.iload 4, 2) := dk_21 4 (dk_at dksX0_isTask_0 17 rfl rfl)
theorem dX0_isTask_19 : decode cX0_isTask 19 = .ok (.invokestatic 117, 3) := dk_184 0 117 (dk_at dksX0_isTask_0 19 rfl rfl)
theorem dX0_isTask_22 : decode cX0_isTask 22 = .ok (.ifCond .eq 7, 3) := dk_153 0 7 (dk_at dksX0_isTask_1 0 rfl rfl)
theorem dX0_isTask_25 : decode cX0_isTask 25 = .ok (.iconst 1, 1) := dk_4 (dk_at dksX0_isTask_1 3 rfl rfl)
theorem dX0_isTask_26 : decode cX0_isTask 26 = .ok (.goto 4, 3) := dk_167 0 4 (dk_at dksX0_isTask_1 4 rfl rfl)
theorem dX0_isTask_29 : decode cX0_isTask 29 = .ok (.iconst 0, 1) := dk_3 (dk_at dksX0_isTask_1 7 rfl rfl)
theorem dX0_isTask_30 : decode cX0_isTask 30 = .ok (.ireturn, 1) := dk_172 (dk_at dksX0_isTask_1 8 rfl rfl)
abbrev cX0_fit : ByteArray := prog_1_method_41_code
def yX0_fit : MethodName := ⟨RX0, "fit", "(LRapTable$Way;IIIIII)I"⟩
def dkwX0_fit_3 : List UInt8 := [2, 172]
abbrev dktX0_fit_3 : List UInt8 := dkwX0_fit_3 ++ []
def dkwX0_fit_2 : List UInt8 := [163, 0, 24, 42, 43, 21, 5, 21, 8, 182, 1, 54, 153, 0, 6, 21, 8, 172, 132, 8, 1, 167, 255, 220]
abbrev dktX0_fit_2 : List UInt8 := dkwX0_fit_2 ++ dktX0_fit_3
def dkwX0_fit_1 : List UInt8 := [181, 1, 11, 21, 6, 54, 8, 21, 8, 4, 43, 180, 1, 25, 184, 0, 210, 96, 4, 100, 21, 7]
abbrev dktX0_fit_1 : List UInt8 := dkwX0_fit_1 ++ dktX0_fit_2
def dkwX0_fit_0 : List UInt8 := [42, 180, 0, 57, 28, 181, 1, 33, 42, 180, 0, 57, 29, 181, 1, 51, 42, 180, 0, 57, 21, 4]
abbrev dktX0_fit_0 : List UInt8 := dkwX0_fit_0 ++ dktX0_fit_1
theorem dksX0_fit_0 : cX0_fit.data.toList.drop 0 = dktX0_fit_0 := by decide +kernel
theorem dksX0_fit_1 : cX0_fit.data.toList.drop 22 = dktX0_fit_1 := dk_seg dksX0_fit_0 22 rfl rfl
theorem dksX0_fit_2 : cX0_fit.data.toList.drop 44 = dktX0_fit_2 := dk_seg dksX0_fit_1 22 rfl rfl
theorem dksX0_fit_3 : cX0_fit.data.toList.drop 68 = dktX0_fit_3 := dk_seg dksX0_fit_2 24 rfl rfl
theorem dX0_fit_0 : decode cX0_fit 0 = .ok (.aload_n 0, 1) := dk_42 (dk_at dksX0_fit_0 0 rfl rfl)
theorem dX0_fit_1 : decode cX0_fit 1 = .ok (.getfield 57, 3) := dk_180 0 57 (dk_at dksX0_fit_0 1 rfl rfl)
theorem dX0_fit_4 : decode cX0_fit 4 = .ok (.iload_n 2, 1) := dk_28 (dk_at dksX0_fit_0 4 rfl rfl)
theorem dX0_fit_5 : decode cX0_fit 5 = .ok (.putfield 289, 3) := dk_181 1 33 (dk_at dksX0_fit_0 5 rfl rfl)
theorem dX0_fit_8 : decode cX0_fit 8 = .ok (.aload_n 0, 1) := dk_42 (dk_at dksX0_fit_0 8 rfl rfl)
theorem dX0_fit_9 : decode cX0_fit 9 = .ok (.getfield 57, 3) := dk_180 0 57 (dk_at dksX0_fit_0 9 rfl rfl)
theorem dX0_fit_12 : decode cX0_fit 12 = .ok (.iload_n 3, 1) := dk_29 (dk_at dksX0_fit_0 12 rfl rfl)
theorem dX0_fit_13 : decode cX0_fit 13 = .ok (.putfield 307, 3) := dk_181 1 51 (dk_at dksX0_fit_0 13 rfl rfl)
theorem dX0_fit_16 : decode cX0_fit 16 = .ok (.aload_n 0, 1) := dk_42 (dk_at dksX0_fit_0 16 rfl rfl)
theorem dX0_fit_17 : decode cX0_fit 17 = .ok (.getfield 57, 3) := dk_180 0 57 (dk_at dksX0_fit_0 17 rfl rfl)
theorem dX0_fit_20 : decode cX0_fit 20 = .ok (.iload 4, 2) := dk_21 4 (dk_at dksX0_fit_0 20 rfl rfl)
theorem dX0_fit_22 : decode cX0_fit 22 = .ok (.putfield 267, 3) := dk_181 1 11 (dk_at dksX0_fit_1 0 rfl rfl)
theorem dX0_fit_25 : decode cX0_fit 25 = .ok (.iload 6, 2) := dk_21 6 (dk_at dksX0_fit_1 3 rfl rfl)
theorem dX0_fit_27 : decode cX0_fit 27 = .ok (.istore 8, 2) := dk_54 8 (dk_at dksX0_fit_1 5 rfl rfl)
theorem dX0_fit_29 : decode cX0_fit 29 = .ok (.iload 8, 2) := dk_21 8 (dk_at dksX0_fit_1 7 rfl rfl)
theorem dX0_fit_31 : decode cX0_fit 31 = .ok (.iconst 1, 1) := dk_4 (dk_at dksX0_fit_1 9 rfl rfl)
theorem dX0_fit_32 : decode cX0_fit 32 = .ok (.aload_n 1, 1) := dk_43 (dk_at dksX0_fit_1 10 rfl rfl)
theorem dX0_fit_33 : decode cX0_fit 33 = .ok (.getfield 281, 3) := dk_180 1 25 (dk_at dksX0_fit_1 11 rfl rfl)
theorem dX0_fit_36 : decode cX0_fit 36 = .ok (.invokestatic 210, 3) := dk_184 0 210 (dk_at dksX0_fit_1 14 rfl rfl)
theorem dX0_fit_39 : decode cX0_fit 39 = .ok (.iadd, 1) := dk_96 (dk_at dksX0_fit_1 17 rfl rfl)
theorem dX0_fit_40 : decode cX0_fit 40 = .ok (.iconst 1, 1) := dk_4 (dk_at dksX0_fit_1 18 rfl rfl)
theorem dX0_fit_41 : decode cX0_fit 41 = .ok (.isub, 1) := dk_100 (dk_at dksX0_fit_1 19 rfl rfl)
theorem dX0_fit_42 : decode cX0_fit 42 = .ok (.iload 7, 2) := dk_21 7 (dk_at dksX0_fit_1 20 rfl rfl)
theorem dX0_fit_44 : decode cX0_fit 44 = .ok (.if_icmp .gt 24, 3) := dk_163 0 24 (dk_at dksX0_fit_2 0 rfl rfl)
theorem dX0_fit_47 : decode cX0_fit 47 = .ok (.aload_n 0, 1) := dk_42 (dk_at dksX0_fit_2 3 rfl rfl)
theorem dX0_fit_48 : decode cX0_fit 48 = .ok (.aload_n 1, 1) := dk_43 (dk_at dksX0_fit_2 4 rfl rfl)
theorem dX0_fit_49 : decode cX0_fit 49 = .ok (.iload 5, 2) := dk_21 5 (dk_at dksX0_fit_2 5 rfl rfl)
theorem dX0_fit_51 : decode cX0_fit 51 = .ok (.iload 8, 2) := dk_21 8 (dk_at dksX0_fit_2 7 rfl rfl)
theorem dX0_fit_53 : decode cX0_fit 53 = .ok (.invokevirtual 310, 3) := dk_182 1 54 (dk_at dksX0_fit_2 9 rfl rfl)
theorem dX0_fit_56 : decode cX0_fit 56 = .ok (.ifCond .eq 6, 3) := dk_153 0 6 (dk_at dksX0_fit_2 12 rfl rfl)
theorem dX0_fit_59 : decode cX0_fit 59 = .ok (.iload 8, 2) := dk_21 8 (dk_at dksX0_fit_2 15 rfl rfl)
theorem dX0_fit_61 : decode cX0_fit 61 = .ok (.ireturn, 1) := dk_172 (dk_at dksX0_fit_2 17 rfl rfl)
theorem dX0_fit_62 : decode cX0_fit 62 = .ok (.iinc 8 1, 3) := dk_132 8 1 (dk_at dksX0_fit_2 18 rfl rfl)
theorem dX0_fit_65 : decode cX0_fit 65 = .ok (.goto (-36), 3) := dk_167 255 220 (dk_at dksX0_fit_2 21 rfl rfl)
theorem dX0_fit_68 : decode cX0_fit 68 = .ok (.iconst (-1), 1) := dk_2 (dk_at dksX0_fit_3 0 rfl rfl)
theorem dX0_fit_69 : decode cX0_fit 69 = .ok (.ireturn, 1) := dk_172 (dk_at dksX0_fit_3 1 rfl rfl)
abbrev cX0_runs : ByteArray := prog_1_method_40_code
def yX0_runs : MethodName := ⟨RX0, "runs", "(LRapTable$Way;II)Z"⟩
def dkwX0_runs_9 : List UInt8 := [167, 255, 185, 4, 172]
abbrev dktX0_runs_9 : List UInt8 := dkwX0_runs_9 ++ []
def dkwX0_runs_8 : List UInt8 := [21, 4, 182, 1, 45, 154, 0, 5, 3, 172, 21, 4, 25, 6, 182, 1, 49, 96, 54, 4, 132, 5, 1]
abbrev dktX0_runs_8 : List UInt8 := dkwX0_runs_8 ++ dktX0_runs_9
def dkwX0_runs_7 : List UInt8 := [58, 6, 25, 6, 182, 1, 41, 153, 0, 10, 21, 4, 16, 100, 162, 0, 18, 25, 6, 42, 42, 180, 0, 57]
abbrev dktX0_runs_7 : List UInt8 := dkwX0_runs_7 ++ dktX0_runs_8
def dkwX0_runs_6 : List UInt8 := [21, 5, 43, 180, 1, 36, 182, 0, 137, 162, 0, 65, 43, 180, 1, 36, 21, 5, 182, 0, 172, 192, 1, 39]
abbrev dktX0_runs_6 : List UInt8 := dkwX0_runs_6 ++ dktX0_runs_7
def dkwX0_runs_5 : List UInt8 := [42, 42, 180, 0, 57, 180, 1, 33, 28, 182, 0, 181, 154, 0, 5, 3, 172, 29, 54, 4, 3, 54, 5]
abbrev dktX0_runs_5 : List UInt8 := dkwX0_runs_5 ++ dktX0_runs_6
def dkwX0_runs_4 : List UInt8 := [159, 0, 39, 42, 42, 180, 0, 57, 180, 1, 33, 42, 180, 0, 57, 180, 1, 14, 182, 0, 181, 153, 0, 18]
abbrev dktX0_runs_4 : List UInt8 := dkwX0_runs_4 ++ dktX0_runs_5
def dkwX0_runs_3 : List UInt8 := [181, 1, 30, 42, 180, 0, 57, 180, 1, 30, 16, 100, 162, 0, 50, 42, 180, 0, 57, 180, 1, 14, 28]
abbrev dktX0_runs_3 : List UInt8 := dkwX0_runs_3 ++ dktX0_runs_4
def dkwX0_runs_2 : List UInt8 := [42, 180, 0, 57, 3, 181, 1, 22, 42, 180, 0, 57, 29, 4, 43, 180, 1, 25, 184, 0, 210, 96, 4, 100]
abbrev dktX0_runs_2 : List UInt8 := dkwX0_runs_2 ++ dktX0_runs_3
def dkwX0_runs_1 : List UInt8 := [42, 180, 0, 57, 28, 181, 1, 15, 42, 180, 0, 57, 29, 181, 1, 16, 42, 180, 0, 57, 3, 181, 1, 19]
abbrev dktX0_runs_1 : List UInt8 := dkwX0_runs_1 ++ dktX0_runs_2
def dkwX0_runs_0 : List UInt8 := [42, 180, 0, 57, 42, 180, 0, 32, 42, 180, 0, 57, 180, 1, 11, 29, 4, 100, 182, 0, 168, 181, 1, 14]
abbrev dktX0_runs_0 : List UInt8 := dkwX0_runs_0 ++ dktX0_runs_1
theorem dksX0_runs_0 : cX0_runs.data.toList.drop 0 = dktX0_runs_0 := by decide +kernel
theorem dksX0_runs_1 : cX0_runs.data.toList.drop 24 = dktX0_runs_1 := dk_seg dksX0_runs_0 24 rfl rfl
theorem dksX0_runs_2 : cX0_runs.data.toList.drop 48 = dktX0_runs_2 := dk_seg dksX0_runs_1 24 rfl rfl
theorem dksX0_runs_3 : cX0_runs.data.toList.drop 72 = dktX0_runs_3 := dk_seg dksX0_runs_2 24 rfl rfl
theorem dksX0_runs_4 : cX0_runs.data.toList.drop 95 = dktX0_runs_4 := dk_seg dksX0_runs_3 23 rfl rfl
theorem dksX0_runs_5 : cX0_runs.data.toList.drop 119 = dktX0_runs_5 := dk_seg dksX0_runs_4 24 rfl rfl
theorem dksX0_runs_6 : cX0_runs.data.toList.drop 142 = dktX0_runs_6 := dk_seg dksX0_runs_5 23 rfl rfl
theorem dksX0_runs_7 : cX0_runs.data.toList.drop 166 = dktX0_runs_7 := dk_seg dksX0_runs_6 24 rfl rfl
theorem dksX0_runs_8 : cX0_runs.data.toList.drop 190 = dktX0_runs_8 := dk_seg dksX0_runs_7 24 rfl rfl
theorem dksX0_runs_9 : cX0_runs.data.toList.drop 213 = dktX0_runs_9 := dk_seg dksX0_runs_8 23 rfl rfl
theorem dX0_runs_0 : decode cX0_runs 0 = .ok (.aload_n 0, 1) := dk_42 (dk_at dksX0_runs_0 0 rfl rfl)
theorem dX0_runs_1 : decode cX0_runs 1 = .ok (.getfield 57, 3) := dk_180 0 57 (dk_at dksX0_runs_0 1 rfl rfl)
theorem dX0_runs_4 : decode cX0_runs 4 = .ok (.aload_n 0, 1) := dk_42 (dk_at dksX0_runs_0 4 rfl rfl)
theorem dX0_runs_5 : decode cX0_runs 5 = .ok (.getfield 32, 3) := dk_180 0 32 (dk_at dksX0_runs_0 5 rfl rfl)
theorem dX0_runs_8 : decode cX0_runs 8 = .ok (.aload_n 0, 1) := dk_42 (dk_at dksX0_runs_0 8 rfl rfl)
theorem dX0_runs_9 : decode cX0_runs 9 = .ok (.getfield 57, 3) := dk_180 0 57 (dk_at dksX0_runs_0 9 rfl rfl)
theorem dX0_runs_12 : decode cX0_runs 12 = .ok (.getfield 267, 3) := dk_180 1 11 (dk_at dksX0_runs_0 12 rfl rfl)
theorem dX0_runs_15 : decode cX0_runs 15 = .ok (.iload_n 3, 1) := dk_29 (dk_at dksX0_runs_0 15 rfl rfl)
theorem dX0_runs_16 : decode cX0_runs 16 = .ok (.iconst 1, 1) := dk_4 (dk_at dksX0_runs_0 16 rfl rfl)
theorem dX0_runs_17 : decode cX0_runs 17 = .ok (.isub, 1) := dk_100 (dk_at dksX0_runs_0 17 rfl rfl)
theorem dX0_runs_18 : decode cX0_runs 18 = .ok (.invokevirtual 168, 3) := dk_182 0 168 (dk_at dksX0_runs_0 18 rfl rfl)
theorem dX0_runs_21 : decode cX0_runs 21 = .ok (.putfield 270, 3) := dk_181 1 14 (dk_at dksX0_runs_0 21 rfl rfl)
theorem dX0_runs_24 : decode cX0_runs 24 = .ok (.aload_n 0, 1) := dk_42 (dk_at dksX0_runs_1 0 rfl rfl)
theorem dX0_runs_25 : decode cX0_runs 25 = .ok (.getfield 57, 3) := dk_180 0 57 (dk_at dksX0_runs_1 1 rfl rfl)
theorem dX0_runs_28 : decode cX0_runs 28 = .ok (.iload_n 2, 1) := dk_28 (dk_at dksX0_runs_1 4 rfl rfl)
theorem dX0_runs_29 : decode cX0_runs 29 = .ok (.putfield 271, 3) := dk_181 1 15 (dk_at dksX0_runs_1 5 rfl rfl)
theorem dX0_runs_32 : decode cX0_runs 32 = .ok (.aload_n 0, 1) := dk_42 (dk_at dksX0_runs_1 8 rfl rfl)
theorem dX0_runs_33 : decode cX0_runs 33 = .ok (.getfield 57, 3) := dk_180 0 57 (dk_at dksX0_runs_1 9 rfl rfl)
theorem dX0_runs_36 : decode cX0_runs 36 = .ok (.iload_n 3, 1) := dk_29 (dk_at dksX0_runs_1 12 rfl rfl)
theorem dX0_runs_37 : decode cX0_runs 37 = .ok (.putfield 272, 3) := dk_181 1 16 (dk_at dksX0_runs_1 13 rfl rfl)
theorem dX0_runs_40 : decode cX0_runs 40 = .ok (.aload_n 0, 1) := dk_42 (dk_at dksX0_runs_1 16 rfl rfl)
theorem dX0_runs_41 : decode cX0_runs 41 = .ok (.getfield 57, 3) := dk_180 0 57 (dk_at dksX0_runs_1 17 rfl rfl)
theorem dX0_runs_44 : decode cX0_runs 44 = .ok (.iconst 0, 1) := dk_3 (dk_at dksX0_runs_1 20 rfl rfl)
theorem dX0_runs_45 : decode cX0_runs 45 = .ok (.putfield 275, 3) := dk_181 1 19 (dk_at dksX0_runs_1 21 rfl rfl)
theorem dX0_runs_48 : decode cX0_runs 48 = .ok (.aload_n 0, 1) := dk_42 (dk_at dksX0_runs_2 0 rfl rfl)
theorem dX0_runs_49 : decode cX0_runs 49 = .ok (.getfield 57, 3) := dk_180 0 57 (dk_at dksX0_runs_2 1 rfl rfl)
theorem dX0_runs_52 : decode cX0_runs 52 = .ok (.iconst 0, 1) := dk_3 (dk_at dksX0_runs_2 4 rfl rfl)
theorem dX0_runs_53 : decode cX0_runs 53 = .ok (.putfield 278, 3) := dk_181 1 22 (dk_at dksX0_runs_2 5 rfl rfl)
theorem dX0_runs_56 : decode cX0_runs 56 = .ok (.aload_n 0, 1) := dk_42 (dk_at dksX0_runs_2 8 rfl rfl)
theorem dX0_runs_57 : decode cX0_runs 57 = .ok (.getfield 57, 3) := dk_180 0 57 (dk_at dksX0_runs_2 9 rfl rfl)
theorem dX0_runs_60 : decode cX0_runs 60 = .ok (.iload_n 3, 1) := dk_29 (dk_at dksX0_runs_2 12 rfl rfl)
theorem dX0_runs_61 : decode cX0_runs 61 = .ok (.iconst 1, 1) := dk_4 (dk_at dksX0_runs_2 13 rfl rfl)
theorem dX0_runs_62 : decode cX0_runs 62 = .ok (.aload_n 1, 1) := dk_43 (dk_at dksX0_runs_2 14 rfl rfl)
theorem dX0_runs_63 : decode cX0_runs 63 = .ok (.getfield 281, 3) := dk_180 1 25 (dk_at dksX0_runs_2 15 rfl rfl)
theorem dX0_runs_66 : decode cX0_runs 66 = .ok (.invokestatic 210, 3) := dk_184 0 210 (dk_at dksX0_runs_2 18 rfl rfl)
theorem dX0_runs_69 : decode cX0_runs 69 = .ok (.iadd, 1) := dk_96 (dk_at dksX0_runs_2 21 rfl rfl)
theorem dX0_runs_70 : decode cX0_runs 70 = .ok (.iconst 1, 1) := dk_4 (dk_at dksX0_runs_2 22 rfl rfl)
theorem dX0_runs_71 : decode cX0_runs 71 = .ok (.isub, 1) := dk_100 (dk_at dksX0_runs_2 23 rfl rfl)
theorem dX0_runs_72 : decode cX0_runs 72 = .ok (.putfield 286, 3) := dk_181 1 30 (dk_at dksX0_runs_3 0 rfl rfl)
theorem dX0_runs_75 : decode cX0_runs 75 = .ok (.aload_n 0, 1) := dk_42 (dk_at dksX0_runs_3 3 rfl rfl)
theorem dX0_runs_76 : decode cX0_runs 76 = .ok (.getfield 57, 3) := dk_180 0 57 (dk_at dksX0_runs_3 4 rfl rfl)
theorem dX0_runs_79 : decode cX0_runs 79 = .ok (.getfield 286, 3) := dk_180 1 30 (dk_at dksX0_runs_3 7 rfl rfl)
theorem dX0_runs_82 : decode cX0_runs 82 = .ok (.bipush 100, 2) := dk_16 100 (dk_at dksX0_runs_3 10 rfl rfl)
theorem dX0_runs_84 : decode cX0_runs 84 = .ok (.if_icmp .ge 50, 3) := dk_162 0 50 (dk_at dksX0_runs_3 12 rfl rfl)
theorem dX0_runs_87 : decode cX0_runs 87 = .ok (.aload_n 0, 1) := dk_42 (dk_at dksX0_runs_3 15 rfl rfl)
theorem dX0_runs_88 : decode cX0_runs 88 = .ok (.getfield 57, 3) := dk_180 0 57 (dk_at dksX0_runs_3 16 rfl rfl)
theorem dX0_runs_91 : decode cX0_runs 91 = .ok (.getfield 270, 3) := dk_180 1 14 (dk_at dksX0_runs_3 19 rfl rfl)
theorem dX0_runs_94 : decode cX0_runs 94 = .ok (.iload_n 2, 1) := dk_28 (dk_at dksX0_runs_3 22 rfl rfl)
theorem dX0_runs_95 : decode cX0_runs 95 = .ok (.if_icmp .eq 39, 3) := dk_159 0 39 (dk_at dksX0_runs_4 0 rfl rfl)
theorem dX0_runs_98 : decode cX0_runs 98 = .ok (.aload_n 0, 1) := dk_42 (dk_at dksX0_runs_4 3 rfl rfl)
theorem dX0_runs_99 : decode cX0_runs 99 = .ok (.aload_n 0, 1) := dk_42 (dk_at dksX0_runs_4 4 rfl rfl)
theorem dX0_runs_100 : decode cX0_runs 100 = .ok (.getfield 57, 3) := dk_180 0 57 (dk_at dksX0_runs_4 5 rfl rfl)
theorem dX0_runs_103 : decode cX0_runs 103 = .ok (.getfield 289, 3) := dk_180 1 33 (dk_at dksX0_runs_4 8 rfl rfl)
theorem dX0_runs_106 : decode cX0_runs 106 = .ok (.aload_n 0, 1) := dk_42 (dk_at dksX0_runs_4 11 rfl rfl)
theorem dX0_runs_107 : decode cX0_runs 107 = .ok (.getfield 57, 3) := dk_180 0 57 (dk_at dksX0_runs_4 12 rfl rfl)
theorem dX0_runs_110 : decode cX0_runs 110 = .ok (.getfield 270, 3) := dk_180 1 14 (dk_at dksX0_runs_4 15 rfl rfl)
theorem dX0_runs_113 : decode cX0_runs 113 = .ok (.invokevirtual 181, 3) := dk_182 0 181 (dk_at dksX0_runs_4 18 rfl rfl)
theorem dX0_runs_116 : decode cX0_runs 116 = .ok (.ifCond .eq 18, 3) := dk_153 0 18 (dk_at dksX0_runs_4 21 rfl rfl)
theorem dX0_runs_119 : decode cX0_runs 119 = .ok (.aload_n 0, 1) := dk_42 (dk_at dksX0_runs_5 0 rfl rfl)
theorem dX0_runs_120 : decode cX0_runs 120 = .ok (.aload_n 0, 1) := dk_42 (dk_at dksX0_runs_5 1 rfl rfl)
theorem dX0_runs_121 : decode cX0_runs 121 = .ok (.getfield 57, 3) := dk_180 0 57 (dk_at dksX0_runs_5 2 rfl rfl)
theorem dX0_runs_124 : decode cX0_runs 124 = .ok (.getfield 289, 3) := dk_180 1 33 (dk_at dksX0_runs_5 5 rfl rfl)
theorem dX0_runs_127 : decode cX0_runs 127 = .ok (.iload_n 2, 1) := dk_28 (dk_at dksX0_runs_5 8 rfl rfl)
theorem dX0_runs_128 : decode cX0_runs 128 = .ok (.invokevirtual 181, 3) := dk_182 0 181 (dk_at dksX0_runs_5 9 rfl rfl)
theorem dX0_runs_131 : decode cX0_runs 131 = .ok (.ifCond .ne 5, 3) := dk_154 0 5 (dk_at dksX0_runs_5 12 rfl rfl)
theorem dX0_runs_134 : decode cX0_runs 134 = .ok (.iconst 0, 1) := dk_3 (dk_at dksX0_runs_5 15 rfl rfl)
theorem dX0_runs_135 : decode cX0_runs 135 = .ok (.ireturn, 1) := dk_172 (dk_at dksX0_runs_5 16 rfl rfl)
theorem dX0_runs_136 : decode cX0_runs 136 = .ok (.iload_n 3, 1) := dk_29 (dk_at dksX0_runs_5 17 rfl rfl)
theorem dX0_runs_137 : decode cX0_runs 137 = .ok (.istore 4, 2) := dk_54 4 (dk_at dksX0_runs_5 18 rfl rfl)
theorem dX0_runs_139 : decode cX0_runs 139 = .ok (.iconst 0, 1) := dk_3 (dk_at dksX0_runs_5 20 rfl rfl)
theorem dX0_runs_140 : decode cX0_runs 140 = .ok (.istore 5, 2) := dk_54 5 (dk_at dksX0_runs_5 21 rfl rfl)
theorem dX0_runs_142 : decode cX0_runs 142 = .ok (.iload 5, 2) := dk_21 5 (dk_at dksX0_runs_6 0 rfl rfl)
theorem dX0_runs_144 : decode cX0_runs 144 = .ok (.aload_n 1, 1) := dk_43 (dk_at dksX0_runs_6 2 rfl rfl)
theorem dX0_runs_145 : decode cX0_runs 145 = .ok (.getfield 292, 3) := dk_180 1 36 (dk_at dksX0_runs_6 3 rfl rfl)
theorem dX0_runs_148 : decode cX0_runs 148 = .ok (.invokevirtual 137, 3) := dk_182 0 137 (dk_at dksX0_runs_6 6 rfl rfl)
theorem dX0_runs_151 : decode cX0_runs 151 = .ok (.if_icmp .ge 65, 3) := dk_162 0 65 (dk_at dksX0_runs_6 9 rfl rfl)
theorem dX0_runs_154 : decode cX0_runs 154 = .ok (.aload_n 1, 1) := dk_43 (dk_at dksX0_runs_6 12 rfl rfl)
theorem dX0_runs_155 : decode cX0_runs 155 = .ok (.getfield 292, 3) := dk_180 1 36 (dk_at dksX0_runs_6 13 rfl rfl)
theorem dX0_runs_158 : decode cX0_runs 158 = .ok (.iload 5, 2) := dk_21 5 (dk_at dksX0_runs_6 16 rfl rfl)
theorem dX0_runs_160 : decode cX0_runs 160 = .ok (.invokevirtual 172, 3) := dk_182 0 172 (dk_at dksX0_runs_6 18 rfl rfl)
theorem dX0_runs_163 : decode cX0_runs 163 = .ok (.checkcast 295, 3) := dk_192 1 39 (dk_at dksX0_runs_6 21 rfl rfl)
theorem dX0_runs_166 : decode cX0_runs 166 = .ok (.astore 6, 2) := dk_58 6 (dk_at dksX0_runs_7 0 rfl rfl)
theorem dX0_runs_168 : decode cX0_runs 168 = .ok (.aload 6, 2) := dk_25 6 (dk_at dksX0_runs_7 2 rfl rfl)
theorem dX0_runs_170 : decode cX0_runs 170 = .ok (.invokevirtual 297, 3) := dk_182 1 41 (dk_at dksX0_runs_7 4 rfl rfl)
theorem dX0_runs_173 : decode cX0_runs 173 = .ok (.ifCond .eq 10, 3) := dk_153 0 10 (dk_at dksX0_runs_7 7 rfl rfl)
theorem dX0_runs_176 : decode cX0_runs 176 = .ok (.iload 4, 2) := dk_21 4 (dk_at dksX0_runs_7 10 rfl rfl)
theorem dX0_runs_178 : decode cX0_runs 178 = .ok (.bipush 100, 2) := dk_16 100 (dk_at dksX0_runs_7 12 rfl rfl)
theorem dX0_runs_180 : decode cX0_runs 180 = .ok (.if_icmp .ge 18, 3) := dk_162 0 18 (dk_at dksX0_runs_7 14 rfl rfl)
theorem dX0_runs_183 : decode cX0_runs 183 = .ok (.aload 6, 2) := dk_25 6 (dk_at dksX0_runs_7 17 rfl rfl)
theorem dX0_runs_185 : decode cX0_runs 185 = .ok (.aload_n 0, 1) := dk_42 (dk_at dksX0_runs_7 19 rfl rfl)
theorem dX0_runs_186 : decode cX0_runs 186 = .ok (.aload_n 0, 1) := dk_42 (dk_at dksX0_runs_7 20 rfl rfl)
theorem dX0_runs_187 : decode cX0_runs 187 = .ok (.getfield 57, 3) := dk_180 0 57 (dk_at dksX0_runs_7 21 rfl rfl)
theorem dX0_runs_190 : decode cX0_runs 190 = .ok (.iload 4, 2) := dk_21 4 (dk_at dksX0_runs_8 0 rfl rfl)
theorem dX0_runs_192 : decode cX0_runs 192 = .ok (.invokevirtual 301, 3) := dk_182 1 45 (dk_at dksX0_runs_8 2 rfl rfl)
theorem dX0_runs_195 : decode cX0_runs 195 = .ok (.ifCond .ne 5, 3) := dk_154 0 5 (dk_at dksX0_runs_8 5 rfl rfl)
theorem dX0_runs_198 : decode cX0_runs 198 = .ok (.iconst 0, 1) := dk_3 (dk_at dksX0_runs_8 8 rfl rfl)
theorem dX0_runs_199 : decode cX0_runs 199 = .ok (.ireturn, 1) := dk_172 (dk_at dksX0_runs_8 9 rfl rfl)
theorem dX0_runs_200 : decode cX0_runs 200 = .ok (.iload 4, 2) := dk_21 4 (dk_at dksX0_runs_8 10 rfl rfl)
theorem dX0_runs_202 : decode cX0_runs 202 = .ok (.aload 6, 2) := dk_25 6 (dk_at dksX0_runs_8 12 rfl rfl)
theorem dX0_runs_204 : decode cX0_runs 204 = .ok (.invokevirtual 305, 3) := dk_182 1 49 (dk_at dksX0_runs_8 14 rfl rfl)
theorem dX0_runs_207 : decode cX0_runs 207 = .ok (.iadd, 1) := dk_96 (dk_at dksX0_runs_8 17 rfl rfl)
theorem dX0_runs_208 : decode cX0_runs 208 = .ok (.istore 4, 2) := dk_54 4 (dk_at dksX0_runs_8 18 rfl rfl)
theorem dX0_runs_210 : decode cX0_runs 210 = .ok (.iinc 5 1, 3) := dk_132 5 1 (dk_at dksX0_runs_8 20 rfl rfl)
theorem dX0_runs_213 : decode cX0_runs 213 = .ok (.goto (-71), 3) := dk_167 255 185 (dk_at dksX0_runs_9 0 rfl rfl)
theorem dX0_runs_216 : decode cX0_runs 216 = .ok (.iconst 1, 1) := dk_4 (dk_at dksX0_runs_9 3 rfl rfl)
theorem dX0_runs_217 : decode cX0_runs 217 = .ok (.ireturn, 1) := dk_172 (dk_at dksX0_runs_9 4 rfl rfl)
abbrev cX0_feed : ByteArray := prog_1_method_46_code
def yX0_feed : MethodName := ⟨RX0, "feed", "(IIIII)I"⟩
def dkwX0_feed_2 : List UInt8 := [172]
abbrev dktX0_feed_2 : List UInt8 := dkwX0_feed_2 ++ []
def dkwX0_feed_1 : List UInt8 := [182, 1, 75, 42, 29, 182, 1, 75, 42, 21, 4, 182, 1, 75, 42, 21, 5, 182, 1, 75, 42, 180, 1, 72]
abbrev dktX0_feed_1 : List UInt8 := dkwX0_feed_1 ++ dktX0_feed_2
def dkwX0_feed_0 : List UInt8 := [42, 180, 1, 72, 16, 20, 96, 17, 1, 144, 164, 0, 5, 2, 172, 42, 27, 182, 1, 75, 42, 28]
abbrev dktX0_feed_0 : List UInt8 := dkwX0_feed_0 ++ dktX0_feed_1
theorem dksX0_feed_0 : cX0_feed.data.toList.drop 0 = dktX0_feed_0 := by decide +kernel
theorem dksX0_feed_1 : cX0_feed.data.toList.drop 22 = dktX0_feed_1 := dk_seg dksX0_feed_0 22 rfl rfl
theorem dksX0_feed_2 : cX0_feed.data.toList.drop 46 = dktX0_feed_2 := dk_seg dksX0_feed_1 24 rfl rfl
theorem dX0_feed_0 : decode cX0_feed 0 = .ok (.aload_n 0, 1) := dk_42 (dk_at dksX0_feed_0 0 rfl rfl)
theorem dX0_feed_1 : decode cX0_feed 1 = .ok (.getfield 328, 3) := dk_180 1 72 (dk_at dksX0_feed_0 1 rfl rfl)
theorem dX0_feed_4 : decode cX0_feed 4 = .ok (.bipush 20, 2) := dk_16 20 (dk_at dksX0_feed_0 4 rfl rfl)
theorem dX0_feed_6 : decode cX0_feed 6 = .ok (.iadd, 1) := dk_96 (dk_at dksX0_feed_0 6 rfl rfl)
theorem dX0_feed_7 : decode cX0_feed 7 = .ok (.sipush 400, 3) := dk_17 1 144 (dk_at dksX0_feed_0 7 rfl rfl)
theorem dX0_feed_10 : decode cX0_feed 10 = .ok (.if_icmp .le 5, 3) := dk_164 0 5 (dk_at dksX0_feed_0 10 rfl rfl)
theorem dX0_feed_13 : decode cX0_feed 13 = .ok (.iconst (-1), 1) := dk_2 (dk_at dksX0_feed_0 13 rfl rfl)
theorem dX0_feed_14 : decode cX0_feed 14 = .ok (.ireturn, 1) := dk_172 (dk_at dksX0_feed_0 14 rfl rfl)
theorem dX0_feed_15 : decode cX0_feed 15 = .ok (.aload_n 0, 1) := dk_42 (dk_at dksX0_feed_0 15 rfl rfl)
theorem dX0_feed_16 : decode cX0_feed 16 = .ok (.iload_n 1, 1) := dk_27 (dk_at dksX0_feed_0 16 rfl rfl)
theorem dX0_feed_17 : decode cX0_feed 17 = .ok (.invokevirtual 331, 3) := dk_182 1 75 (dk_at dksX0_feed_0 17 rfl rfl)
theorem dX0_feed_20 : decode cX0_feed 20 = .ok (.aload_n 0, 1) := dk_42 (dk_at dksX0_feed_0 20 rfl rfl)
theorem dX0_feed_21 : decode cX0_feed 21 = .ok (.iload_n 2, 1) := dk_28 (dk_at dksX0_feed_0 21 rfl rfl)
theorem dX0_feed_22 : decode cX0_feed 22 = .ok (.invokevirtual 331, 3) := dk_182 1 75 (dk_at dksX0_feed_1 0 rfl rfl)
theorem dX0_feed_25 : decode cX0_feed 25 = .ok (.aload_n 0, 1) := dk_42 (dk_at dksX0_feed_1 3 rfl rfl)
theorem dX0_feed_26 : decode cX0_feed 26 = .ok (.iload_n 3, 1) := dk_29 (dk_at dksX0_feed_1 4 rfl rfl)
theorem dX0_feed_27 : decode cX0_feed 27 = .ok (.invokevirtual 331, 3) := dk_182 1 75 (dk_at dksX0_feed_1 5 rfl rfl)
theorem dX0_feed_30 : decode cX0_feed 30 = .ok (.aload_n 0, 1) := dk_42 (dk_at dksX0_feed_1 8 rfl rfl)
theorem dX0_feed_31 : decode cX0_feed 31 = .ok (.iload 4, 2) := dk_21 4 (dk_at dksX0_feed_1 9 rfl rfl)
theorem dX0_feed_33 : decode cX0_feed 33 = .ok (.invokevirtual 331, 3) := dk_182 1 75 (dk_at dksX0_feed_1 11 rfl rfl)
theorem dX0_feed_36 : decode cX0_feed 36 = .ok (.aload_n 0, 1) := dk_42 (dk_at dksX0_feed_1 14 rfl rfl)
theorem dX0_feed_37 : decode cX0_feed 37 = .ok (.iload 5, 2) := dk_21 5 (dk_at dksX0_feed_1 15 rfl rfl)
theorem dX0_feed_39 : decode cX0_feed 39 = .ok (.invokevirtual 331, 3) := dk_182 1 75 (dk_at dksX0_feed_1 17 rfl rfl)
theorem dX0_feed_42 : decode cX0_feed 42 = .ok (.aload_n 0, 1) := dk_42 (dk_at dksX0_feed_1 20 rfl rfl)
theorem dX0_feed_43 : decode cX0_feed 43 = .ok (.getfield 328, 3) := dk_180 1 72 (dk_at dksX0_feed_1 21 rfl rfl)
theorem dX0_feed_46 : decode cX0_feed 46 = .ok (.ireturn, 1) := dk_172 (dk_at dksX0_feed_2 0 rfl rfl)
abbrev cX0_bytes : ByteArray := prog_1_method_47_code
def yX0_bytes : MethodName := ⟨RX0, "bytes", "(I)V"⟩
def dkwX0_bytes_1 : List UInt8 := [180, 1, 72, 4, 96, 181, 1, 72, 132, 2, 248, 167, 255, 226, 177]
abbrev dktX0_bytes_1 : List UInt8 := dkwX0_bytes_1 ++ []
def dkwX0_bytes_0 : List UInt8 := [16, 24, 61, 28, 155, 0, 32, 42, 180, 0, 61, 42, 180, 1, 72, 27, 28, 122, 145, 84, 42, 89]
abbrev dktX0_bytes_0 : List UInt8 := dkwX0_bytes_0 ++ dktX0_bytes_1
theorem dksX0_bytes_0 : cX0_bytes.data.toList.drop 0 = dktX0_bytes_0 := by decide +kernel
theorem dksX0_bytes_1 : cX0_bytes.data.toList.drop 22 = dktX0_bytes_1 := dk_seg dksX0_bytes_0 22 rfl rfl
theorem dX0_bytes_0 : decode cX0_bytes 0 = .ok (.bipush 24, 2) := dk_16 24 (dk_at dksX0_bytes_0 0 rfl rfl)
theorem dX0_bytes_2 : decode cX0_bytes 2 = .ok (.istore_n 2, 1) := dk_61 (dk_at dksX0_bytes_0 2 rfl rfl)
theorem dX0_bytes_3 : decode cX0_bytes 3 = .ok (.iload_n 2, 1) := dk_28 (dk_at dksX0_bytes_0 3 rfl rfl)
theorem dX0_bytes_4 : decode cX0_bytes 4 = .ok (.ifCond .lt 32, 3) := dk_155 0 32 (dk_at dksX0_bytes_0 4 rfl rfl)
theorem dX0_bytes_7 : decode cX0_bytes 7 = .ok (.aload_n 0, 1) := dk_42 (dk_at dksX0_bytes_0 7 rfl rfl)
theorem dX0_bytes_8 : decode cX0_bytes 8 = .ok (.getfield 61, 3) := dk_180 0 61 (dk_at dksX0_bytes_0 8 rfl rfl)
theorem dX0_bytes_11 : decode cX0_bytes 11 = .ok (.aload_n 0, 1) := dk_42 (dk_at dksX0_bytes_0 11 rfl rfl)
theorem dX0_bytes_12 : decode cX0_bytes 12 = .ok (.getfield 328, 3) := dk_180 1 72 (dk_at dksX0_bytes_0 12 rfl rfl)
theorem dX0_bytes_15 : decode cX0_bytes 15 = .ok (.iload_n 1, 1) := dk_27 (dk_at dksX0_bytes_0 15 rfl rfl)
theorem dX0_bytes_16 : decode cX0_bytes 16 = .ok (.iload_n 2, 1) := dk_28 (dk_at dksX0_bytes_0 16 rfl rfl)
theorem dX0_bytes_17 : decode cX0_bytes 17 = .ok (.ishr, 1) := dk_122 (dk_at dksX0_bytes_0 17 rfl rfl)
theorem dX0_bytes_18 : decode cX0_bytes 18 = .ok (.i2b, 1) := dk_145 (dk_at dksX0_bytes_0 18 rfl rfl)
theorem dX0_bytes_19 : decode cX0_bytes 19 = .ok (.bastore, 1) := dk_84 (dk_at dksX0_bytes_0 19 rfl rfl)
theorem dX0_bytes_20 : decode cX0_bytes 20 = .ok (.aload_n 0, 1) := dk_42 (dk_at dksX0_bytes_0 20 rfl rfl)
theorem dX0_bytes_21 : decode cX0_bytes 21 = .ok (.dup, 1) := dk_89 (dk_at dksX0_bytes_0 21 rfl rfl)
theorem dX0_bytes_22 : decode cX0_bytes 22 = .ok (.getfield 328, 3) := dk_180 1 72 (dk_at dksX0_bytes_1 0 rfl rfl)
theorem dX0_bytes_25 : decode cX0_bytes 25 = .ok (.iconst 1, 1) := dk_4 (dk_at dksX0_bytes_1 3 rfl rfl)
theorem dX0_bytes_26 : decode cX0_bytes 26 = .ok (.iadd, 1) := dk_96 (dk_at dksX0_bytes_1 4 rfl rfl)
theorem dX0_bytes_27 : decode cX0_bytes 27 = .ok (.putfield 328, 3) := dk_181 1 72 (dk_at dksX0_bytes_1 5 rfl rfl)
theorem dX0_bytes_30 : decode cX0_bytes 30 = .ok (.iinc 2 (-8), 3) := dk_132 2 248 (dk_at dksX0_bytes_1 8 rfl rfl)
theorem dX0_bytes_33 : decode cX0_bytes 33 = .ok (.goto (-30), 3) := dk_167 255 226 (dk_at dksX0_bytes_1 11 rfl rfl)
theorem dX0_bytes_36 : decode cX0_bytes 36 = .ok (.return_, 1) := dk_177 (dk_at dksX0_bytes_1 14 rfl rfl)
abbrev cX0_text : ByteArray := prog_1_method_48_code
def yX0_text : MethodName := ⟨RX0, "text", "(I)I"⟩
def dkwX0_text_4 : List UInt8 := [180, 0, 49, 182, 0, 137, 172]
abbrev dktX0_text_4 : List UInt8 := dkwX0_text_4 ++ []
def dkwX0_text_3 : List UInt8 := [180, 1, 95, 181, 0, 49, 42, 44, 180, 1, 98, 181, 1, 101, 42, 44, 180, 1, 104, 181, 1, 107, 42]
abbrev dktX0_text_3 : List UInt8 := dkwX0_text_3 ++ dktX0_text_4
def dkwX0_text_2 : List UInt8 := [44, 180, 1, 92, 181, 0, 65, 42, 180, 1, 89, 153, 0, 9, 42, 7, 182, 0, 130, 172, 42, 44]
abbrev dktX0_text_2 : List UInt8 := dkwX0_text_2 ++ dktX0_text_3
def dkwX0_text_1 : List UInt8 := [42, 27, 183, 1, 80, 77, 44, 182, 1, 83, 42, 3, 181, 1, 72, 42, 44, 180, 1, 86, 181, 1, 89, 42]
abbrev dktX0_text_1 : List UInt8 := dkwX0_text_1 ++ dktX0_text_2
def dkwX0_text_0 : List UInt8 := [27, 133, 9, 42, 180, 1, 72, 133, 184, 0, 5, 154, 0, 9, 42, 5, 182, 0, 130, 172, 187, 1, 78, 89]
abbrev dktX0_text_0 : List UInt8 := dkwX0_text_0 ++ dktX0_text_1
theorem dksX0_text_0 : cX0_text.data.toList.drop 0 = dktX0_text_0 := by decide +kernel
theorem dksX0_text_1 : cX0_text.data.toList.drop 24 = dktX0_text_1 := dk_seg dksX0_text_0 24 rfl rfl
theorem dksX0_text_2 : cX0_text.data.toList.drop 48 = dktX0_text_2 := dk_seg dksX0_text_1 24 rfl rfl
theorem dksX0_text_3 : cX0_text.data.toList.drop 70 = dktX0_text_3 := dk_seg dksX0_text_2 22 rfl rfl
theorem dksX0_text_4 : cX0_text.data.toList.drop 93 = dktX0_text_4 := dk_seg dksX0_text_3 23 rfl rfl
theorem dX0_text_0 : decode cX0_text 0 = .ok (.iload_n 1, 1) := dk_27 (dk_at dksX0_text_0 0 rfl rfl)
theorem dX0_text_1 : decode cX0_text 1 = .ok (.i2l, 1) := dk_133 (dk_at dksX0_text_0 1 rfl rfl)
theorem dX0_text_2 : decode cX0_text 2 = .ok (.lconst 0, 1) := dk_9 (dk_at dksX0_text_0 2 rfl rfl)
theorem dX0_text_3 : decode cX0_text 3 = .ok (.aload_n 0, 1) := dk_42 (dk_at dksX0_text_0 3 rfl rfl)
theorem dX0_text_4 : decode cX0_text 4 = .ok (.getfield 328, 3) := dk_180 1 72 (dk_at dksX0_text_0 4 rfl rfl)
theorem dX0_text_7 : decode cX0_text 7 = .ok (.i2l, 1) := dk_133 (dk_at dksX0_text_0 7 rfl rfl)
theorem dX0_text_8 : decode cX0_text 8 = .ok (.invokestatic 5, 3) := dk_184 0 5 (dk_at dksX0_text_0 8 rfl rfl)
theorem dX0_text_11 : decode cX0_text 11 = .ok (.ifCond .ne 9, 3) := dk_154 0 9 (dk_at dksX0_text_0 11 rfl rfl)
theorem dX0_text_14 : decode cX0_text 14 = .ok (.aload_n 0, 1) := dk_42 (dk_at dksX0_text_0 14 rfl rfl)
theorem dX0_text_15 : decode cX0_text 15 = .ok (.iconst 2, 1) := dk_5 (dk_at dksX0_text_0 15 rfl rfl)
theorem dX0_text_16 : decode cX0_text 16 = .ok (.invokevirtual 130, 3) := dk_182 0 130 (dk_at dksX0_text_0 16 rfl rfl)
theorem dX0_text_19 : decode cX0_text 19 = .ok (.ireturn, 1) := dk_172 (dk_at dksX0_text_0 19 rfl rfl)
theorem dX0_text_20 : decode cX0_text 20 = .ok (.new 334, 3) := dk_187 1 78 (dk_at dksX0_text_0 20 rfl rfl)
theorem dX0_text_23 : decode cX0_text 23 = .ok (.dup, 1) := dk_89 (dk_at dksX0_text_0 23 rfl rfl)
theorem dX0_text_24 : decode cX0_text 24 = .ok (.aload_n 0, 1) := dk_42 (dk_at dksX0_text_1 0 rfl rfl)
theorem dX0_text_25 : decode cX0_text 25 = .ok (.iload_n 1, 1) := dk_27 (dk_at dksX0_text_1 1 rfl rfl)
theorem dX0_text_26 : decode cX0_text 26 = .ok (.invokespecial 336, 3) := dk_183 1 80 (dk_at dksX0_text_1 2 rfl rfl)
theorem dX0_text_29 : decode cX0_text 29 = .ok (.astore_n 2, 1) := dk_77 (dk_at dksX0_text_1 5 rfl rfl)
theorem dX0_text_30 : decode cX0_text 30 = .ok (.aload_n 2, 1) := dk_44 (dk_at dksX0_text_1 6 rfl rfl)
theorem dX0_text_31 : decode cX0_text 31 = .ok (.invokevirtual 339, 3) := dk_182 1 83 (dk_at dksX0_text_1 7 rfl rfl)
theorem dX0_text_34 : decode cX0_text 34 = .ok (.aload_n 0, 1) := dk_42 (dk_at dksX0_text_1 10 rfl rfl)
theorem dX0_text_35 : decode cX0_text 35 = .ok (.iconst 0, 1) := dk_3 (dk_at dksX0_text_1 11 rfl rfl)
theorem dX0_text_36 : decode cX0_text 36 = .ok (.putfield 328, 3) := dk_181 1 72 (dk_at dksX0_text_1 12 rfl rfl)
theorem dX0_text_39 : decode cX0_text 39 = .ok (.aload_n 0, 1) := dk_42 (dk_at dksX0_text_1 15 rfl rfl)
theorem dX0_text_40 : decode cX0_text 40 = .ok (.aload_n 2, 1) := dk_44 (dk_at dksX0_text_1 16 rfl rfl)
theorem dX0_text_41 : decode cX0_text 41 = .ok (.getfield 342, 3) := dk_180 1 86 (dk_at dksX0_text_1 17 rfl rfl)
theorem dX0_text_44 : decode cX0_text 44 = .ok (.putfield 345, 3) := dk_181 1 89 (dk_at dksX0_text_1 20 rfl rfl)
theorem dX0_text_47 : decode cX0_text 47 = .ok (.aload_n 0, 1) := dk_42 (dk_at dksX0_text_1 23 rfl rfl)
theorem dX0_text_48 : decode cX0_text 48 = .ok (.aload_n 2, 1) := dk_44 (dk_at dksX0_text_2 0 rfl rfl)
theorem dX0_text_49 : decode cX0_text 49 = .ok (.getfield 348, 3) := dk_180 1 92 (dk_at dksX0_text_2 1 rfl rfl)
theorem dX0_text_52 : decode cX0_text 52 = .ok (.putfield 65, 3) := dk_181 0 65 (dk_at dksX0_text_2 4 rfl rfl)
theorem dX0_text_55 : decode cX0_text 55 = .ok (.aload_n 0, 1) := dk_42 (dk_at dksX0_text_2 7 rfl rfl)
theorem dX0_text_56 : decode cX0_text 56 = .ok (.getfield 345, 3) := dk_180 1 89 (dk_at dksX0_text_2 8 rfl rfl)
theorem dX0_text_59 : decode cX0_text 59 = .ok (.ifCond .eq 9, 3) := dk_153 0 9 (dk_at dksX0_text_2 11 rfl rfl)
theorem dX0_text_62 : decode cX0_text 62 = .ok (.aload_n 0, 1) := dk_42 (dk_at dksX0_text_2 14 rfl rfl)
theorem dX0_text_63 : decode cX0_text 63 = .ok (.iconst 4, 1) := dk_7 (dk_at dksX0_text_2 15 rfl rfl)
theorem dX0_text_64 : decode cX0_text 64 = .ok (.invokevirtual 130, 3) := dk_182 0 130 (dk_at dksX0_text_2 16 rfl rfl)
theorem dX0_text_67 : decode cX0_text 67 = .ok (.ireturn, 1) := dk_172 (dk_at dksX0_text_2 19 rfl rfl)
theorem dX0_text_68 : decode cX0_text 68 = .ok (.aload_n 0, 1) := dk_42 (dk_at dksX0_text_2 20 rfl rfl)
theorem dX0_text_69 : decode cX0_text 69 = .ok (.aload_n 2, 1) := dk_44 (dk_at dksX0_text_2 21 rfl rfl)
theorem dX0_text_70 : decode cX0_text 70 = .ok (.getfield 351, 3) := dk_180 1 95 (dk_at dksX0_text_3 0 rfl rfl)
theorem dX0_text_73 : decode cX0_text 73 = .ok (.putfield 49, 3) := dk_181 0 49 (dk_at dksX0_text_3 3 rfl rfl)
theorem dX0_text_76 : decode cX0_text 76 = .ok (.aload_n 0, 1) := dk_42 (dk_at dksX0_text_3 6 rfl rfl)
theorem dX0_text_77 : decode cX0_text 77 = .ok (.aload_n 2, 1) := dk_44 (dk_at dksX0_text_3 7 rfl rfl)
theorem dX0_text_78 : decode cX0_text 78 = .ok (.getfield 354, 3) := dk_180 1 98 (dk_at dksX0_text_3 8 rfl rfl)
theorem dX0_text_81 : decode cX0_text 81 = .ok (.putfield 357, 3) := dk_181 1 101 (dk_at dksX0_text_3 11 rfl rfl)
theorem dX0_text_84 : decode cX0_text 84 = .ok (.aload_n 0, 1) := dk_42 (dk_at dksX0_text_3 14 rfl rfl)
theorem dX0_text_85 : decode cX0_text 85 = .ok (.aload_n 2, 1) := dk_44 (dk_at dksX0_text_3 15 rfl rfl)
theorem dX0_text_86 : decode cX0_text 86 = .ok (.getfield 360, 3) := dk_180 1 104 (dk_at dksX0_text_3 16 rfl rfl)
theorem dX0_text_89 : decode cX0_text 89 = .ok (.putfield 363, 3) := dk_181 1 107 (dk_at dksX0_text_3 19 rfl rfl)
theorem dX0_text_92 : decode cX0_text 92 = .ok (.aload_n 0, 1) := dk_42 (dk_at dksX0_text_3 22 rfl rfl)
theorem dX0_text_93 : decode cX0_text 93 = .ok (.getfield 49, 3) := dk_180 0 49 (dk_at dksX0_text_4 0 rfl rfl)
theorem dX0_text_96 : decode cX0_text 96 = .ok (.invokevirtual 137, 3) := dk_182 0 137 (dk_at dksX0_text_4 3 rfl rfl)
theorem dX0_text_99 : decode cX0_text 99 = .ok (.ireturn, 1) := dk_172 (dk_at dksX0_text_4 6 rfl rfl)
abbrev cX0_fault : ByteArray := prog_1_method_49_code
def yX0_fault : MethodName := ⟨RX0, "fault", "(I)I"⟩
def dkwX0_fault_1 : List UInt8 := [172]
abbrev dktX0_fault_1 : List UInt8 := dkwX0_fault_1 ++ []
def dkwX0_fault_0 : List UInt8 := [27, 154, 0, 10, 42, 180, 1, 89, 167, 0, 16, 27, 4, 160, 0, 10, 42, 180, 0, 65, 167, 0, 4, 2]
abbrev dktX0_fault_0 : List UInt8 := dkwX0_fault_0 ++ dktX0_fault_1
theorem dksX0_fault_0 : cX0_fault.data.toList.drop 0 = dktX0_fault_0 := by decide +kernel
theorem dksX0_fault_1 : cX0_fault.data.toList.drop 24 = dktX0_fault_1 := dk_seg dksX0_fault_0 24 rfl rfl
theorem dX0_fault_0 : decode cX0_fault 0 = .ok (.iload_n 1, 1) := dk_27 (dk_at dksX0_fault_0 0 rfl rfl)
theorem dX0_fault_1 : decode cX0_fault 1 = .ok (.ifCond .ne 10, 3) := dk_154 0 10 (dk_at dksX0_fault_0 1 rfl rfl)
theorem dX0_fault_4 : decode cX0_fault 4 = .ok (.aload_n 0, 1) := dk_42 (dk_at dksX0_fault_0 4 rfl rfl)
theorem dX0_fault_5 : decode cX0_fault 5 = .ok (.getfield 345, 3) := dk_180 1 89 (dk_at dksX0_fault_0 5 rfl rfl)
theorem dX0_fault_8 : decode cX0_fault 8 = .ok (.goto 16, 3) := dk_167 0 16 (dk_at dksX0_fault_0 8 rfl rfl)
theorem dX0_fault_11 : decode cX0_fault 11 = .ok (.iload_n 1, 1) := dk_27 (dk_at dksX0_fault_0 11 rfl rfl)
theorem dX0_fault_12 : decode cX0_fault 12 = .ok (.iconst 1, 1) := dk_4 (dk_at dksX0_fault_0 12 rfl rfl)
theorem dX0_fault_13 : decode cX0_fault 13 = .ok (.if_icmp .ne 10, 3) := dk_160 0 10 (dk_at dksX0_fault_0 13 rfl rfl)
theorem dX0_fault_16 : decode cX0_fault 16 = .ok (.aload_n 0, 1) := dk_42 (dk_at dksX0_fault_0 16 rfl rfl)
theorem dX0_fault_17 : decode cX0_fault 17 = .ok (.getfield 65, 3) := dk_180 0 65 (dk_at dksX0_fault_0 17 rfl rfl)
theorem dX0_fault_20 : decode cX0_fault 20 = .ok (.goto 4, 3) := dk_167 0 4 (dk_at dksX0_fault_0 20 rfl rfl)
theorem dX0_fault_23 : decode cX0_fault 23 = .ok (.iconst (-1), 1) := dk_2 (dk_at dksX0_fault_0 23 rfl rfl)
theorem dX0_fault_24 : decode cX0_fault 24 = .ok (.ireturn, 1) := dk_172 (dk_at dksX0_fault_1 0 rfl rfl)
abbrev cX0_report : ByteArray := prog_1_method_52_code
def yX0_report : MethodName := ⟨RX0, "report", "(IIIIIII)I"⟩
def dkwX0_report_7 : List UInt8 := [21, 7, 183, 1, 125, 182, 0, 146, 87, 42, 180, 0, 68, 182, 0, 137, 4, 100, 172]
abbrev dktX0_report_7 : List UInt8 := dkwX0_report_7 ++ []
def dkwX0_report_6 : List UInt8 := [21, 5, 21, 6, 21, 7, 183, 1, 120, 167, 0, 19, 187, 1, 123, 89, 42, 27, 29, 21, 5, 21, 6]
abbrev dktX0_report_6 : List UInt8 := dkwX0_report_6 ++ dktX0_report_7
def dkwX0_report_5 : List UInt8 := [42, 6, 182, 0, 130, 172, 42, 180, 0, 68, 28, 154, 0, 24, 187, 1, 116, 89, 42, 27, 29, 21, 4]
abbrev dktX0_report_5 : List UInt8 := dkwX0_report_5 ++ dktX0_report_6
def dkwX0_report_4 : List UInt8 := [184, 0, 5, 154, 0, 9, 42, 5, 182, 0, 130, 172, 42, 180, 0, 68, 182, 0, 137, 16, 30, 160, 0, 9]
abbrev dktX0_report_4 : List UInt8 := dkwX0_report_4 ++ dktX0_report_5
def dkwX0_report_3 : List UInt8 := [4, 182, 0, 130, 172, 21, 5, 21, 6, 184, 0, 117, 153, 0, 16, 21, 7, 133, 9, 20, 1, 118]
abbrev dktX0_report_3 : List UInt8 := dkwX0_report_3 ++ dktX0_report_4
def dkwX0_report_2 : List UInt8 := [159, 0, 7, 4, 167, 0, 4, 3, 54, 8, 42, 27, 182, 0, 108, 153, 0, 8, 21, 8, 154, 0, 9, 42]
abbrev dktX0_report_2 : List UInt8 := dkwX0_report_2 ++ dktX0_report_3
def dkwX0_report_1 : List UInt8 := [167, 0, 32, 3, 167, 0, 28, 28, 4, 160, 0, 22, 42, 29, 182, 0, 150, 153, 0, 14, 29, 5, 108, 27]
abbrev dktX0_report_1 : List UInt8 := dkwX0_report_1 ++ dktX0_report_2
def dkwX0_report_0 : List UInt8 := [28, 154, 0, 28, 42, 29, 182, 0, 165, 153, 0, 16, 42, 21, 4, 182, 0, 123, 153, 0, 7, 4]
abbrev dktX0_report_0 : List UInt8 := dkwX0_report_0 ++ dktX0_report_1
theorem dksX0_report_0 : cX0_report.data.toList.drop 0 = dktX0_report_0 := by decide +kernel
theorem dksX0_report_1 : cX0_report.data.toList.drop 22 = dktX0_report_1 := dk_seg dksX0_report_0 22 rfl rfl
theorem dksX0_report_2 : cX0_report.data.toList.drop 46 = dktX0_report_2 := dk_seg dksX0_report_1 24 rfl rfl
theorem dksX0_report_3 : cX0_report.data.toList.drop 70 = dktX0_report_3 := dk_seg dksX0_report_2 24 rfl rfl
theorem dksX0_report_4 : cX0_report.data.toList.drop 92 = dktX0_report_4 := dk_seg dksX0_report_3 22 rfl rfl
theorem dksX0_report_5 : cX0_report.data.toList.drop 116 = dktX0_report_5 := dk_seg dksX0_report_4 24 rfl rfl
theorem dksX0_report_6 : cX0_report.data.toList.drop 139 = dktX0_report_6 := dk_seg dksX0_report_5 23 rfl rfl
theorem dksX0_report_7 : cX0_report.data.toList.drop 162 = dktX0_report_7 := dk_seg dksX0_report_6 23 rfl rfl
theorem dX0_report_0 : decode cX0_report 0 = .ok (.iload_n 2, 1) := dk_28 (dk_at dksX0_report_0 0 rfl rfl)
theorem dX0_report_1 : decode cX0_report 1 = .ok (.ifCond .ne 28, 3) := dk_154 0 28 (dk_at dksX0_report_0 1 rfl rfl)
theorem dX0_report_4 : decode cX0_report 4 = .ok (.aload_n 0, 1) := dk_42 (dk_at dksX0_report_0 4 rfl rfl)
theorem dX0_report_5 : decode cX0_report 5 = .ok (.iload_n 3, 1) := dk_29 (dk_at dksX0_report_0 5 rfl rfl)
theorem dX0_report_6 : decode cX0_report 6 = .ok (.invokevirtual 165, 3) := dk_182 0 165 (dk_at dksX0_report_0 6 rfl rfl)
theorem dX0_report_9 : decode cX0_report 9 = .ok (.ifCond .eq 16, 3) := dk_153 0 16 (dk_at dksX0_report_0 9 rfl rfl)
theorem dX0_report_12 : decode cX0_report 12 = .ok (.aload_n 0, 1) := dk_42 (dk_at dksX0_report_0 12 rfl rfl)
theorem dX0_report_13 : decode cX0_report 13 = .ok (.iload 4, 2) := dk_21 4 (dk_at dksX0_report_0 13 rfl rfl)
theorem dX0_report_15 : decode cX0_report 15 = .ok (.invokevirtual 123, 3) := dk_182 0 123 (dk_at dksX0_report_0 15 rfl rfl)
theorem dX0_report_18 : decode cX0_report 18 = .ok (.ifCond .eq 7, 3) := dk_153 0 7 (dk_at dksX0_report_0 18 rfl rfl)
theorem dX0_report_21 : decode cX0_report 21 = .ok (.iconst 1, 1) := dk_4 (dk_at dksX0_report_0 21 rfl rfl)
theorem dX0_report_22 : decode cX0_report 22 = .ok (.goto 32, 3) := dk_167 0 32 (dk_at dksX0_report_1 0 rfl rfl)
theorem dX0_report_25 : decode cX0_report 25 = .ok (.iconst 0, 1) := dk_3 (dk_at dksX0_report_1 3 rfl rfl)
theorem dX0_report_26 : decode cX0_report 26 = .ok (.goto 28, 3) := dk_167 0 28 (dk_at dksX0_report_1 4 rfl rfl)
theorem dX0_report_29 : decode cX0_report 29 = .ok (.iload_n 2, 1) := dk_28 (dk_at dksX0_report_1 7 rfl rfl)
theorem dX0_report_30 : decode cX0_report 30 = .ok (.iconst 1, 1) := dk_4 (dk_at dksX0_report_1 8 rfl rfl)
theorem dX0_report_31 : decode cX0_report 31 = .ok (.if_icmp .ne 22, 3) := dk_160 0 22 (dk_at dksX0_report_1 9 rfl rfl)
theorem dX0_report_34 : decode cX0_report 34 = .ok (.aload_n 0, 1) := dk_42 (dk_at dksX0_report_1 12 rfl rfl)
theorem dX0_report_35 : decode cX0_report 35 = .ok (.iload_n 3, 1) := dk_29 (dk_at dksX0_report_1 13 rfl rfl)
theorem dX0_report_36 : decode cX0_report 36 = .ok (.invokevirtual 150, 3) := dk_182 0 150 (dk_at dksX0_report_1 14 rfl rfl)
theorem dX0_report_39 : decode cX0_report 39 = .ok (.ifCond .eq 14, 3) := dk_153 0 14 (dk_at dksX0_report_1 17 rfl rfl)
theorem dX0_report_42 : decode cX0_report 42 = .ok (.iload_n 3, 1) := dk_29 (dk_at dksX0_report_1 20 rfl rfl)
theorem dX0_report_43 : decode cX0_report 43 = .ok (.iconst 2, 1) := dk_5 (dk_at dksX0_report_1 21 rfl rfl)
theorem dX0_report_44 : decode cX0_report 44 = .ok (.idiv, 1) := dk_108 (dk_at dksX0_report_1 22 rfl rfl)
theorem dX0_report_45 : decode cX0_report 45 = .ok (.iload_n 1, 1) := dk_27 (dk_at dksX0_report_1 23 rfl rfl)
theorem dX0_report_46 : decode cX0_report 46 = .ok (.if_icmp .eq 7, 3) := dk_159 0 7 (dk_at dksX0_report_2 0 rfl rfl)
theorem dX0_report_49 : decode cX0_report 49 = .ok (.iconst 1, 1) := dk_4 (dk_at dksX0_report_2 3 rfl rfl)
theorem dX0_report_50 : decode cX0_report 50 = .ok (.goto 4, 3) := dk_167 0 4 (dk_at dksX0_report_2 4 rfl rfl)
theorem dX0_report_53 : decode cX0_report 53 = .ok (.iconst 0, 1) := dk_3 (dk_at dksX0_report_2 7 rfl rfl)
theorem dX0_report_54 : decode cX0_report 54 = .ok (.istore 8, 2) := dk_54 8 (dk_at dksX0_report_2 8 rfl rfl)
theorem dX0_report_56 : decode cX0_report 56 = .ok (.aload_n 0, 1) := dk_42 (dk_at dksX0_report_2 10 rfl rfl)
theorem dX0_report_57 : decode cX0_report 57 = .ok (.iload_n 1, 1) := dk_27 (dk_at dksX0_report_2 11 rfl rfl)
theorem dX0_report_58 : decode cX0_report 58 = .ok (.invokevirtual 108, 3) := dk_182 0 108 (dk_at dksX0_report_2 12 rfl rfl)
theorem dX0_report_61 : decode cX0_report 61 = .ok (.ifCond .eq 8, 3) := dk_153 0 8 (dk_at dksX0_report_2 15 rfl rfl)
theorem dX0_report_64 : decode cX0_report 64 = .ok (.iload 8, 2) := dk_21 8 (dk_at dksX0_report_2 18 rfl rfl)
theorem dX0_report_66 : decode cX0_report 66 = .ok (.ifCond .ne 9, 3) := dk_154 0 9 (dk_at dksX0_report_2 20 rfl rfl)
theorem dX0_report_69 : decode cX0_report 69 = .ok (.aload_n 0, 1) := dk_42 (dk_at dksX0_report_2 23 rfl rfl)
theorem dX0_report_70 : decode cX0_report 70 = .ok (.iconst 1, 1) := dk_4 (dk_at dksX0_report_3 0 rfl rfl)
theorem dX0_report_71 : decode cX0_report 71 = .ok (.invokevirtual 130, 3) := dk_182 0 130 (dk_at dksX0_report_3 1 rfl rfl)
theorem dX0_report_74 : decode cX0_report 74 = .ok (.ireturn, 1) := dk_172 (dk_at dksX0_report_3 4 rfl rfl)
theorem dX0_report_75 : decode cX0_report 75 = .ok (.iload 5, 2) := dk_21 5 (dk_at dksX0_report_3 5 rfl rfl)
theorem dX0_report_77 : decode cX0_report 77 = .ok (.iload 6, 2) := dk_21 6 (dk_at dksX0_report_3 7 rfl rfl)
theorem dX0_report_79 : decode cX0_report 79 = .ok (.invokestatic 117, 3) := dk_184 0 117 (dk_at dksX0_report_3 9 rfl rfl)
theorem dX0_report_82 : decode cX0_report 82 = .ok (.ifCond .eq 16, 3) := dk_153 0 16 (dk_at dksX0_report_3 12 rfl rfl)
theorem dX0_report_85 : decode cX0_report 85 = .ok (.iload 7, 2) := dk_21 7 (dk_at dksX0_report_3 15 rfl rfl)
theorem dX0_report_87 : decode cX0_report 87 = .ok (.i2l, 1) := dk_133 (dk_at dksX0_report_3 17 rfl rfl)
theorem dX0_report_88 : decode cX0_report 88 = .ok (.lconst 0, 1) := dk_9 (dk_at dksX0_report_3 18 rfl rfl)
theorem dX0_report_89 : decode cX0_report 89 = .ok (.ldc2_w 374, 3) := dk_20 1 118 (dk_at dksX0_report_3 19 rfl rfl)
theorem dX0_report_92 : decode cX0_report 92 = .ok (.invokestatic 5, 3) := dk_184 0 5 (dk_at dksX0_report_4 0 rfl rfl)
theorem dX0_report_95 : decode cX0_report 95 = .ok (.ifCond .ne 9, 3) := dk_154 0 9 (dk_at dksX0_report_4 3 rfl rfl)
theorem dX0_report_98 : decode cX0_report 98 = .ok (.aload_n 0, 1) := dk_42 (dk_at dksX0_report_4 6 rfl rfl)
theorem dX0_report_99 : decode cX0_report 99 = .ok (.iconst 2, 1) := dk_5 (dk_at dksX0_report_4 7 rfl rfl)
theorem dX0_report_100 : decode cX0_report 100 = .ok (.invokevirtual 130, 3) := dk_182 0 130 (dk_at dksX0_report_4 8 rfl rfl)
theorem dX0_report_103 : decode cX0_report 103 = .ok (.ireturn, 1) := dk_172 (dk_at dksX0_report_4 11 rfl rfl)
theorem dX0_report_104 : decode cX0_report 104 = .ok (.aload_n 0, 1) := dk_42 (dk_at dksX0_report_4 12 rfl rfl)
theorem dX0_report_105 : decode cX0_report 105 = .ok (.getfield 68, 3) := dk_180 0 68 (dk_at dksX0_report_4 13 rfl rfl)
theorem dX0_report_108 : decode cX0_report 108 = .ok (.invokevirtual 137, 3) := dk_182 0 137 (dk_at dksX0_report_4 16 rfl rfl)
theorem dX0_report_111 : decode cX0_report 111 = .ok (.bipush 30, 2) := dk_16 30 (dk_at dksX0_report_4 19 rfl rfl)
theorem dX0_report_113 : decode cX0_report 113 = .ok (.if_icmp .ne 9, 3) := dk_160 0 9 (dk_at dksX0_report_4 21 rfl rfl)
theorem dX0_report_116 : decode cX0_report 116 = .ok (.aload_n 0, 1) := dk_42 (dk_at dksX0_report_5 0 rfl rfl)
theorem dX0_report_117 : decode cX0_report 117 = .ok (.iconst 3, 1) := dk_6 (dk_at dksX0_report_5 1 rfl rfl)
theorem dX0_report_118 : decode cX0_report 118 = .ok (.invokevirtual 130, 3) := dk_182 0 130 (dk_at dksX0_report_5 2 rfl rfl)
theorem dX0_report_121 : decode cX0_report 121 = .ok (.ireturn, 1) := dk_172 (dk_at dksX0_report_5 5 rfl rfl)
theorem dX0_report_122 : decode cX0_report 122 = .ok (.aload_n 0, 1) := dk_42 (dk_at dksX0_report_5 6 rfl rfl)
theorem dX0_report_123 : decode cX0_report 123 = .ok (.getfield 68, 3) := dk_180 0 68 (dk_at dksX0_report_5 7 rfl rfl)
theorem dX0_report_126 : decode cX0_report 126 = .ok (.iload_n 2, 1) := dk_28 (dk_at dksX0_report_5 10 rfl rfl)
theorem dX0_report_127 : decode cX0_report 127 = .ok (.ifCond .ne 24, 3) := dk_154 0 24 (dk_at dksX0_report_5 11 rfl rfl)
theorem dX0_report_130 : decode cX0_report 130 = .ok (.new 372, 3) := dk_187 1 116 (dk_at dksX0_report_5 14 rfl rfl)
theorem dX0_report_133 : decode cX0_report 133 = .ok (.dup, 1) := dk_89 (dk_at dksX0_report_5 17 rfl rfl)
theorem dX0_report_134 : decode cX0_report 134 = .ok (.aload_n 0, 1) := dk_42 (dk_at dksX0_report_5 18 rfl rfl)
theorem dX0_report_135 : decode cX0_report 135 = .ok (.iload_n 1, 1) := dk_27 (dk_at dksX0_report_5 19 rfl rfl)
theorem dX0_report_136 : decode cX0_report 136 = .ok (.iload_n 3, 1) := dk_29 (dk_at dksX0_report_5 20 rfl rfl)
theorem dX0_report_137 : decode cX0_report 137 = .ok (.iload 4, 2) := dk_21 4 (dk_at dksX0_report_5 21 rfl rfl)
theorem dX0_report_139 : decode cX0_report 139 = .ok (.iload 5, 2) := dk_21 5 (dk_at dksX0_report_6 0 rfl rfl)
theorem dX0_report_141 : decode cX0_report 141 = .ok (.iload 6, 2) := dk_21 6 (dk_at dksX0_report_6 2 rfl rfl)
theorem dX0_report_143 : decode cX0_report 143 = .ok (.iload 7, 2) := dk_21 7 (dk_at dksX0_report_6 4 rfl rfl)
theorem dX0_report_145 : decode cX0_report 145 = .ok (.invokespecial 376, 3) := dk_183 1 120 (dk_at dksX0_report_6 6 rfl rfl)
theorem dX0_report_148 : decode cX0_report 148 = .ok (.goto 19, 3) := dk_167 0 19 (dk_at dksX0_report_6 9 rfl rfl)
theorem dX0_report_151 : decode cX0_report 151 = .ok (.new 379, 3) := dk_187 1 123 (dk_at dksX0_report_6 12 rfl rfl)
theorem dX0_report_154 : decode cX0_report 154 = .ok (.dup, 1) := dk_89 (dk_at dksX0_report_6 15 rfl rfl)
theorem dX0_report_155 : decode cX0_report 155 = .ok (.aload_n 0, 1) := dk_42 (dk_at dksX0_report_6 16 rfl rfl)
theorem dX0_report_156 : decode cX0_report 156 = .ok (.iload_n 1, 1) := dk_27 (dk_at dksX0_report_6 17 rfl rfl)
theorem dX0_report_157 : decode cX0_report 157 = .ok (.iload_n 3, 1) := dk_29 (dk_at dksX0_report_6 18 rfl rfl)
theorem dX0_report_158 : decode cX0_report 158 = .ok (.iload 5, 2) := dk_21 5 (dk_at dksX0_report_6 19 rfl rfl)
theorem dX0_report_160 : decode cX0_report 160 = .ok (.iload 6, 2) := dk_21 6 (dk_at dksX0_report_6 21 rfl rfl)
theorem dX0_report_162 : decode cX0_report 162 = .ok (.iload 7, 2) := dk_21 7 (dk_at dksX0_report_7 0 rfl rfl)
theorem dX0_report_164 : decode cX0_report 164 = .ok (.invokespecial 381, 3) := dk_183 1 125 (dk_at dksX0_report_7 2 rfl rfl)
theorem dX0_report_167 : decode cX0_report 167 = .ok (.invokevirtual 146, 3) := dk_182 0 146 (dk_at dksX0_report_7 5 rfl rfl)
theorem dX0_report_170 : decode cX0_report 170 = .ok (.pop, 1) := dk_87 (dk_at dksX0_report_7 8 rfl rfl)
theorem dX0_report_171 : decode cX0_report 171 = .ok (.aload_n 0, 1) := dk_42 (dk_at dksX0_report_7 9 rfl rfl)
theorem dX0_report_172 : decode cX0_report 172 = .ok (.getfield 68, 3) := dk_180 0 68 (dk_at dksX0_report_7 10 rfl rfl)
theorem dX0_report_175 : decode cX0_report 175 = .ok (.invokevirtual 137, 3) := dk_182 0 137 (dk_at dksX0_report_7 13 rfl rfl)
theorem dX0_report_178 : decode cX0_report 178 = .ok (.iconst 1, 1) := dk_4 (dk_at dksX0_report_7 16 rfl rfl)
theorem dX0_report_179 : decode cX0_report 179 = .ok (.isub, 1) := dk_100 (dk_at dksX0_report_7 17 rfl rfl)
theorem dX0_report_180 : decode cX0_report 180 = .ok (.ireturn, 1) := dk_172 (dk_at dksX0_report_7 18 rfl rfl)
abbrev cX0_right : ByteArray := prog_1_method_53_code
def yX0_right : MethodName := ⟨RX0, "right", "(I)I"⟩
def dkwX0_right_1 : List UInt8 := [167, 0, 4, 3, 172]
abbrev dktX0_right_1 : List UInt8 := dkwX0_right_1 ++ []
def dkwX0_right_0 : List UInt8 := [42, 27, 182, 1, 112, 199, 0, 7, 2, 167, 0, 19, 42, 27, 182, 1, 112, 182, 1, 128, 153, 0, 7, 4]
abbrev dktX0_right_0 : List UInt8 := dkwX0_right_0 ++ dktX0_right_1
theorem dksX0_right_0 : cX0_right.data.toList.drop 0 = dktX0_right_0 := by decide +kernel
theorem dksX0_right_1 : cX0_right.data.toList.drop 24 = dktX0_right_1 := dk_seg dksX0_right_0 24 rfl rfl
theorem dX0_right_0 : decode cX0_right 0 = .ok (.aload_n 0, 1) := dk_42 (dk_at dksX0_right_0 0 rfl rfl)
theorem dX0_right_1 : decode cX0_right 1 = .ok (.iload_n 1, 1) := dk_27 (dk_at dksX0_right_0 1 rfl rfl)
theorem dX0_right_2 : decode cX0_right 2 = .ok (.invokevirtual 368, 3) := dk_182 1 112 (dk_at dksX0_right_0 2 rfl rfl)
theorem dX0_right_5 : decode cX0_right 5 = .ok (.ifnonnull 7, 3) := dk_199 0 7 (dk_at dksX0_right_0 5 rfl rfl)
theorem dX0_right_8 : decode cX0_right 8 = .ok (.iconst (-1), 1) := dk_2 (dk_at dksX0_right_0 8 rfl rfl)
theorem dX0_right_9 : decode cX0_right 9 = .ok (.goto 19, 3) := dk_167 0 19 (dk_at dksX0_right_0 9 rfl rfl)
theorem dX0_right_12 : decode cX0_right 12 = .ok (.aload_n 0, 1) := dk_42 (dk_at dksX0_right_0 12 rfl rfl)
theorem dX0_right_13 : decode cX0_right 13 = .ok (.iload_n 1, 1) := dk_27 (dk_at dksX0_right_0 13 rfl rfl)
theorem dX0_right_14 : decode cX0_right 14 = .ok (.invokevirtual 368, 3) := dk_182 1 112 (dk_at dksX0_right_0 14 rfl rfl)
theorem dX0_right_17 : decode cX0_right 17 = .ok (.invokevirtual 384, 3) := dk_182 1 128 (dk_at dksX0_right_0 17 rfl rfl)
theorem dX0_right_20 : decode cX0_right 20 = .ok (.ifCond .eq 7, 3) := dk_153 0 7 (dk_at dksX0_right_0 20 rfl rfl)
theorem dX0_right_23 : decode cX0_right 23 = .ok (.iconst 1, 1) := dk_4 (dk_at dksX0_right_0 23 rfl rfl)
theorem dX0_right_24 : decode cX0_right 24 = .ok (.goto 4, 3) := dk_167 0 4 (dk_at dksX0_right_1 0 rfl rfl)
theorem dX0_right_27 : decode cX0_right 27 = .ok (.iconst 0, 1) := dk_3 (dk_at dksX0_right_1 3 rfl rfl)
theorem dX0_right_28 : decode cX0_right 28 = .ok (.ireturn, 1) := dk_172 (dk_at dksX0_right_1 4 rfl rfl)
abbrev cX0_report_2 : ByteArray := prog_1_method_50_code
def yX0_report_2 : MethodName := ⟨RX0, "report", "(I)LRapTable$Report;"⟩
def dkwX0_report_2_1 : List UInt8 := [182, 0, 172, 192, 1, 110, 167, 0, 4, 1, 176]
abbrev dktX0_report_2_1 : List UInt8 := dkwX0_report_2_1 ++ []
def dkwX0_report_2_0 : List UInt8 := [27, 133, 9, 42, 180, 0, 68, 182, 0, 137, 4, 100, 133, 184, 0, 5, 153, 0, 17, 42, 180, 0, 68, 27]
abbrev dktX0_report_2_0 : List UInt8 := dkwX0_report_2_0 ++ dktX0_report_2_1
theorem dksX0_report_2_0 : cX0_report_2.data.toList.drop 0 = dktX0_report_2_0 := by decide +kernel
theorem dksX0_report_2_1 : cX0_report_2.data.toList.drop 24 = dktX0_report_2_1 := dk_seg dksX0_report_2_0 24 rfl rfl
theorem dX0_report_2_0 : decode cX0_report_2 0 = .ok (.iload_n 1, 1) := dk_27 (dk_at dksX0_report_2_0 0 rfl rfl)
theorem dX0_report_2_1 : decode cX0_report_2 1 = .ok (.i2l, 1) := dk_133 (dk_at dksX0_report_2_0 1 rfl rfl)
theorem dX0_report_2_2 : decode cX0_report_2 2 = .ok (.lconst 0, 1) := dk_9 (dk_at dksX0_report_2_0 2 rfl rfl)
theorem dX0_report_2_3 : decode cX0_report_2 3 = .ok (.aload_n 0, 1) := dk_42 (dk_at dksX0_report_2_0 3 rfl rfl)
theorem dX0_report_2_4 : decode cX0_report_2 4 = .ok (.getfield 68, 3) := dk_180 0 68 (dk_at dksX0_report_2_0 4 rfl rfl)
theorem dX0_report_2_7 : decode cX0_report_2 7 = .ok (.invokevirtual 137, 3) := dk_182 0 137 (dk_at dksX0_report_2_0 7 rfl rfl)
theorem dX0_report_2_10 : decode cX0_report_2 10 = .ok (.iconst 1, 1) := dk_4 (dk_at dksX0_report_2_0 10 rfl rfl)
theorem dX0_report_2_11 : decode cX0_report_2 11 = .ok (.isub, 1) := dk_100 (dk_at dksX0_report_2_0 11 rfl rfl)
theorem dX0_report_2_12 : decode cX0_report_2 12 = .ok (.i2l, 1) := dk_133 (dk_at dksX0_report_2_0 12 rfl rfl)
theorem dX0_report_2_13 : decode cX0_report_2 13 = .ok (.invokestatic 5, 3) := dk_184 0 5 (dk_at dksX0_report_2_0 13 rfl rfl)
theorem dX0_report_2_16 : decode cX0_report_2 16 = .ok (.ifCond .eq 17, 3) := dk_153 0 17 (dk_at dksX0_report_2_0 16 rfl rfl)
theorem dX0_report_2_19 : decode cX0_report_2 19 = .ok (.aload_n 0, 1) := dk_42 (dk_at dksX0_report_2_0 19 rfl rfl)
theorem dX0_report_2_20 : decode cX0_report_2 20 = .ok (.getfield 68, 3) := dk_180 0 68 (dk_at dksX0_report_2_0 20 rfl rfl)
theorem dX0_report_2_23 : decode cX0_report_2 23 = .ok (.iload_n 1, 1) := dk_27 (dk_at dksX0_report_2_0 23 rfl rfl)
theorem dX0_report_2_24 : decode cX0_report_2 24 = .ok (.invokevirtual 172, 3) := dk_182 0 172 (dk_at dksX0_report_2_1 0 rfl rfl)
theorem dX0_report_2_27 : decode cX0_report_2 27 = .ok (.checkcast 366, 3) := dk_192 1 110 (dk_at dksX0_report_2_1 3 rfl rfl)
theorem dX0_report_2_30 : decode cX0_report_2 30 = .ok (.goto 4, 3) := dk_167 0 4 (dk_at dksX0_report_2_1 6 rfl rfl)
theorem dX0_report_2_33 : decode cX0_report_2 33 = .ok (.aconst_null, 1) := dk_1 (dk_at dksX0_report_2_1 9 rfl rfl)
theorem dX0_report_2_34 : decode cX0_report_2 34 = .ok (.areturn, 1) := dk_176 (dk_at dksX0_report_2_1 10 rfl rfl)
abbrev cX0_honest : ByteArray := prog_1_method_54_code
def yX0_honest : MethodName := ⟨RX0, "honest", "(I)I"⟩
def dkwX0_honest_1 : List UInt8 := [167, 0, 4, 3, 172]
abbrev dktX0_honest_1 : List UInt8 := dkwX0_honest_1 ++ []
def dkwX0_honest_0 : List UInt8 := [42, 27, 182, 1, 112, 199, 0, 7, 2, 167, 0, 19, 42, 27, 182, 1, 112, 182, 1, 131, 153, 0, 7, 4]
abbrev dktX0_honest_0 : List UInt8 := dkwX0_honest_0 ++ dktX0_honest_1
theorem dksX0_honest_0 : cX0_honest.data.toList.drop 0 = dktX0_honest_0 := by decide +kernel
theorem dksX0_honest_1 : cX0_honest.data.toList.drop 24 = dktX0_honest_1 := dk_seg dksX0_honest_0 24 rfl rfl
theorem dX0_honest_0 : decode cX0_honest 0 = .ok (.aload_n 0, 1) := dk_42 (dk_at dksX0_honest_0 0 rfl rfl)
theorem dX0_honest_1 : decode cX0_honest 1 = .ok (.iload_n 1, 1) := dk_27 (dk_at dksX0_honest_0 1 rfl rfl)
theorem dX0_honest_2 : decode cX0_honest 2 = .ok (.invokevirtual 368, 3) := dk_182 1 112 (dk_at dksX0_honest_0 2 rfl rfl)
theorem dX0_honest_5 : decode cX0_honest 5 = .ok (.ifnonnull 7, 3) := dk_199 0 7 (dk_at dksX0_honest_0 5 rfl rfl)
theorem dX0_honest_8 : decode cX0_honest 8 = .ok (.iconst (-1), 1) := dk_2 (dk_at dksX0_honest_0 8 rfl rfl)
theorem dX0_honest_9 : decode cX0_honest 9 = .ok (.goto 19, 3) := dk_167 0 19 (dk_at dksX0_honest_0 9 rfl rfl)
theorem dX0_honest_12 : decode cX0_honest 12 = .ok (.aload_n 0, 1) := dk_42 (dk_at dksX0_honest_0 12 rfl rfl)
theorem dX0_honest_13 : decode cX0_honest 13 = .ok (.iload_n 1, 1) := dk_27 (dk_at dksX0_honest_0 13 rfl rfl)
theorem dX0_honest_14 : decode cX0_honest 14 = .ok (.invokevirtual 368, 3) := dk_182 1 112 (dk_at dksX0_honest_0 14 rfl rfl)
theorem dX0_honest_17 : decode cX0_honest 17 = .ok (.invokevirtual 387, 3) := dk_182 1 131 (dk_at dksX0_honest_0 17 rfl rfl)
theorem dX0_honest_20 : decode cX0_honest 20 = .ok (.ifCond .eq 7, 3) := dk_153 0 7 (dk_at dksX0_honest_0 20 rfl rfl)
theorem dX0_honest_23 : decode cX0_honest 23 = .ok (.iconst 1, 1) := dk_4 (dk_at dksX0_honest_0 23 rfl rfl)
theorem dX0_honest_24 : decode cX0_honest 24 = .ok (.goto 4, 3) := dk_167 0 4 (dk_at dksX0_honest_1 0 rfl rfl)
theorem dX0_honest_27 : decode cX0_honest 27 = .ok (.iconst 0, 1) := dk_3 (dk_at dksX0_honest_1 3 rfl rfl)
theorem dX0_honest_28 : decode cX0_honest 28 = .ok (.ireturn, 1) := dk_172 (dk_at dksX0_honest_1 4 rfl rfl)
abbrev cX0_agree : ByteArray := prog_1_method_55_code
def yX0_agree : MethodName := ⟨RX0, "agree", "(II)I"⟩
def dkwX0_agree_1 : List UInt8 := [27, 182, 1, 112, 42, 28, 182, 1, 112, 182, 1, 134, 153, 0, 7, 4, 167, 0, 4, 3, 172]
abbrev dktX0_agree_1 : List UInt8 := dkwX0_agree_1 ++ []
def dkwX0_agree_0 : List UInt8 := [42, 27, 182, 1, 112, 198, 0, 16, 42, 28, 182, 1, 112, 198, 0, 8, 27, 28, 160, 0, 5, 2, 172, 42]
abbrev dktX0_agree_0 : List UInt8 := dkwX0_agree_0 ++ dktX0_agree_1
theorem dksX0_agree_0 : cX0_agree.data.toList.drop 0 = dktX0_agree_0 := by decide +kernel
theorem dksX0_agree_1 : cX0_agree.data.toList.drop 24 = dktX0_agree_1 := dk_seg dksX0_agree_0 24 rfl rfl
theorem dX0_agree_0 : decode cX0_agree 0 = .ok (.aload_n 0, 1) := dk_42 (dk_at dksX0_agree_0 0 rfl rfl)
theorem dX0_agree_1 : decode cX0_agree 1 = .ok (.iload_n 1, 1) := dk_27 (dk_at dksX0_agree_0 1 rfl rfl)
theorem dX0_agree_2 : decode cX0_agree 2 = .ok (.invokevirtual 368, 3) := dk_182 1 112 (dk_at dksX0_agree_0 2 rfl rfl)
theorem dX0_agree_5 : decode cX0_agree 5 = .ok (.ifnull 16, 3) := dk_198 0 16 (dk_at dksX0_agree_0 5 rfl rfl)
theorem dX0_agree_8 : decode cX0_agree 8 = .ok (.aload_n 0, 1) := dk_42 (dk_at dksX0_agree_0 8 rfl rfl)
theorem dX0_agree_9 : decode cX0_agree 9 = .ok (.iload_n 2, 1) := dk_28 (dk_at dksX0_agree_0 9 rfl rfl)
theorem dX0_agree_10 : decode cX0_agree 10 = .ok (.invokevirtual 368, 3) := dk_182 1 112 (dk_at dksX0_agree_0 10 rfl rfl)
theorem dX0_agree_13 : decode cX0_agree 13 = .ok (.ifnull 8, 3) := dk_198 0 8 (dk_at dksX0_agree_0 13 rfl rfl)
theorem dX0_agree_16 : decode cX0_agree 16 = .ok (.iload_n 1, 1) := dk_27 (dk_at dksX0_agree_0 16 rfl rfl)
theorem dX0_agree_17 : decode cX0_agree 17 = .ok (.iload_n 2, 1) := dk_28 (dk_at dksX0_agree_0 17 rfl rfl)
theorem dX0_agree_18 : decode cX0_agree 18 = .ok (.if_icmp .ne 5, 3) := dk_160 0 5 (dk_at dksX0_agree_0 18 rfl rfl)
theorem dX0_agree_21 : decode cX0_agree 21 = .ok (.iconst (-1), 1) := dk_2 (dk_at dksX0_agree_0 21 rfl rfl)
theorem dX0_agree_22 : decode cX0_agree 22 = .ok (.ireturn, 1) := dk_172 (dk_at dksX0_agree_0 22 rfl rfl)
theorem dX0_agree_23 : decode cX0_agree 23 = .ok (.aload_n 0, 1) := dk_42 (dk_at dksX0_agree_0 23 rfl rfl)
theorem dX0_agree_24 : decode cX0_agree 24 = .ok (.iload_n 1, 1) := dk_27 (dk_at dksX0_agree_1 0 rfl rfl)
theorem dX0_agree_25 : decode cX0_agree 25 = .ok (.invokevirtual 368, 3) := dk_182 1 112 (dk_at dksX0_agree_1 1 rfl rfl)
theorem dX0_agree_28 : decode cX0_agree 28 = .ok (.aload_n 0, 1) := dk_42 (dk_at dksX0_agree_1 4 rfl rfl)
theorem dX0_agree_29 : decode cX0_agree 29 = .ok (.iload_n 2, 1) := dk_28 (dk_at dksX0_agree_1 5 rfl rfl)
theorem dX0_agree_30 : decode cX0_agree 30 = .ok (.invokevirtual 368, 3) := dk_182 1 112 (dk_at dksX0_agree_1 6 rfl rfl)
theorem dX0_agree_33 : decode cX0_agree 33 = .ok (.invokevirtual 390, 3) := dk_182 1 134 (dk_at dksX0_agree_1 9 rfl rfl)
theorem dX0_agree_36 : decode cX0_agree 36 = .ok (.ifCond .eq 7, 3) := dk_153 0 7 (dk_at dksX0_agree_1 12 rfl rfl)
theorem dX0_agree_39 : decode cX0_agree 39 = .ok (.iconst 1, 1) := dk_4 (dk_at dksX0_agree_1 15 rfl rfl)
theorem dX0_agree_40 : decode cX0_agree 40 = .ok (.goto 4, 3) := dk_167 0 4 (dk_at dksX0_agree_1 16 rfl rfl)
theorem dX0_agree_43 : decode cX0_agree 43 = .ok (.iconst 0, 1) := dk_3 (dk_at dksX0_agree_1 19 rfl rfl)
theorem dX0_agree_44 : decode cX0_agree 44 = .ok (.ireturn, 1) := dk_172 (dk_at dksX0_agree_1 20 rfl rfl)
abbrev cX0_stories : ByteArray := prog_1_method_56_code
def yX0_stories : MethodName := ⟨RX0, "stories", "(IZI)I"⟩
def dkwX0_stories_6 : List UInt8 := [172]
abbrev dktX0_stories_6 : List UInt8 := dkwX0_stories_6 ++ []
def dkwX0_stories_5 : List UInt8 := [167, 255, 176, 29, 154, 0, 8, 21, 5, 167, 0, 15, 29, 4, 160, 0, 8, 21, 6, 167, 0, 5, 21, 7]
abbrev dktX0_stories_5 : List UInt8 := dkwX0_stories_5 ++ dktX0_stories_6
def dkwX0_stories_4 : List UInt8 := [21, 9, 120, 128, 54, 6, 21, 7, 4, 21, 8, 120, 128, 54, 7, 132, 9, 1, 167, 255, 197, 132, 8, 1]
abbrev dktX0_stories_4 : List UInt8 := dkwX0_stories_4 ++ dktX0_stories_5
def dkwX0_stories_3 : List UInt8 := [182, 0, 172, 192, 1, 26, 21, 9, 28, 182, 1, 142, 154, 0, 6, 167, 0, 24, 132, 5, 1, 21, 6, 4]
abbrev dktX0_stories_3 : List UInt8 := dkwX0_stories_3 ++ dktX0_stories_4
def dkwX0_stories_2 : List UInt8 := [162, 0, 74, 3, 54, 9, 21, 9, 42, 180, 0, 25, 162, 0, 56, 25, 4, 42, 180, 0, 49, 21, 8]
abbrev dktX0_stories_2 : List UInt8 := dkwX0_stories_2 ++ dktX0_stories_3
def dkwX0_stories_1 : List UInt8 := [2, 172, 3, 54, 5, 3, 54, 6, 3, 54, 7, 3, 54, 8, 21, 8, 42, 180, 0, 49, 182, 0, 137]
abbrev dktX0_stories_1 : List UInt8 := dkwX0_stories_1 ++ dktX0_stories_2
def dkwX0_stories_0 : List UInt8 := [42, 27, 182, 1, 138, 58, 4, 25, 4, 198, 0, 15, 29, 133, 9, 20, 0, 190, 184, 0, 5, 154, 0, 5]
abbrev dktX0_stories_0 : List UInt8 := dkwX0_stories_0 ++ dktX0_stories_1
theorem dksX0_stories_0 : cX0_stories.data.toList.drop 0 = dktX0_stories_0 := by decide +kernel
theorem dksX0_stories_1 : cX0_stories.data.toList.drop 24 = dktX0_stories_1 := dk_seg dksX0_stories_0 24 rfl rfl
theorem dksX0_stories_2 : cX0_stories.data.toList.drop 47 = dktX0_stories_2 := dk_seg dksX0_stories_1 23 rfl rfl
theorem dksX0_stories_3 : cX0_stories.data.toList.drop 70 = dktX0_stories_3 := dk_seg dksX0_stories_2 23 rfl rfl
theorem dksX0_stories_4 : cX0_stories.data.toList.drop 94 = dktX0_stories_4 := dk_seg dksX0_stories_3 24 rfl rfl
theorem dksX0_stories_5 : cX0_stories.data.toList.drop 118 = dktX0_stories_5 := dk_seg dksX0_stories_4 24 rfl rfl
theorem dksX0_stories_6 : cX0_stories.data.toList.drop 142 = dktX0_stories_6 := dk_seg dksX0_stories_5 24 rfl rfl
theorem dX0_stories_0 : decode cX0_stories 0 = .ok (.aload_n 0, 1) := dk_42 (dk_at dksX0_stories_0 0 rfl rfl)
theorem dX0_stories_1 : decode cX0_stories 1 = .ok (.iload_n 1, 1) := dk_27 (dk_at dksX0_stories_0 1 rfl rfl)
theorem dX0_stories_2 : decode cX0_stories 2 = .ok (.invokevirtual 394, 3) := dk_182 1 138 (dk_at dksX0_stories_0 2 rfl rfl)
theorem dX0_stories_5 : decode cX0_stories 5 = .ok (.astore 4, 2) := dk_58 4 (dk_at dksX0_stories_0 5 rfl rfl)
theorem dX0_stories_7 : decode cX0_stories 7 = .ok (.aload 4, 2) := dk_25 4 (dk_at dksX0_stories_0 7 rfl rfl)
theorem dX0_stories_9 : decode cX0_stories 9 = .ok (.ifnull 15, 3) := dk_198 0 15 (dk_at dksX0_stories_0 9 rfl rfl)
theorem dX0_stories_12 : decode cX0_stories 12 = .ok (.iload_n 3, 1) := dk_29 (dk_at dksX0_stories_0 12 rfl rfl)
theorem dX0_stories_13 : decode cX0_stories 13 = .ok (.i2l, 1) := dk_133 (dk_at dksX0_stories_0 13 rfl rfl)
theorem dX0_stories_14 : decode cX0_stories 14 = .ok (.lconst 0, 1) := dk_9 (dk_at dksX0_stories_0 14 rfl rfl)
theorem dX0_stories_15 : decode cX0_stories 15 = .ok (.ldc2_w 190, 3) := dk_20 0 190 (dk_at dksX0_stories_0 15 rfl rfl)
theorem dX0_stories_18 : decode cX0_stories 18 = .ok (.invokestatic 5, 3) := dk_184 0 5 (dk_at dksX0_stories_0 18 rfl rfl)
theorem dX0_stories_21 : decode cX0_stories 21 = .ok (.ifCond .ne 5, 3) := dk_154 0 5 (dk_at dksX0_stories_0 21 rfl rfl)
theorem dX0_stories_24 : decode cX0_stories 24 = .ok (.iconst (-1), 1) := dk_2 (dk_at dksX0_stories_1 0 rfl rfl)
theorem dX0_stories_25 : decode cX0_stories 25 = .ok (.ireturn, 1) := dk_172 (dk_at dksX0_stories_1 1 rfl rfl)
theorem dX0_stories_26 : decode cX0_stories 26 = .ok (.iconst 0, 1) := dk_3 (dk_at dksX0_stories_1 2 rfl rfl)
theorem dX0_stories_27 : decode cX0_stories 27 = .ok (.istore 5, 2) := dk_54 5 (dk_at dksX0_stories_1 3 rfl rfl)
theorem dX0_stories_29 : decode cX0_stories 29 = .ok (.iconst 0, 1) := dk_3 (dk_at dksX0_stories_1 5 rfl rfl)
theorem dX0_stories_30 : decode cX0_stories 30 = .ok (.istore 6, 2) := dk_54 6 (dk_at dksX0_stories_1 6 rfl rfl)
theorem dX0_stories_32 : decode cX0_stories 32 = .ok (.iconst 0, 1) := dk_3 (dk_at dksX0_stories_1 8 rfl rfl)
theorem dX0_stories_33 : decode cX0_stories 33 = .ok (.istore 7, 2) := dk_54 7 (dk_at dksX0_stories_1 9 rfl rfl)
theorem dX0_stories_35 : decode cX0_stories 35 = .ok (.iconst 0, 1) := dk_3 (dk_at dksX0_stories_1 11 rfl rfl)
theorem dX0_stories_36 : decode cX0_stories 36 = .ok (.istore 8, 2) := dk_54 8 (dk_at dksX0_stories_1 12 rfl rfl)
theorem dX0_stories_38 : decode cX0_stories 38 = .ok (.iload 8, 2) := dk_21 8 (dk_at dksX0_stories_1 14 rfl rfl)
theorem dX0_stories_40 : decode cX0_stories 40 = .ok (.aload_n 0, 1) := dk_42 (dk_at dksX0_stories_1 16 rfl rfl)
theorem dX0_stories_41 : decode cX0_stories 41 = .ok (.getfield 49, 3) := dk_180 0 49 (dk_at dksX0_stories_1 17 rfl rfl)
theorem dX0_stories_44 : decode cX0_stories 44 = .ok (.invokevirtual 137, 3) := dk_182 0 137 (dk_at dksX0_stories_1 20 rfl rfl)
theorem dX0_stories_47 : decode cX0_stories 47 = .ok (.if_icmp .ge 74, 3) := dk_162 0 74 (dk_at dksX0_stories_2 0 rfl rfl)
theorem dX0_stories_50 : decode cX0_stories 50 = .ok (.iconst 0, 1) := dk_3 (dk_at dksX0_stories_2 3 rfl rfl)
theorem dX0_stories_51 : decode cX0_stories 51 = .ok (.istore 9, 2) := dk_54 9 (dk_at dksX0_stories_2 4 rfl rfl)
theorem dX0_stories_53 : decode cX0_stories 53 = .ok (.iload 9, 2) := dk_21 9 (dk_at dksX0_stories_2 6 rfl rfl)
theorem dX0_stories_55 : decode cX0_stories 55 = .ok (.aload_n 0, 1) := dk_42 (dk_at dksX0_stories_2 8 rfl rfl)
theorem dX0_stories_56 : decode cX0_stories 56 = .ok (.getfield 25, 3) := dk_180 0 25 (dk_at dksX0_stories_2 9 rfl rfl)
theorem dX0_stories_59 : decode cX0_stories 59 = .ok (.if_icmp .ge 56, 3) := dk_162 0 56 (dk_at dksX0_stories_2 12 rfl rfl)
theorem dX0_stories_62 : decode cX0_stories 62 = .ok (.aload 4, 2) := dk_25 4 (dk_at dksX0_stories_2 15 rfl rfl)
theorem dX0_stories_64 : decode cX0_stories 64 = .ok (.aload_n 0, 1) := dk_42 (dk_at dksX0_stories_2 17 rfl rfl)
theorem dX0_stories_65 : decode cX0_stories 65 = .ok (.getfield 49, 3) := dk_180 0 49 (dk_at dksX0_stories_2 18 rfl rfl)
theorem dX0_stories_68 : decode cX0_stories 68 = .ok (.iload 8, 2) := dk_21 8 (dk_at dksX0_stories_2 21 rfl rfl)
theorem dX0_stories_70 : decode cX0_stories 70 = .ok (.invokevirtual 172, 3) := dk_182 0 172 (dk_at dksX0_stories_3 0 rfl rfl)
theorem dX0_stories_73 : decode cX0_stories 73 = .ok (.checkcast 282, 3) := dk_192 1 26 (dk_at dksX0_stories_3 3 rfl rfl)
theorem dX0_stories_76 : decode cX0_stories 76 = .ok (.iload 9, 2) := dk_21 9 (dk_at dksX0_stories_3 6 rfl rfl)
theorem dX0_stories_78 : decode cX0_stories 78 = .ok (.iload_n 2, 1) := dk_28 (dk_at dksX0_stories_3 8 rfl rfl)
theorem dX0_stories_79 : decode cX0_stories 79 = .ok (.invokevirtual 398, 3) := dk_182 1 142 (dk_at dksX0_stories_3 9 rfl rfl)
theorem dX0_stories_82 : decode cX0_stories 82 = .ok (.ifCond .ne 6, 3) := dk_154 0 6 (dk_at dksX0_stories_3 12 rfl rfl)
theorem dX0_stories_85 : decode cX0_stories 85 = .ok (.goto 24, 3) := dk_167 0 24 (dk_at dksX0_stories_3 15 rfl rfl)
theorem dX0_stories_88 : decode cX0_stories 88 = .ok (.iinc 5 1, 3) := dk_132 5 1 (dk_at dksX0_stories_3 18 rfl rfl)
theorem dX0_stories_91 : decode cX0_stories 91 = .ok (.iload 6, 2) := dk_21 6 (dk_at dksX0_stories_3 21 rfl rfl)
theorem dX0_stories_93 : decode cX0_stories 93 = .ok (.iconst 1, 1) := dk_4 (dk_at dksX0_stories_3 23 rfl rfl)
theorem dX0_stories_94 : decode cX0_stories 94 = .ok (.iload 9, 2) := dk_21 9 (dk_at dksX0_stories_4 0 rfl rfl)
theorem dX0_stories_96 : decode cX0_stories 96 = .ok (.ishl, 1) := dk_120 (dk_at dksX0_stories_4 2 rfl rfl)
theorem dX0_stories_97 : decode cX0_stories 97 = .ok (.ior, 1) := dk_128 (dk_at dksX0_stories_4 3 rfl rfl)
theorem dX0_stories_98 : decode cX0_stories 98 = .ok (.istore 6, 2) := dk_54 6 (dk_at dksX0_stories_4 4 rfl rfl)
theorem dX0_stories_100 : decode cX0_stories 100 = .ok (.iload 7, 2) := dk_21 7 (dk_at dksX0_stories_4 6 rfl rfl)
theorem dX0_stories_102 : decode cX0_stories 102 = .ok (.iconst 1, 1) := dk_4 (dk_at dksX0_stories_4 8 rfl rfl)
theorem dX0_stories_103 : decode cX0_stories 103 = .ok (.iload 8, 2) := dk_21 8 (dk_at dksX0_stories_4 9 rfl rfl)
theorem dX0_stories_105 : decode cX0_stories 105 = .ok (.ishl, 1) := dk_120 (dk_at dksX0_stories_4 11 rfl rfl)
theorem dX0_stories_106 : decode cX0_stories 106 = .ok (.ior, 1) := dk_128 (dk_at dksX0_stories_4 12 rfl rfl)
theorem dX0_stories_107 : decode cX0_stories 107 = .ok (.istore 7, 2) := dk_54 7 (dk_at dksX0_stories_4 13 rfl rfl)
theorem dX0_stories_109 : decode cX0_stories 109 = .ok (.iinc 9 1, 3) := dk_132 9 1 (dk_at dksX0_stories_4 15 rfl rfl)
theorem dX0_stories_112 : decode cX0_stories 112 = .ok (.goto (-59), 3) := dk_167 255 197 (dk_at dksX0_stories_4 18 rfl rfl)
theorem dX0_stories_115 : decode cX0_stories 115 = .ok (.iinc 8 1, 3) := dk_132 8 1 (dk_at dksX0_stories_4 21 rfl rfl)
theorem dX0_stories_118 : decode cX0_stories 118 = .ok (.goto (-80), 3) := dk_167 255 176 (dk_at dksX0_stories_5 0 rfl rfl)
theorem dX0_stories_121 : decode cX0_stories 121 = .ok (.iload_n 3, 1) := dk_29 (dk_at dksX0_stories_5 3 rfl rfl)
theorem dX0_stories_122 : decode cX0_stories 122 = .ok (.ifCond .ne 8, 3) := dk_154 0 8 (dk_at dksX0_stories_5 4 rfl rfl)
theorem dX0_stories_125 : decode cX0_stories 125 = .ok (.iload 5, 2) := dk_21 5 (dk_at dksX0_stories_5 7 rfl rfl)
theorem dX0_stories_127 : decode cX0_stories 127 = .ok (.goto 15, 3) := dk_167 0 15 (dk_at dksX0_stories_5 9 rfl rfl)
theorem dX0_stories_130 : decode cX0_stories 130 = .ok (.iload_n 3, 1) := dk_29 (dk_at dksX0_stories_5 12 rfl rfl)
theorem dX0_stories_131 : decode cX0_stories 131 = .ok (.iconst 1, 1) := dk_4 (dk_at dksX0_stories_5 13 rfl rfl)
theorem dX0_stories_132 : decode cX0_stories 132 = .ok (.if_icmp .ne 8, 3) := dk_160 0 8 (dk_at dksX0_stories_5 14 rfl rfl)
theorem dX0_stories_135 : decode cX0_stories 135 = .ok (.iload 6, 2) := dk_21 6 (dk_at dksX0_stories_5 17 rfl rfl)
theorem dX0_stories_137 : decode cX0_stories 137 = .ok (.goto 5, 3) := dk_167 0 5 (dk_at dksX0_stories_5 19 rfl rfl)
theorem dX0_stories_140 : decode cX0_stories 140 = .ok (.iload 7, 2) := dk_21 7 (dk_at dksX0_stories_5 22 rfl rfl)
theorem dX0_stories_142 : decode cX0_stories 142 = .ok (.ireturn, 1) := dk_172 (dk_at dksX0_stories_6 0 rfl rfl)
abbrev cX0_came : ByteArray := prog_1_method_51_code
def yX0_came : MethodName := ⟨RX0, "came", "(I)LRapTable$Came;"⟩
def dkwX0_came_1 : List UInt8 := [167, 0, 4, 1, 176]
abbrev dktX0_came_1 : List UInt8 := dkwX0_came_1 ++ []
def dkwX0_came_0 : List UInt8 := [42, 27, 182, 1, 112, 193, 1, 116, 153, 0, 17, 42, 180, 0, 68, 27, 182, 0, 172, 192, 1, 116]
abbrev dktX0_came_0 : List UInt8 := dkwX0_came_0 ++ dktX0_came_1
theorem dksX0_came_0 : cX0_came.data.toList.drop 0 = dktX0_came_0 := by decide +kernel
theorem dksX0_came_1 : cX0_came.data.toList.drop 22 = dktX0_came_1 := dk_seg dksX0_came_0 22 rfl rfl
theorem dX0_came_0 : decode cX0_came 0 = .ok (.aload_n 0, 1) := dk_42 (dk_at dksX0_came_0 0 rfl rfl)
theorem dX0_came_1 : decode cX0_came 1 = .ok (.iload_n 1, 1) := dk_27 (dk_at dksX0_came_0 1 rfl rfl)
theorem dX0_came_2 : decode cX0_came 2 = .ok (.invokevirtual 368, 3) := dk_182 1 112 (dk_at dksX0_came_0 2 rfl rfl)
theorem dX0_came_5 : decode cX0_came 5 = .ok (.instanceof 372, 3) := dk_193 1 116 (dk_at dksX0_came_0 5 rfl rfl)
theorem dX0_came_8 : decode cX0_came 8 = .ok (.ifCond .eq 17, 3) := dk_153 0 17 (dk_at dksX0_came_0 8 rfl rfl)
theorem dX0_came_11 : decode cX0_came 11 = .ok (.aload_n 0, 1) := dk_42 (dk_at dksX0_came_0 11 rfl rfl)
theorem dX0_came_12 : decode cX0_came 12 = .ok (.getfield 68, 3) := dk_180 0 68 (dk_at dksX0_came_0 12 rfl rfl)
theorem dX0_came_15 : decode cX0_came 15 = .ok (.iload_n 1, 1) := dk_27 (dk_at dksX0_came_0 15 rfl rfl)
theorem dX0_came_16 : decode cX0_came 16 = .ok (.invokevirtual 172, 3) := dk_182 0 172 (dk_at dksX0_came_0 16 rfl rfl)
theorem dX0_came_19 : decode cX0_came 19 = .ok (.checkcast 372, 3) := dk_192 1 116 (dk_at dksX0_came_0 19 rfl rfl)
theorem dX0_came_22 : decode cX0_came 22 = .ok (.goto 4, 3) := dk_167 0 4 (dk_at dksX0_came_1 0 rfl rfl)
theorem dX0_came_25 : decode cX0_came 25 = .ok (.aconst_null, 1) := dk_1 (dk_at dksX0_came_1 3 rfl rfl)
theorem dX0_came_26 : decode cX0_came 26 = .ok (.areturn, 1) := dk_176 (dk_at dksX0_came_1 4 rfl rfl)
abbrev cX0_least : ByteArray := prog_1_method_57_code
def yX0_least : MethodName := ⟨RX0, "least", "(II)I"⟩
def dkwX0_least_9 : List UInt8 := [167, 0, 5, 21, 7, 172]
abbrev dktX0_least_9 : List UInt8 := dkwX0_least_9 ++ []
def dkwX0_least_8 : List UInt8 := [2, 160, 0, 7, 2, 167, 0, 24, 28, 154, 0, 8, 21, 5, 167, 0, 15, 28, 4, 160, 0, 8, 21, 6]
abbrev dktX0_least_8 : List UInt8 := dkwX0_least_8 ++ dktX0_least_9
def dkwX0_least_7 : List UInt8 := [54, 5, 21, 8, 54, 6, 21, 10, 54, 7, 132, 9, 1, 167, 255, 169, 132, 8, 1, 167, 255, 151, 21, 5]
abbrev dktX0_least_7 : List UInt8 := dkwX0_least_7 ++ dktX0_least_8
def dkwX0_least_6 : List UInt8 := [184, 1, 158, 54, 10, 21, 5, 2, 159, 0, 13, 21, 10, 21, 7, 161, 0, 6, 167, 0, 15, 21, 9]
abbrev dktX0_least_6 : List UInt8 := dkwX0_least_6 ++ dktX0_least_7
def dkwX0_least_5 : List UInt8 := [5, 108, 45, 180, 1, 157, 182, 0, 181, 154, 0, 6, 167, 0, 45, 42, 21, 9, 21, 8, 4, 182, 0, 250]
abbrev dktX0_least_5 : List UInt8 := dkwX0_least_5 ++ dktX0_least_6
def dkwX0_least_4 : List UInt8 := [42, 180, 0, 25, 104, 162, 0, 82, 42, 21, 9, 5, 108, 21, 4, 182, 0, 181, 153, 0, 63, 42, 21, 9]
abbrev dktX0_least_4 : List UInt8 := dkwX0_least_4 ++ dktX0_least_5
def dkwX0_least_3 : List UInt8 := [3, 54, 7, 45, 180, 1, 151, 54, 8, 21, 8, 45, 180, 1, 154, 163, 0, 102, 3, 54, 9, 21, 9, 5]
abbrev dktX0_least_3 : List UInt8 := dkwX0_least_3 ++ dktX0_least_4
def dkwX0_least_2 : List UInt8 := [180, 0, 32, 45, 180, 1, 146, 45, 180, 1, 151, 4, 100, 182, 0, 168, 54, 4, 2, 54, 5, 2, 54, 6]
abbrev dktX0_least_2 : List UInt8 := dkwX0_least_2 ++ dktX0_least_3
def dkwX0_least_1 : List UInt8 := [180, 1, 146, 182, 0, 165, 153, 0, 13, 42, 27, 3, 3, 182, 1, 147, 158, 0, 5, 2, 172, 42]
abbrev dktX0_least_1 : List UInt8 := dkwX0_least_1 ++ dktX0_least_2
def dkwX0_least_0 : List UInt8 := [42, 27, 182, 1, 138, 78, 45, 198, 0, 36, 28, 133, 9, 20, 0, 190, 184, 0, 5, 153, 0, 24, 42, 45]
abbrev dktX0_least_0 : List UInt8 := dkwX0_least_0 ++ dktX0_least_1
theorem dksX0_least_0 : cX0_least.data.toList.drop 0 = dktX0_least_0 := by decide +kernel
theorem dksX0_least_1 : cX0_least.data.toList.drop 24 = dktX0_least_1 := dk_seg dksX0_least_0 24 rfl rfl
theorem dksX0_least_2 : cX0_least.data.toList.drop 46 = dktX0_least_2 := dk_seg dksX0_least_1 22 rfl rfl
theorem dksX0_least_3 : cX0_least.data.toList.drop 70 = dktX0_least_3 := dk_seg dksX0_least_2 24 rfl rfl
theorem dksX0_least_4 : cX0_least.data.toList.drop 94 = dktX0_least_4 := dk_seg dksX0_least_3 24 rfl rfl
theorem dksX0_least_5 : cX0_least.data.toList.drop 118 = dktX0_least_5 := dk_seg dksX0_least_4 24 rfl rfl
theorem dksX0_least_6 : cX0_least.data.toList.drop 142 = dktX0_least_6 := dk_seg dksX0_least_5 24 rfl rfl
theorem dksX0_least_7 : cX0_least.data.toList.drop 165 = dktX0_least_7 := dk_seg dksX0_least_6 23 rfl rfl
theorem dksX0_least_8 : cX0_least.data.toList.drop 189 = dktX0_least_8 := dk_seg dksX0_least_7 24 rfl rfl
theorem dksX0_least_9 : cX0_least.data.toList.drop 213 = dktX0_least_9 := dk_seg dksX0_least_8 24 rfl rfl
theorem dX0_least_0 : decode cX0_least 0 = .ok (.aload_n 0, 1) := dk_42 (dk_at dksX0_least_0 0 rfl rfl)
theorem dX0_least_1 : decode cX0_least 1 = .ok (.iload_n 1, 1) := dk_27 (dk_at dksX0_least_0 1 rfl rfl)
theorem dX0_least_2 : decode cX0_least 2 = .ok (.invokevirtual 394, 3) := dk_182 1 138 (dk_at dksX0_least_0 2 rfl rfl)
theorem dX0_least_5 : decode cX0_least 5 = .ok (.astore_n 3, 1) := dk_78 (dk_at dksX0_least_0 5 rfl rfl)
theorem dX0_least_6 : decode cX0_least 6 = .ok (.aload_n 3, 1) := dk_45 (dk_at dksX0_least_0 6 rfl rfl)
theorem dX0_least_7 : decode cX0_least 7 = .ok (.ifnull 36, 3) := dk_198 0 36 (dk_at dksX0_least_0 7 rfl rfl)
theorem dX0_least_10 : decode cX0_least 10 = .ok (.iload_n 2, 1) := dk_28 (dk_at dksX0_least_0 10 rfl rfl)
theorem dX0_least_11 : decode cX0_least 11 = .ok (.i2l, 1) := dk_133 (dk_at dksX0_least_0 11 rfl rfl)
theorem dX0_least_12 : decode cX0_least 12 = .ok (.lconst 0, 1) := dk_9 (dk_at dksX0_least_0 12 rfl rfl)
theorem dX0_least_13 : decode cX0_least 13 = .ok (.ldc2_w 190, 3) := dk_20 0 190 (dk_at dksX0_least_0 13 rfl rfl)
theorem dX0_least_16 : decode cX0_least 16 = .ok (.invokestatic 5, 3) := dk_184 0 5 (dk_at dksX0_least_0 16 rfl rfl)
theorem dX0_least_19 : decode cX0_least 19 = .ok (.ifCond .eq 24, 3) := dk_153 0 24 (dk_at dksX0_least_0 19 rfl rfl)
theorem dX0_least_22 : decode cX0_least 22 = .ok (.aload_n 0, 1) := dk_42 (dk_at dksX0_least_0 22 rfl rfl)
theorem dX0_least_23 : decode cX0_least 23 = .ok (.aload_n 3, 1) := dk_45 (dk_at dksX0_least_0 23 rfl rfl)
theorem dX0_least_24 : decode cX0_least 24 = .ok (.getfield 402, 3) := dk_180 1 146 (dk_at dksX0_least_1 0 rfl rfl)
theorem dX0_least_27 : decode cX0_least 27 = .ok (.invokevirtual 165, 3) := dk_182 0 165 (dk_at dksX0_least_1 3 rfl rfl)
theorem dX0_least_30 : decode cX0_least 30 = .ok (.ifCond .eq 13, 3) := dk_153 0 13 (dk_at dksX0_least_1 6 rfl rfl)
theorem dX0_least_33 : decode cX0_least 33 = .ok (.aload_n 0, 1) := dk_42 (dk_at dksX0_least_1 9 rfl rfl)
theorem dX0_least_34 : decode cX0_least 34 = .ok (.iload_n 1, 1) := dk_27 (dk_at dksX0_least_1 10 rfl rfl)
theorem dX0_least_35 : decode cX0_least 35 = .ok (.iconst 0, 1) := dk_3 (dk_at dksX0_least_1 11 rfl rfl)
theorem dX0_least_36 : decode cX0_least 36 = .ok (.iconst 0, 1) := dk_3 (dk_at dksX0_least_1 12 rfl rfl)
theorem dX0_least_37 : decode cX0_least 37 = .ok (.invokevirtual 403, 3) := dk_182 1 147 (dk_at dksX0_least_1 13 rfl rfl)
theorem dX0_least_40 : decode cX0_least 40 = .ok (.ifCond .le 5, 3) := dk_158 0 5 (dk_at dksX0_least_1 16 rfl rfl)
theorem dX0_least_43 : decode cX0_least 43 = .ok (.iconst (-1), 1) := dk_2 (dk_at dksX0_least_1 19 rfl rfl)
theorem dX0_least_44 : decode cX0_least 44 = .ok (.ireturn, 1) := dk_172 (dk_at dksX0_least_1 20 rfl rfl)
theorem dX0_least_45 : decode cX0_least 45 = .ok (.aload_n 0, 1) := dk_42 (dk_at dksX0_least_1 21 rfl rfl)
theorem dX0_least_46 : decode cX0_least 46 = .ok (.getfield 32, 3) := dk_180 0 32 (dk_at dksX0_least_2 0 rfl rfl)
theorem dX0_least_49 : decode cX0_least 49 = .ok (.aload_n 3, 1) := dk_45 (dk_at dksX0_least_2 3 rfl rfl)
theorem dX0_least_50 : decode cX0_least 50 = .ok (.getfield 402, 3) := dk_180 1 146 (dk_at dksX0_least_2 4 rfl rfl)
theorem dX0_least_53 : decode cX0_least 53 = .ok (.aload_n 3, 1) := dk_45 (dk_at dksX0_least_2 7 rfl rfl)
theorem dX0_least_54 : decode cX0_least 54 = .ok (.getfield 407, 3) := dk_180 1 151 (dk_at dksX0_least_2 8 rfl rfl)
theorem dX0_least_57 : decode cX0_least 57 = .ok (.iconst 1, 1) := dk_4 (dk_at dksX0_least_2 11 rfl rfl)
theorem dX0_least_58 : decode cX0_least 58 = .ok (.isub, 1) := dk_100 (dk_at dksX0_least_2 12 rfl rfl)
theorem dX0_least_59 : decode cX0_least 59 = .ok (.invokevirtual 168, 3) := dk_182 0 168 (dk_at dksX0_least_2 13 rfl rfl)
theorem dX0_least_62 : decode cX0_least 62 = .ok (.istore 4, 2) := dk_54 4 (dk_at dksX0_least_2 16 rfl rfl)
theorem dX0_least_64 : decode cX0_least 64 = .ok (.iconst (-1), 1) := dk_2 (dk_at dksX0_least_2 18 rfl rfl)
theorem dX0_least_65 : decode cX0_least 65 = .ok (.istore 5, 2) := dk_54 5 (dk_at dksX0_least_2 19 rfl rfl)
theorem dX0_least_67 : decode cX0_least 67 = .ok (.iconst (-1), 1) := dk_2 (dk_at dksX0_least_2 21 rfl rfl)
theorem dX0_least_68 : decode cX0_least 68 = .ok (.istore 6, 2) := dk_54 6 (dk_at dksX0_least_2 22 rfl rfl)
theorem dX0_least_70 : decode cX0_least 70 = .ok (.iconst 0, 1) := dk_3 (dk_at dksX0_least_3 0 rfl rfl)
theorem dX0_least_71 : decode cX0_least 71 = .ok (.istore 7, 2) := dk_54 7 (dk_at dksX0_least_3 1 rfl rfl)
theorem dX0_least_73 : decode cX0_least 73 = .ok (.aload_n 3, 1) := dk_45 (dk_at dksX0_least_3 3 rfl rfl)
theorem dX0_least_74 : decode cX0_least 74 = .ok (.getfield 407, 3) := dk_180 1 151 (dk_at dksX0_least_3 4 rfl rfl)
theorem dX0_least_77 : decode cX0_least 77 = .ok (.istore 8, 2) := dk_54 8 (dk_at dksX0_least_3 7 rfl rfl)
theorem dX0_least_79 : decode cX0_least 79 = .ok (.iload 8, 2) := dk_21 8 (dk_at dksX0_least_3 9 rfl rfl)
theorem dX0_least_81 : decode cX0_least 81 = .ok (.aload_n 3, 1) := dk_45 (dk_at dksX0_least_3 11 rfl rfl)
theorem dX0_least_82 : decode cX0_least 82 = .ok (.getfield 410, 3) := dk_180 1 154 (dk_at dksX0_least_3 12 rfl rfl)
theorem dX0_least_85 : decode cX0_least 85 = .ok (.if_icmp .gt 102, 3) := dk_163 0 102 (dk_at dksX0_least_3 15 rfl rfl)
theorem dX0_least_88 : decode cX0_least 88 = .ok (.iconst 0, 1) := dk_3 (dk_at dksX0_least_3 18 rfl rfl)
theorem dX0_least_89 : decode cX0_least 89 = .ok (.istore 9, 2) := dk_54 9 (dk_at dksX0_least_3 19 rfl rfl)
theorem dX0_least_91 : decode cX0_least 91 = .ok (.iload 9, 2) := dk_21 9 (dk_at dksX0_least_3 21 rfl rfl)
theorem dX0_least_93 : decode cX0_least 93 = .ok (.iconst 2, 1) := dk_5 (dk_at dksX0_least_3 23 rfl rfl)
theorem dX0_least_94 : decode cX0_least 94 = .ok (.aload_n 0, 1) := dk_42 (dk_at dksX0_least_4 0 rfl rfl)
theorem dX0_least_95 : decode cX0_least 95 = .ok (.getfield 25, 3) := dk_180 0 25 (dk_at dksX0_least_4 1 rfl rfl)
theorem dX0_least_98 : decode cX0_least 98 = .ok (.imul, 1) := dk_104 (dk_at dksX0_least_4 4 rfl rfl)
theorem dX0_least_99 : decode cX0_least 99 = .ok (.if_icmp .ge 82, 3) := dk_162 0 82 (dk_at dksX0_least_4 5 rfl rfl)
theorem dX0_least_102 : decode cX0_least 102 = .ok (.aload_n 0, 1) := dk_42 (dk_at dksX0_least_4 8 rfl rfl)
theorem dX0_least_103 : decode cX0_least 103 = .ok (.iload 9, 2) := dk_21 9 (dk_at dksX0_least_4 9 rfl rfl)
theorem dX0_least_105 : decode cX0_least 105 = .ok (.iconst 2, 1) := dk_5 (dk_at dksX0_least_4 11 rfl rfl)
theorem dX0_least_106 : decode cX0_least 106 = .ok (.idiv, 1) := dk_108 (dk_at dksX0_least_4 12 rfl rfl)
theorem dX0_least_107 : decode cX0_least 107 = .ok (.iload 4, 2) := dk_21 4 (dk_at dksX0_least_4 13 rfl rfl)
theorem dX0_least_109 : decode cX0_least 109 = .ok (.invokevirtual 181, 3) := dk_182 0 181 (dk_at dksX0_least_4 15 rfl rfl)
theorem dX0_least_112 : decode cX0_least 112 = .ok (.ifCond .eq 63, 3) := dk_153 0 63 (dk_at dksX0_least_4 18 rfl rfl)
theorem dX0_least_115 : decode cX0_least 115 = .ok (.aload_n 0, 1) := dk_42 (dk_at dksX0_least_4 21 rfl rfl)
theorem dX0_least_116 : decode cX0_least 116 = .ok (.iload 9, 2) := dk_21 9 (dk_at dksX0_least_4 22 rfl rfl)
theorem dX0_least_118 : decode cX0_least 118 = .ok (.iconst 2, 1) := dk_5 (dk_at dksX0_least_5 0 rfl rfl)
theorem dX0_least_119 : decode cX0_least 119 = .ok (.idiv, 1) := dk_108 (dk_at dksX0_least_5 1 rfl rfl)
theorem dX0_least_120 : decode cX0_least 120 = .ok (.aload_n 3, 1) := dk_45 (dk_at dksX0_least_5 2 rfl rfl)
theorem dX0_least_121 : decode cX0_least 121 = .ok (.getfield 413, 3) := dk_180 1 157 (dk_at dksX0_least_5 3 rfl rfl)
theorem dX0_least_124 : decode cX0_least 124 = .ok (.invokevirtual 181, 3) := dk_182 0 181 (dk_at dksX0_least_5 6 rfl rfl)
theorem dX0_least_127 : decode cX0_least 127 = .ok (.ifCond .ne 6, 3) := dk_154 0 6 (dk_at dksX0_least_5 9 rfl rfl)
theorem dX0_least_130 : decode cX0_least 130 = .ok (.goto 45, 3) := dk_167 0 45 (dk_at dksX0_least_5 12 rfl rfl)
theorem dX0_least_133 : decode cX0_least 133 = .ok (.aload_n 0, 1) := dk_42 (dk_at dksX0_least_5 15 rfl rfl)
theorem dX0_least_134 : decode cX0_least 134 = .ok (.iload 9, 2) := dk_21 9 (dk_at dksX0_least_5 16 rfl rfl)
theorem dX0_least_136 : decode cX0_least 136 = .ok (.iload 8, 2) := dk_21 8 (dk_at dksX0_least_5 18 rfl rfl)
theorem dX0_least_138 : decode cX0_least 138 = .ok (.iconst 1, 1) := dk_4 (dk_at dksX0_least_5 20 rfl rfl)
theorem dX0_least_139 : decode cX0_least 139 = .ok (.invokevirtual 250, 3) := dk_182 0 250 (dk_at dksX0_least_5 21 rfl rfl)
theorem dX0_least_142 : decode cX0_least 142 = .ok (.invokestatic 414, 3) := dk_184 1 158 (dk_at dksX0_least_6 0 rfl rfl)
theorem dX0_least_145 : decode cX0_least 145 = .ok (.istore 10, 2) := dk_54 10 (dk_at dksX0_least_6 3 rfl rfl)
theorem dX0_least_147 : decode cX0_least 147 = .ok (.iload 5, 2) := dk_21 5 (dk_at dksX0_least_6 5 rfl rfl)
theorem dX0_least_149 : decode cX0_least 149 = .ok (.iconst (-1), 1) := dk_2 (dk_at dksX0_least_6 7 rfl rfl)
theorem dX0_least_150 : decode cX0_least 150 = .ok (.if_icmp .eq 13, 3) := dk_159 0 13 (dk_at dksX0_least_6 8 rfl rfl)
theorem dX0_least_153 : decode cX0_least 153 = .ok (.iload 10, 2) := dk_21 10 (dk_at dksX0_least_6 11 rfl rfl)
theorem dX0_least_155 : decode cX0_least 155 = .ok (.iload 7, 2) := dk_21 7 (dk_at dksX0_least_6 13 rfl rfl)
theorem dX0_least_157 : decode cX0_least 157 = .ok (.if_icmp .lt 6, 3) := dk_161 0 6 (dk_at dksX0_least_6 15 rfl rfl)
theorem dX0_least_160 : decode cX0_least 160 = .ok (.goto 15, 3) := dk_167 0 15 (dk_at dksX0_least_6 18 rfl rfl)
theorem dX0_least_163 : decode cX0_least 163 = .ok (.iload 9, 2) := dk_21 9 (dk_at dksX0_least_6 21 rfl rfl)
theorem dX0_least_165 : decode cX0_least 165 = .ok (.istore 5, 2) := dk_54 5 (dk_at dksX0_least_7 0 rfl rfl)
theorem dX0_least_167 : decode cX0_least 167 = .ok (.iload 8, 2) := dk_21 8 (dk_at dksX0_least_7 2 rfl rfl)
theorem dX0_least_169 : decode cX0_least 169 = .ok (.istore 6, 2) := dk_54 6 (dk_at dksX0_least_7 4 rfl rfl)
theorem dX0_least_171 : decode cX0_least 171 = .ok (.iload 10, 2) := dk_21 10 (dk_at dksX0_least_7 6 rfl rfl)
theorem dX0_least_173 : decode cX0_least 173 = .ok (.istore 7, 2) := dk_54 7 (dk_at dksX0_least_7 8 rfl rfl)
theorem dX0_least_175 : decode cX0_least 175 = .ok (.iinc 9 1, 3) := dk_132 9 1 (dk_at dksX0_least_7 10 rfl rfl)
theorem dX0_least_178 : decode cX0_least 178 = .ok (.goto (-87), 3) := dk_167 255 169 (dk_at dksX0_least_7 13 rfl rfl)
theorem dX0_least_181 : decode cX0_least 181 = .ok (.iinc 8 1, 3) := dk_132 8 1 (dk_at dksX0_least_7 16 rfl rfl)
theorem dX0_least_184 : decode cX0_least 184 = .ok (.goto (-105), 3) := dk_167 255 151 (dk_at dksX0_least_7 19 rfl rfl)
theorem dX0_least_187 : decode cX0_least 187 = .ok (.iload 5, 2) := dk_21 5 (dk_at dksX0_least_7 22 rfl rfl)
theorem dX0_least_189 : decode cX0_least 189 = .ok (.iconst (-1), 1) := dk_2 (dk_at dksX0_least_8 0 rfl rfl)
theorem dX0_least_190 : decode cX0_least 190 = .ok (.if_icmp .ne 7, 3) := dk_160 0 7 (dk_at dksX0_least_8 1 rfl rfl)
theorem dX0_least_193 : decode cX0_least 193 = .ok (.iconst (-1), 1) := dk_2 (dk_at dksX0_least_8 4 rfl rfl)
theorem dX0_least_194 : decode cX0_least 194 = .ok (.goto 24, 3) := dk_167 0 24 (dk_at dksX0_least_8 5 rfl rfl)
theorem dX0_least_197 : decode cX0_least 197 = .ok (.iload_n 2, 1) := dk_28 (dk_at dksX0_least_8 8 rfl rfl)
theorem dX0_least_198 : decode cX0_least 198 = .ok (.ifCond .ne 8, 3) := dk_154 0 8 (dk_at dksX0_least_8 9 rfl rfl)
theorem dX0_least_201 : decode cX0_least 201 = .ok (.iload 5, 2) := dk_21 5 (dk_at dksX0_least_8 12 rfl rfl)
theorem dX0_least_203 : decode cX0_least 203 = .ok (.goto 15, 3) := dk_167 0 15 (dk_at dksX0_least_8 14 rfl rfl)
theorem dX0_least_206 : decode cX0_least 206 = .ok (.iload_n 2, 1) := dk_28 (dk_at dksX0_least_8 17 rfl rfl)
theorem dX0_least_207 : decode cX0_least 207 = .ok (.iconst 1, 1) := dk_4 (dk_at dksX0_least_8 18 rfl rfl)
theorem dX0_least_208 : decode cX0_least 208 = .ok (.if_icmp .ne 8, 3) := dk_160 0 8 (dk_at dksX0_least_8 19 rfl rfl)
theorem dX0_least_211 : decode cX0_least 211 = .ok (.iload 6, 2) := dk_21 6 (dk_at dksX0_least_8 22 rfl rfl)
theorem dX0_least_213 : decode cX0_least 213 = .ok (.goto 5, 3) := dk_167 0 5 (dk_at dksX0_least_9 0 rfl rfl)
theorem dX0_least_216 : decode cX0_least 216 = .ok (.iload 7, 2) := dk_21 7 (dk_at dksX0_least_9 3 rfl rfl)
theorem dX0_least_218 : decode cX0_least 218 = .ok (.ireturn, 1) := dk_172 (dk_at dksX0_least_9 5 rfl rfl)
abbrev cX0_record : ByteArray := prog_1_method_58_code
def yX0_record : MethodName := ⟨RX0, "record", "(II)I"⟩
def dkwX0_record_6 : List UInt8 := [167, 255, 139, 29, 172]
abbrev dktX0_record_6 : List UInt8 := dkwX0_record_6 ++ []
def dkwX0_record_5 : List UInt8 := [7, 160, 0, 17, 21, 7, 153, 0, 12, 21, 6, 154, 0, 7, 4, 167, 0, 4, 3, 96, 62, 132, 4, 1]
abbrev dktX0_record_5 : List UInt8 := dkwX0_record_5 ++ dktX0_record_6
def dkwX0_record_4 : List UInt8 := [160, 0, 8, 21, 7, 154, 0, 33, 28, 6, 160, 0, 13, 21, 6, 153, 0, 8, 21, 7, 153, 0, 18, 28]
abbrev dktX0_record_4 : List UInt8 := dkwX0_record_4 ++ dktX0_record_5
def dkwX0_record_3 : List UInt8 := [25, 5, 182, 1, 131, 54, 7, 29, 28, 153, 0, 53, 28, 4, 160, 0, 8, 21, 6, 154, 0, 43, 28, 5]
abbrev dktX0_record_3 : List UInt8 := dkwX0_record_3 ++ dktX0_record_4
def dkwX0_record_2 : List UInt8 := [192, 1, 110, 58, 5, 25, 5, 180, 1, 163, 27, 159, 0, 6, 167, 0, 79, 25, 5, 182, 1, 128, 54, 6]
abbrev dktX0_record_2 : List UInt8 := dkwX0_record_2 ++ dktX0_record_3
def dkwX0_record_1 : List UInt8 := [3, 54, 4, 21, 4, 42, 180, 0, 68, 182, 0, 137, 162, 0, 111, 42, 180, 0, 68, 21, 4, 182, 0, 172]
abbrev dktX0_record_1 : List UInt8 := dkwX0_record_1 ++ dktX0_record_2
def dkwX0_record_0 : List UInt8 := [42, 27, 182, 0, 108, 153, 0, 15, 28, 133, 9, 20, 0, 248, 184, 0, 5, 154, 0, 5, 2, 172, 3, 62]
abbrev dktX0_record_0 : List UInt8 := dkwX0_record_0 ++ dktX0_record_1
theorem dksX0_record_0 : cX0_record.data.toList.drop 0 = dktX0_record_0 := by decide +kernel
theorem dksX0_record_1 : cX0_record.data.toList.drop 24 = dktX0_record_1 := dk_seg dksX0_record_0 24 rfl rfl
theorem dksX0_record_2 : cX0_record.data.toList.drop 48 = dktX0_record_2 := dk_seg dksX0_record_1 24 rfl rfl
theorem dksX0_record_3 : cX0_record.data.toList.drop 72 = dktX0_record_3 := dk_seg dksX0_record_2 24 rfl rfl
theorem dksX0_record_4 : cX0_record.data.toList.drop 96 = dktX0_record_4 := dk_seg dksX0_record_3 24 rfl rfl
theorem dksX0_record_5 : cX0_record.data.toList.drop 120 = dktX0_record_5 := dk_seg dksX0_record_4 24 rfl rfl
theorem dksX0_record_6 : cX0_record.data.toList.drop 144 = dktX0_record_6 := dk_seg dksX0_record_5 24 rfl rfl
theorem dX0_record_0 : decode cX0_record 0 = .ok (.aload_n 0, 1) := dk_42 (dk_at dksX0_record_0 0 rfl rfl)
theorem dX0_record_1 : decode cX0_record 1 = .ok (.iload_n 1, 1) := dk_27 (dk_at dksX0_record_0 1 rfl rfl)
theorem dX0_record_2 : decode cX0_record 2 = .ok (.invokevirtual 108, 3) := dk_182 0 108 (dk_at dksX0_record_0 2 rfl rfl)
theorem dX0_record_5 : decode cX0_record 5 = .ok (.ifCond .eq 15, 3) := dk_153 0 15 (dk_at dksX0_record_0 5 rfl rfl)
theorem dX0_record_8 : decode cX0_record 8 = .ok (.iload_n 2, 1) := dk_28 (dk_at dksX0_record_0 8 rfl rfl)
theorem dX0_record_9 : decode cX0_record 9 = .ok (.i2l, 1) := dk_133 (dk_at dksX0_record_0 9 rfl rfl)
theorem dX0_record_10 : decode cX0_record 10 = .ok (.lconst 0, 1) := dk_9 (dk_at dksX0_record_0 10 rfl rfl)
theorem dX0_record_11 : decode cX0_record 11 = .ok (.ldc2_w 248, 3) := dk_20 0 248 (dk_at dksX0_record_0 11 rfl rfl)
theorem dX0_record_14 : decode cX0_record 14 = .ok (.invokestatic 5, 3) := dk_184 0 5 (dk_at dksX0_record_0 14 rfl rfl)
theorem dX0_record_17 : decode cX0_record 17 = .ok (.ifCond .ne 5, 3) := dk_154 0 5 (dk_at dksX0_record_0 17 rfl rfl)
theorem dX0_record_20 : decode cX0_record 20 = .ok (.iconst (-1), 1) := dk_2 (dk_at dksX0_record_0 20 rfl rfl)
theorem dX0_record_21 : decode cX0_record 21 = .ok (.ireturn, 1) := dk_172 (dk_at dksX0_record_0 21 rfl rfl)
theorem dX0_record_22 : decode cX0_record 22 = .ok (.iconst 0, 1) := dk_3 (dk_at dksX0_record_0 22 rfl rfl)
theorem dX0_record_23 : decode cX0_record 23 = .ok (.istore_n 3, 1) := dk_62 (dk_at dksX0_record_0 23 rfl rfl)
theorem dX0_record_24 : decode cX0_record 24 = .ok (.iconst 0, 1) := dk_3 (dk_at dksX0_record_1 0 rfl rfl)
theorem dX0_record_25 : decode cX0_record 25 = .ok (.istore 4, 2) := dk_54 4 (dk_at dksX0_record_1 1 rfl rfl)
theorem dX0_record_27 : decode cX0_record 27 = .ok (.iload 4, 2) := dk_21 4 (dk_at dksX0_record_1 3 rfl rfl)
theorem dX0_record_29 : decode cX0_record 29 = .ok (.aload_n 0, 1) := dk_42 (dk_at dksX0_record_1 5 rfl rfl)
theorem dX0_record_30 : decode cX0_record 30 = .ok (.getfield 68, 3) := dk_180 0 68 (dk_at dksX0_record_1 6 rfl rfl)
theorem dX0_record_33 : decode cX0_record 33 = .ok (.invokevirtual 137, 3) := dk_182 0 137 (dk_at dksX0_record_1 9 rfl rfl)
theorem dX0_record_36 : decode cX0_record 36 = .ok (.if_icmp .ge 111, 3) := dk_162 0 111 (dk_at dksX0_record_1 12 rfl rfl)
theorem dX0_record_39 : decode cX0_record 39 = .ok (.aload_n 0, 1) := dk_42 (dk_at dksX0_record_1 15 rfl rfl)
theorem dX0_record_40 : decode cX0_record 40 = .ok (.getfield 68, 3) := dk_180 0 68 (dk_at dksX0_record_1 16 rfl rfl)
theorem dX0_record_43 : decode cX0_record 43 = .ok (.iload 4, 2) := dk_21 4 (dk_at dksX0_record_1 19 rfl rfl)
theorem dX0_record_45 : decode cX0_record 45 = .ok (.invokevirtual 172, 3) := dk_182 0 172 (dk_at dksX0_record_1 21 rfl rfl)
theorem dX0_record_48 : decode cX0_record 48 = .ok (.checkcast 366, 3) := dk_192 1 110 (dk_at dksX0_record_2 0 rfl rfl)
theorem dX0_record_51 : decode cX0_record 51 = .ok (.astore 5, 2) := dk_58 5 (dk_at dksX0_record_2 3 rfl rfl)
theorem dX0_record_53 : decode cX0_record 53 = .ok (.aload 5, 2) := dk_25 5 (dk_at dksX0_record_2 5 rfl rfl)
theorem dX0_record_55 : decode cX0_record 55 = .ok (.getfield 419, 3) := dk_180 1 163 (dk_at dksX0_record_2 7 rfl rfl)
theorem dX0_record_58 : decode cX0_record 58 = .ok (.iload_n 1, 1) := dk_27 (dk_at dksX0_record_2 10 rfl rfl)
theorem dX0_record_59 : decode cX0_record 59 = .ok (.if_icmp .eq 6, 3) := dk_159 0 6 (dk_at dksX0_record_2 11 rfl rfl)
theorem dX0_record_62 : decode cX0_record 62 = .ok (.goto 79, 3) := dk_167 0 79 (dk_at dksX0_record_2 14 rfl rfl)
theorem dX0_record_65 : decode cX0_record 65 = .ok (.aload 5, 2) := dk_25 5 (dk_at dksX0_record_2 17 rfl rfl)
theorem dX0_record_67 : decode cX0_record 67 = .ok (.invokevirtual 384, 3) := dk_182 1 128 (dk_at dksX0_record_2 19 rfl rfl)
theorem dX0_record_70 : decode cX0_record 70 = .ok (.istore 6, 2) := dk_54 6 (dk_at dksX0_record_2 22 rfl rfl)
theorem dX0_record_72 : decode cX0_record 72 = .ok (.aload 5, 2) := dk_25 5 (dk_at dksX0_record_3 0 rfl rfl)
theorem dX0_record_74 : decode cX0_record 74 = .ok (.invokevirtual 387, 3) := dk_182 1 131 (dk_at dksX0_record_3 2 rfl rfl)
theorem dX0_record_77 : decode cX0_record 77 = .ok (.istore 7, 2) := dk_54 7 (dk_at dksX0_record_3 5 rfl rfl)
theorem dX0_record_79 : decode cX0_record 79 = .ok (.iload_n 3, 1) := dk_29 (dk_at dksX0_record_3 7 rfl rfl)
theorem dX0_record_80 : decode cX0_record 80 = .ok (.iload_n 2, 1) := dk_28 (dk_at dksX0_record_3 8 rfl rfl)
theorem dX0_record_81 : decode cX0_record 81 = .ok (.ifCond .eq 53, 3) := dk_153 0 53 (dk_at dksX0_record_3 9 rfl rfl)
theorem dX0_record_84 : decode cX0_record 84 = .ok (.iload_n 2, 1) := dk_28 (dk_at dksX0_record_3 12 rfl rfl)
theorem dX0_record_85 : decode cX0_record 85 = .ok (.iconst 1, 1) := dk_4 (dk_at dksX0_record_3 13 rfl rfl)
theorem dX0_record_86 : decode cX0_record 86 = .ok (.if_icmp .ne 8, 3) := dk_160 0 8 (dk_at dksX0_record_3 14 rfl rfl)
theorem dX0_record_89 : decode cX0_record 89 = .ok (.iload 6, 2) := dk_21 6 (dk_at dksX0_record_3 17 rfl rfl)
theorem dX0_record_91 : decode cX0_record 91 = .ok (.ifCond .ne 43, 3) := dk_154 0 43 (dk_at dksX0_record_3 19 rfl rfl)
theorem dX0_record_94 : decode cX0_record 94 = .ok (.iload_n 2, 1) := dk_28 (dk_at dksX0_record_3 22 rfl rfl)
theorem dX0_record_95 : decode cX0_record 95 = .ok (.iconst 2, 1) := dk_5 (dk_at dksX0_record_3 23 rfl rfl)
theorem dX0_record_96 : decode cX0_record 96 = .ok (.if_icmp .ne 8, 3) := dk_160 0 8 (dk_at dksX0_record_4 0 rfl rfl)
theorem dX0_record_99 : decode cX0_record 99 = .ok (.iload 7, 2) := dk_21 7 (dk_at dksX0_record_4 3 rfl rfl)
theorem dX0_record_101 : decode cX0_record 101 = .ok (.ifCond .ne 33, 3) := dk_154 0 33 (dk_at dksX0_record_4 5 rfl rfl)
theorem dX0_record_104 : decode cX0_record 104 = .ok (.iload_n 2, 1) := dk_28 (dk_at dksX0_record_4 8 rfl rfl)
theorem dX0_record_105 : decode cX0_record 105 = .ok (.iconst 3, 1) := dk_6 (dk_at dksX0_record_4 9 rfl rfl)
theorem dX0_record_106 : decode cX0_record 106 = .ok (.if_icmp .ne 13, 3) := dk_160 0 13 (dk_at dksX0_record_4 10 rfl rfl)
theorem dX0_record_109 : decode cX0_record 109 = .ok (.iload 6, 2) := dk_21 6 (dk_at dksX0_record_4 13 rfl rfl)
theorem dX0_record_111 : decode cX0_record 111 = .ok (.ifCond .eq 8, 3) := dk_153 0 8 (dk_at dksX0_record_4 15 rfl rfl)
theorem dX0_record_114 : decode cX0_record 114 = .ok (.iload 7, 2) := dk_21 7 (dk_at dksX0_record_4 18 rfl rfl)
theorem dX0_record_116 : decode cX0_record 116 = .ok (.ifCond .eq 18, 3) := dk_153 0 18 (dk_at dksX0_record_4 20 rfl rfl)
theorem dX0_record_119 : decode cX0_record 119 = .ok (.iload_n 2, 1) := dk_28 (dk_at dksX0_record_4 23 rfl rfl)
theorem dX0_record_120 : decode cX0_record 120 = .ok (.iconst 4, 1) := dk_7 (dk_at dksX0_record_5 0 rfl rfl)
theorem dX0_record_121 : decode cX0_record 121 = .ok (.if_icmp .ne 17, 3) := dk_160 0 17 (dk_at dksX0_record_5 1 rfl rfl)
theorem dX0_record_124 : decode cX0_record 124 = .ok (.iload 7, 2) := dk_21 7 (dk_at dksX0_record_5 4 rfl rfl)
theorem dX0_record_126 : decode cX0_record 126 = .ok (.ifCond .eq 12, 3) := dk_153 0 12 (dk_at dksX0_record_5 6 rfl rfl)
theorem dX0_record_129 : decode cX0_record 129 = .ok (.iload 6, 2) := dk_21 6 (dk_at dksX0_record_5 9 rfl rfl)
theorem dX0_record_131 : decode cX0_record 131 = .ok (.ifCond .ne 7, 3) := dk_154 0 7 (dk_at dksX0_record_5 11 rfl rfl)
theorem dX0_record_134 : decode cX0_record 134 = .ok (.iconst 1, 1) := dk_4 (dk_at dksX0_record_5 14 rfl rfl)
theorem dX0_record_135 : decode cX0_record 135 = .ok (.goto 4, 3) := dk_167 0 4 (dk_at dksX0_record_5 15 rfl rfl)
theorem dX0_record_138 : decode cX0_record 138 = .ok (.iconst 0, 1) := dk_3 (dk_at dksX0_record_5 18 rfl rfl)
theorem dX0_record_139 : decode cX0_record 139 = .ok (.iadd, 1) := dk_96 (dk_at dksX0_record_5 19 rfl rfl)
theorem dX0_record_140 : decode cX0_record 140 = .ok (.istore_n 3, 1) := dk_62 (dk_at dksX0_record_5 20 rfl rfl)
theorem dX0_record_141 : decode cX0_record 141 = .ok (.iinc 4 1, 3) := dk_132 4 1 (dk_at dksX0_record_5 21 rfl rfl)
theorem dX0_record_144 : decode cX0_record 144 = .ok (.goto (-117), 3) := dk_167 255 139 (dk_at dksX0_record_6 0 rfl rfl)
theorem dX0_record_147 : decode cX0_record 147 = .ok (.iload_n 3, 1) := dk_29 (dk_at dksX0_record_6 3 rfl rfl)
theorem dX0_record_148 : decode cX0_record 148 = .ok (.ireturn, 1) := dk_172 (dk_at dksX0_record_6 4 rfl rfl)
abbrev cX0_pass : ByteArray := prog_1_method_59_code
def yX0_pass : MethodName := ⟨RX0, "pass", "(IIIIII)I"⟩
def dkwX0_pass_5 : List UInt8 := [182, 1, 174, 42, 180, 0, 74, 180, 1, 177, 21, 6, 46, 172]
abbrev dktX0_pass_5 : List UInt8 := dkwX0_pass_5 ++ []
def dkwX0_pass_4 : List UInt8 := [161, 0, 16, 21, 6, 2, 160, 0, 8, 21, 8, 167, 0, 4, 2, 172, 42, 180, 0, 74, 21, 7]
abbrev dktX0_pass_4 : List UInt8 := dkwX0_pass_4 ++ dktX0_pass_5
def dkwX0_pass_3 : List UInt8 := [182, 1, 170, 54, 8, 21, 6, 2, 159, 0, 18, 21, 8, 2, 159, 0, 12, 21, 6, 6, 21, 8, 104]
abbrev dktX0_pass_3 : List UInt8 := dkwX0_pass_3 ++ dktX0_pass_4
def dkwX0_pass_2 : List UInt8 := [182, 1, 164, 42, 180, 0, 74, 29, 182, 1, 167, 42, 180, 0, 74, 21, 7, 28, 21, 4, 21, 5]
abbrev dktX0_pass_2 : List UInt8 := dkwX0_pass_2 ++ dktX0_pass_3
def dkwX0_pass_1 : List UInt8 := [162, 0, 5, 2, 172, 42, 180, 0, 32, 27, 21, 4, 4, 100, 182, 0, 168, 54, 7, 42, 180, 0, 74]
abbrev dktX0_pass_1 : List UInt8 := dkwX0_pass_1 ++ dktX0_pass_2
def dkwX0_pass_0 : List UInt8 := [42, 27, 28, 21, 4, 21, 5, 182, 1, 64, 153, 0, 17, 42, 29, 182, 1, 61, 153, 0, 9, 21, 6, 2]
abbrev dktX0_pass_0 : List UInt8 := dkwX0_pass_0 ++ dktX0_pass_1
theorem dksX0_pass_0 : cX0_pass.data.toList.drop 0 = dktX0_pass_0 := by decide +kernel
theorem dksX0_pass_1 : cX0_pass.data.toList.drop 24 = dktX0_pass_1 := dk_seg dksX0_pass_0 24 rfl rfl
theorem dksX0_pass_2 : cX0_pass.data.toList.drop 47 = dktX0_pass_2 := dk_seg dksX0_pass_1 23 rfl rfl
theorem dksX0_pass_3 : cX0_pass.data.toList.drop 69 = dktX0_pass_3 := dk_seg dksX0_pass_2 22 rfl rfl
theorem dksX0_pass_4 : cX0_pass.data.toList.drop 92 = dktX0_pass_4 := dk_seg dksX0_pass_3 23 rfl rfl
theorem dksX0_pass_5 : cX0_pass.data.toList.drop 114 = dktX0_pass_5 := dk_seg dksX0_pass_4 22 rfl rfl
theorem dX0_pass_0 : decode cX0_pass 0 = .ok (.aload_n 0, 1) := dk_42 (dk_at dksX0_pass_0 0 rfl rfl)
theorem dX0_pass_1 : decode cX0_pass 1 = .ok (.iload_n 1, 1) := dk_27 (dk_at dksX0_pass_0 1 rfl rfl)
theorem dX0_pass_2 : decode cX0_pass 2 = .ok (.iload_n 2, 1) := dk_28 (dk_at dksX0_pass_0 2 rfl rfl)
theorem dX0_pass_3 : decode cX0_pass 3 = .ok (.iload 4, 2) := dk_21 4 (dk_at dksX0_pass_0 3 rfl rfl)
theorem dX0_pass_5 : decode cX0_pass 5 = .ok (.iload 5, 2) := dk_21 5 (dk_at dksX0_pass_0 5 rfl rfl)
theorem dX0_pass_7 : decode cX0_pass 7 = .ok (.invokevirtual 320, 3) := dk_182 1 64 (dk_at dksX0_pass_0 7 rfl rfl)
theorem dX0_pass_10 : decode cX0_pass 10 = .ok (.ifCond .eq 17, 3) := dk_153 0 17 (dk_at dksX0_pass_0 10 rfl rfl)
theorem dX0_pass_13 : decode cX0_pass 13 = .ok (.aload_n 0, 1) := dk_42 (dk_at dksX0_pass_0 13 rfl rfl)
theorem dX0_pass_14 : decode cX0_pass 14 = .ok (.iload_n 3, 1) := dk_29 (dk_at dksX0_pass_0 14 rfl rfl)
theorem dX0_pass_15 : decode cX0_pass 15 = .ok (.invokevirtual 317, 3) := dk_182 1 61 (dk_at dksX0_pass_0 15 rfl rfl)
theorem dX0_pass_18 : decode cX0_pass 18 = .ok (.ifCond .eq 9, 3) := dk_153 0 9 (dk_at dksX0_pass_0 18 rfl rfl)
theorem dX0_pass_21 : decode cX0_pass 21 = .ok (.iload 6, 2) := dk_21 6 (dk_at dksX0_pass_0 21 rfl rfl)
theorem dX0_pass_23 : decode cX0_pass 23 = .ok (.iconst (-1), 1) := dk_2 (dk_at dksX0_pass_0 23 rfl rfl)
theorem dX0_pass_24 : decode cX0_pass 24 = .ok (.if_icmp .ge 5, 3) := dk_162 0 5 (dk_at dksX0_pass_1 0 rfl rfl)
theorem dX0_pass_27 : decode cX0_pass 27 = .ok (.iconst (-1), 1) := dk_2 (dk_at dksX0_pass_1 3 rfl rfl)
theorem dX0_pass_28 : decode cX0_pass 28 = .ok (.ireturn, 1) := dk_172 (dk_at dksX0_pass_1 4 rfl rfl)
theorem dX0_pass_29 : decode cX0_pass 29 = .ok (.aload_n 0, 1) := dk_42 (dk_at dksX0_pass_1 5 rfl rfl)
theorem dX0_pass_30 : decode cX0_pass 30 = .ok (.getfield 32, 3) := dk_180 0 32 (dk_at dksX0_pass_1 6 rfl rfl)
theorem dX0_pass_33 : decode cX0_pass 33 = .ok (.iload_n 1, 1) := dk_27 (dk_at dksX0_pass_1 9 rfl rfl)
theorem dX0_pass_34 : decode cX0_pass 34 = .ok (.iload 4, 2) := dk_21 4 (dk_at dksX0_pass_1 10 rfl rfl)
theorem dX0_pass_36 : decode cX0_pass 36 = .ok (.iconst 1, 1) := dk_4 (dk_at dksX0_pass_1 12 rfl rfl)
theorem dX0_pass_37 : decode cX0_pass 37 = .ok (.isub, 1) := dk_100 (dk_at dksX0_pass_1 13 rfl rfl)
theorem dX0_pass_38 : decode cX0_pass 38 = .ok (.invokevirtual 168, 3) := dk_182 0 168 (dk_at dksX0_pass_1 14 rfl rfl)
theorem dX0_pass_41 : decode cX0_pass 41 = .ok (.istore 7, 2) := dk_54 7 (dk_at dksX0_pass_1 17 rfl rfl)
theorem dX0_pass_43 : decode cX0_pass 43 = .ok (.aload_n 0, 1) := dk_42 (dk_at dksX0_pass_1 19 rfl rfl)
theorem dX0_pass_44 : decode cX0_pass 44 = .ok (.getfield 74, 3) := dk_180 0 74 (dk_at dksX0_pass_1 20 rfl rfl)
theorem dX0_pass_47 : decode cX0_pass 47 = .ok (.invokevirtual 420, 3) := dk_182 1 164 (dk_at dksX0_pass_2 0 rfl rfl)
theorem dX0_pass_50 : decode cX0_pass 50 = .ok (.aload_n 0, 1) := dk_42 (dk_at dksX0_pass_2 3 rfl rfl)
theorem dX0_pass_51 : decode cX0_pass 51 = .ok (.getfield 74, 3) := dk_180 0 74 (dk_at dksX0_pass_2 4 rfl rfl)
theorem dX0_pass_54 : decode cX0_pass 54 = .ok (.iload_n 3, 1) := dk_29 (dk_at dksX0_pass_2 7 rfl rfl)
theorem dX0_pass_55 : decode cX0_pass 55 = .ok (.invokevirtual 423, 3) := dk_182 1 167 (dk_at dksX0_pass_2 8 rfl rfl)
theorem dX0_pass_58 : decode cX0_pass 58 = .ok (.aload_n 0, 1) := dk_42 (dk_at dksX0_pass_2 11 rfl rfl)
theorem dX0_pass_59 : decode cX0_pass 59 = .ok (.getfield 74, 3) := dk_180 0 74 (dk_at dksX0_pass_2 12 rfl rfl)
theorem dX0_pass_62 : decode cX0_pass 62 = .ok (.iload 7, 2) := dk_21 7 (dk_at dksX0_pass_2 15 rfl rfl)
theorem dX0_pass_64 : decode cX0_pass 64 = .ok (.iload_n 2, 1) := dk_28 (dk_at dksX0_pass_2 17 rfl rfl)
theorem dX0_pass_65 : decode cX0_pass 65 = .ok (.iload 4, 2) := dk_21 4 (dk_at dksX0_pass_2 18 rfl rfl)
theorem dX0_pass_67 : decode cX0_pass 67 = .ok (.iload 5, 2) := dk_21 5 (dk_at dksX0_pass_2 20 rfl rfl)
theorem dX0_pass_69 : decode cX0_pass 69 = .ok (.invokevirtual 426, 3) := dk_182 1 170 (dk_at dksX0_pass_3 0 rfl rfl)
theorem dX0_pass_72 : decode cX0_pass 72 = .ok (.istore 8, 2) := dk_54 8 (dk_at dksX0_pass_3 3 rfl rfl)
theorem dX0_pass_74 : decode cX0_pass 74 = .ok (.iload 6, 2) := dk_21 6 (dk_at dksX0_pass_3 5 rfl rfl)
theorem dX0_pass_76 : decode cX0_pass 76 = .ok (.iconst (-1), 1) := dk_2 (dk_at dksX0_pass_3 7 rfl rfl)
theorem dX0_pass_77 : decode cX0_pass 77 = .ok (.if_icmp .eq 18, 3) := dk_159 0 18 (dk_at dksX0_pass_3 8 rfl rfl)
theorem dX0_pass_80 : decode cX0_pass 80 = .ok (.iload 8, 2) := dk_21 8 (dk_at dksX0_pass_3 11 rfl rfl)
theorem dX0_pass_82 : decode cX0_pass 82 = .ok (.iconst (-1), 1) := dk_2 (dk_at dksX0_pass_3 13 rfl rfl)
theorem dX0_pass_83 : decode cX0_pass 83 = .ok (.if_icmp .eq 12, 3) := dk_159 0 12 (dk_at dksX0_pass_3 14 rfl rfl)
theorem dX0_pass_86 : decode cX0_pass 86 = .ok (.iload 6, 2) := dk_21 6 (dk_at dksX0_pass_3 17 rfl rfl)
theorem dX0_pass_88 : decode cX0_pass 88 = .ok (.iconst 3, 1) := dk_6 (dk_at dksX0_pass_3 19 rfl rfl)
theorem dX0_pass_89 : decode cX0_pass 89 = .ok (.iload 8, 2) := dk_21 8 (dk_at dksX0_pass_3 20 rfl rfl)
theorem dX0_pass_91 : decode cX0_pass 91 = .ok (.imul, 1) := dk_104 (dk_at dksX0_pass_3 22 rfl rfl)
theorem dX0_pass_92 : decode cX0_pass 92 = .ok (.if_icmp .lt 16, 3) := dk_161 0 16 (dk_at dksX0_pass_4 0 rfl rfl)
theorem dX0_pass_95 : decode cX0_pass 95 = .ok (.iload 6, 2) := dk_21 6 (dk_at dksX0_pass_4 3 rfl rfl)
theorem dX0_pass_97 : decode cX0_pass 97 = .ok (.iconst (-1), 1) := dk_2 (dk_at dksX0_pass_4 5 rfl rfl)
theorem dX0_pass_98 : decode cX0_pass 98 = .ok (.if_icmp .ne 8, 3) := dk_160 0 8 (dk_at dksX0_pass_4 6 rfl rfl)
theorem dX0_pass_101 : decode cX0_pass 101 = .ok (.iload 8, 2) := dk_21 8 (dk_at dksX0_pass_4 9 rfl rfl)
theorem dX0_pass_103 : decode cX0_pass 103 = .ok (.goto 4, 3) := dk_167 0 4 (dk_at dksX0_pass_4 11 rfl rfl)
theorem dX0_pass_106 : decode cX0_pass 106 = .ok (.iconst (-1), 1) := dk_2 (dk_at dksX0_pass_4 14 rfl rfl)
theorem dX0_pass_107 : decode cX0_pass 107 = .ok (.ireturn, 1) := dk_172 (dk_at dksX0_pass_4 15 rfl rfl)
theorem dX0_pass_108 : decode cX0_pass 108 = .ok (.aload_n 0, 1) := dk_42 (dk_at dksX0_pass_4 16 rfl rfl)
theorem dX0_pass_109 : decode cX0_pass 109 = .ok (.getfield 74, 3) := dk_180 0 74 (dk_at dksX0_pass_4 17 rfl rfl)
theorem dX0_pass_112 : decode cX0_pass 112 = .ok (.iload 7, 2) := dk_21 7 (dk_at dksX0_pass_4 20 rfl rfl)
theorem dX0_pass_114 : decode cX0_pass 114 = .ok (.invokevirtual 430, 3) := dk_182 1 174 (dk_at dksX0_pass_5 0 rfl rfl)
theorem dX0_pass_117 : decode cX0_pass 117 = .ok (.aload_n 0, 1) := dk_42 (dk_at dksX0_pass_5 3 rfl rfl)
theorem dX0_pass_118 : decode cX0_pass 118 = .ok (.getfield 74, 3) := dk_180 0 74 (dk_at dksX0_pass_5 4 rfl rfl)
theorem dX0_pass_121 : decode cX0_pass 121 = .ok (.getfield 433, 3) := dk_180 1 177 (dk_at dksX0_pass_5 7 rfl rfl)
theorem dX0_pass_124 : decode cX0_pass 124 = .ok (.iload 6, 2) := dk_21 6 (dk_at dksX0_pass_5 10 rfl rfl)
theorem dX0_pass_126 : decode cX0_pass 126 = .ok (.iaload, 1) := dk_46 (dk_at dksX0_pass_5 12 rfl rfl)
theorem dX0_pass_127 : decode cX0_pass 127 = .ok (.ireturn, 1) := dk_172 (dk_at dksX0_pass_5 13 rfl rfl)
abbrev cX0_culprits : ByteArray := prog_1_method_61_code
def yX0_culprits : MethodName := ⟨RX0, "culprits", "(I)I"⟩
def dkwX0_culprits_8 : List UInt8 := [132, 3, 1, 167, 255, 159, 132, 2, 1, 167, 255, 143, 2, 172]
abbrev dktX0_culprits_8 : List UInt8 := dkwX0_culprits_8 ++ []
def dkwX0_culprits_7 : List UInt8 := [153, 0, 7, 4, 167, 0, 4, 3, 54, 4, 132, 5, 1, 167, 255, 207, 21, 4, 153, 0, 5, 29, 172]
abbrev dktX0_culprits_7 : List UInt8 := dkwX0_culprits_7 ++ dktX0_culprits_8
def dkwX0_culprits_6 : List UInt8 := [153, 0, 38, 27, 21, 5, 122, 4, 126, 153, 0, 16, 42, 42, 21, 5, 182, 1, 138, 182, 1, 180]
abbrev dktX0_culprits_6 : List UInt8 := dkwX0_culprits_6 ++ dktX0_culprits_7
def dkwX0_culprits_5 : List UInt8 := [182, 1, 167, 4, 54, 4, 3, 54, 5, 21, 5, 42, 180, 0, 68, 182, 0, 137, 162, 0, 43, 21, 4]
abbrev dktX0_culprits_5 : List UInt8 := dkwX0_culprits_5 ++ dktX0_culprits_6
def dkwX0_culprits_4 : List UInt8 := [42, 180, 0, 25, 120, 162, 0, 93, 29, 184, 1, 158, 28, 159, 0, 6, 167, 0, 76, 42, 180, 0, 74, 29]
abbrev dktX0_culprits_4 : List UInt8 := dkwX0_culprits_4 ++ dktX0_culprits_5
def dkwX0_culprits_3 : List UInt8 := [167, 255, 208, 42, 180, 0, 74, 182, 1, 164, 3, 61, 28, 42, 180, 0, 25, 163, 0, 111, 3, 62, 29, 4]
abbrev dktX0_culprits_3 : List UInt8 := dkwX0_culprits_3 ++ dktX0_culprits_4
def dkwX0_culprits_2 : List UInt8 := [198, 0, 18, 42, 42, 28, 182, 1, 138, 180, 1, 146, 182, 0, 165, 154, 0, 5, 2, 172, 132, 2, 1]
abbrev dktX0_culprits_2 : List UInt8 := dkwX0_culprits_2 ++ dktX0_culprits_3
def dkwX0_culprits_1 : List UInt8 := [180, 0, 68, 182, 0, 137, 162, 0, 43, 27, 28, 122, 4, 126, 4, 160, 0, 28, 42, 28, 182, 1, 138]
abbrev dktX0_culprits_1 : List UInt8 := dkwX0_culprits_1 ++ dktX0_culprits_2
def dkwX0_culprits_0 : List UInt8 := [27, 158, 0, 16, 27, 4, 42, 180, 0, 68, 182, 0, 137, 120, 161, 0, 5, 2, 172, 3, 61, 28, 42]
abbrev dktX0_culprits_0 : List UInt8 := dkwX0_culprits_0 ++ dktX0_culprits_1
theorem dksX0_culprits_0 : cX0_culprits.data.toList.drop 0 = dktX0_culprits_0 := by decide +kernel
theorem dksX0_culprits_1 : cX0_culprits.data.toList.drop 23 = dktX0_culprits_1 := dk_seg dksX0_culprits_0 23 rfl rfl
theorem dksX0_culprits_2 : cX0_culprits.data.toList.drop 46 = dktX0_culprits_2 := dk_seg dksX0_culprits_1 23 rfl rfl
theorem dksX0_culprits_3 : cX0_culprits.data.toList.drop 69 = dktX0_culprits_3 := dk_seg dksX0_culprits_2 23 rfl rfl
theorem dksX0_culprits_4 : cX0_culprits.data.toList.drop 93 = dktX0_culprits_4 := dk_seg dksX0_culprits_3 24 rfl rfl
theorem dksX0_culprits_5 : cX0_culprits.data.toList.drop 117 = dktX0_culprits_5 := dk_seg dksX0_culprits_4 24 rfl rfl
theorem dksX0_culprits_6 : cX0_culprits.data.toList.drop 140 = dktX0_culprits_6 := dk_seg dksX0_culprits_5 23 rfl rfl
theorem dksX0_culprits_7 : cX0_culprits.data.toList.drop 162 = dktX0_culprits_7 := dk_seg dksX0_culprits_6 22 rfl rfl
theorem dksX0_culprits_8 : cX0_culprits.data.toList.drop 185 = dktX0_culprits_8 := dk_seg dksX0_culprits_7 23 rfl rfl
theorem dX0_culprits_0 : decode cX0_culprits 0 = .ok (.iload_n 1, 1) := dk_27 (dk_at dksX0_culprits_0 0 rfl rfl)
theorem dX0_culprits_1 : decode cX0_culprits 1 = .ok (.ifCond .le 16, 3) := dk_158 0 16 (dk_at dksX0_culprits_0 1 rfl rfl)
theorem dX0_culprits_4 : decode cX0_culprits 4 = .ok (.iload_n 1, 1) := dk_27 (dk_at dksX0_culprits_0 4 rfl rfl)
theorem dX0_culprits_5 : decode cX0_culprits 5 = .ok (.iconst 1, 1) := dk_4 (dk_at dksX0_culprits_0 5 rfl rfl)
theorem dX0_culprits_6 : decode cX0_culprits 6 = .ok (.aload_n 0, 1) := dk_42 (dk_at dksX0_culprits_0 6 rfl rfl)
theorem dX0_culprits_7 : decode cX0_culprits 7 = .ok (.getfield 68, 3) := dk_180 0 68 (dk_at dksX0_culprits_0 7 rfl rfl)
theorem dX0_culprits_10 : decode cX0_culprits 10 = .ok (.invokevirtual 137, 3) := dk_182 0 137 (dk_at dksX0_culprits_0 10 rfl rfl)
theorem dX0_culprits_13 : decode cX0_culprits 13 = .ok (.ishl, 1) := dk_120 (dk_at dksX0_culprits_0 13 rfl rfl)
theorem dX0_culprits_14 : decode cX0_culprits 14 = .ok (.if_icmp .lt 5, 3) := dk_161 0 5 (dk_at dksX0_culprits_0 14 rfl rfl)
theorem dX0_culprits_17 : decode cX0_culprits 17 = .ok (.iconst (-1), 1) := dk_2 (dk_at dksX0_culprits_0 17 rfl rfl)
theorem dX0_culprits_18 : decode cX0_culprits 18 = .ok (.ireturn, 1) := dk_172 (dk_at dksX0_culprits_0 18 rfl rfl)
theorem dX0_culprits_19 : decode cX0_culprits 19 = .ok (.iconst 0, 1) := dk_3 (dk_at dksX0_culprits_0 19 rfl rfl)
theorem dX0_culprits_20 : decode cX0_culprits 20 = .ok (.istore_n 2, 1) := dk_61 (dk_at dksX0_culprits_0 20 rfl rfl)
theorem dX0_culprits_21 : decode cX0_culprits 21 = .ok (.iload_n 2, 1) := dk_28 (dk_at dksX0_culprits_0 21 rfl rfl)
theorem dX0_culprits_22 : decode cX0_culprits 22 = .ok (.aload_n 0, 1) := dk_42 (dk_at dksX0_culprits_0 22 rfl rfl)
theorem dX0_culprits_23 : decode cX0_culprits 23 = .ok (.getfield 68, 3) := dk_180 0 68 (dk_at dksX0_culprits_1 0 rfl rfl)
theorem dX0_culprits_26 : decode cX0_culprits 26 = .ok (.invokevirtual 137, 3) := dk_182 0 137 (dk_at dksX0_culprits_1 3 rfl rfl)
theorem dX0_culprits_29 : decode cX0_culprits 29 = .ok (.if_icmp .ge 43, 3) := dk_162 0 43 (dk_at dksX0_culprits_1 6 rfl rfl)
theorem dX0_culprits_32 : decode cX0_culprits 32 = .ok (.iload_n 1, 1) := dk_27 (dk_at dksX0_culprits_1 9 rfl rfl)
theorem dX0_culprits_33 : decode cX0_culprits 33 = .ok (.iload_n 2, 1) := dk_28 (dk_at dksX0_culprits_1 10 rfl rfl)
theorem dX0_culprits_34 : decode cX0_culprits 34 = .ok (.ishr, 1) := dk_122 (dk_at dksX0_culprits_1 11 rfl rfl)
theorem dX0_culprits_35 : decode cX0_culprits 35 = .ok (.iconst 1, 1) := dk_4 (dk_at dksX0_culprits_1 12 rfl rfl)
theorem dX0_culprits_36 : decode cX0_culprits 36 = .ok (.iand, 1) := dk_126 (dk_at dksX0_culprits_1 13 rfl rfl)
theorem dX0_culprits_37 : decode cX0_culprits 37 = .ok (.iconst 1, 1) := dk_4 (dk_at dksX0_culprits_1 14 rfl rfl)
theorem dX0_culprits_38 : decode cX0_culprits 38 = .ok (.if_icmp .ne 28, 3) := dk_160 0 28 (dk_at dksX0_culprits_1 15 rfl rfl)
theorem dX0_culprits_41 : decode cX0_culprits 41 = .ok (.aload_n 0, 1) := dk_42 (dk_at dksX0_culprits_1 18 rfl rfl)
theorem dX0_culprits_42 : decode cX0_culprits 42 = .ok (.iload_n 2, 1) := dk_28 (dk_at dksX0_culprits_1 19 rfl rfl)
theorem dX0_culprits_43 : decode cX0_culprits 43 = .ok (.invokevirtual 394, 3) := dk_182 1 138 (dk_at dksX0_culprits_1 20 rfl rfl)
theorem dX0_culprits_46 : decode cX0_culprits 46 = .ok (.ifnull 18, 3) := dk_198 0 18 (dk_at dksX0_culprits_2 0 rfl rfl)
theorem dX0_culprits_49 : decode cX0_culprits 49 = .ok (.aload_n 0, 1) := dk_42 (dk_at dksX0_culprits_2 3 rfl rfl)
theorem dX0_culprits_50 : decode cX0_culprits 50 = .ok (.aload_n 0, 1) := dk_42 (dk_at dksX0_culprits_2 4 rfl rfl)
theorem dX0_culprits_51 : decode cX0_culprits 51 = .ok (.iload_n 2, 1) := dk_28 (dk_at dksX0_culprits_2 5 rfl rfl)
theorem dX0_culprits_52 : decode cX0_culprits 52 = .ok (.invokevirtual 394, 3) := dk_182 1 138 (dk_at dksX0_culprits_2 6 rfl rfl)
theorem dX0_culprits_55 : decode cX0_culprits 55 = .ok (.getfield 402, 3) := dk_180 1 146 (dk_at dksX0_culprits_2 9 rfl rfl)
theorem dX0_culprits_58 : decode cX0_culprits 58 = .ok (.invokevirtual 165, 3) := dk_182 0 165 (dk_at dksX0_culprits_2 12 rfl rfl)
theorem dX0_culprits_61 : decode cX0_culprits 61 = .ok (.ifCond .ne 5, 3) := dk_154 0 5 (dk_at dksX0_culprits_2 15 rfl rfl)
theorem dX0_culprits_64 : decode cX0_culprits 64 = .ok (.iconst (-1), 1) := dk_2 (dk_at dksX0_culprits_2 18 rfl rfl)
theorem dX0_culprits_65 : decode cX0_culprits 65 = .ok (.ireturn, 1) := dk_172 (dk_at dksX0_culprits_2 19 rfl rfl)
theorem dX0_culprits_66 : decode cX0_culprits 66 = .ok (.iinc 2 1, 3) := dk_132 2 1 (dk_at dksX0_culprits_2 20 rfl rfl)
theorem dX0_culprits_69 : decode cX0_culprits 69 = .ok (.goto (-48), 3) := dk_167 255 208 (dk_at dksX0_culprits_3 0 rfl rfl)
theorem dX0_culprits_72 : decode cX0_culprits 72 = .ok (.aload_n 0, 1) := dk_42 (dk_at dksX0_culprits_3 3 rfl rfl)
theorem dX0_culprits_73 : decode cX0_culprits 73 = .ok (.getfield 74, 3) := dk_180 0 74 (dk_at dksX0_culprits_3 4 rfl rfl)
theorem dX0_culprits_76 : decode cX0_culprits 76 = .ok (.invokevirtual 420, 3) := dk_182 1 164 (dk_at dksX0_culprits_3 7 rfl rfl)
theorem dX0_culprits_79 : decode cX0_culprits 79 = .ok (.iconst 0, 1) := dk_3 (dk_at dksX0_culprits_3 10 rfl rfl)
theorem dX0_culprits_80 : decode cX0_culprits 80 = .ok (.istore_n 2, 1) := dk_61 (dk_at dksX0_culprits_3 11 rfl rfl)
theorem dX0_culprits_81 : decode cX0_culprits 81 = .ok (.iload_n 2, 1) := dk_28 (dk_at dksX0_culprits_3 12 rfl rfl)
theorem dX0_culprits_82 : decode cX0_culprits 82 = .ok (.aload_n 0, 1) := dk_42 (dk_at dksX0_culprits_3 13 rfl rfl)
theorem dX0_culprits_83 : decode cX0_culprits 83 = .ok (.getfield 25, 3) := dk_180 0 25 (dk_at dksX0_culprits_3 14 rfl rfl)
theorem dX0_culprits_86 : decode cX0_culprits 86 = .ok (.if_icmp .gt 111, 3) := dk_163 0 111 (dk_at dksX0_culprits_3 17 rfl rfl)
theorem dX0_culprits_89 : decode cX0_culprits 89 = .ok (.iconst 0, 1) := dk_3 (dk_at dksX0_culprits_3 20 rfl rfl)
theorem dX0_culprits_90 : decode cX0_culprits 90 = .ok (.istore_n 3, 1) := dk_62 (dk_at dksX0_culprits_3 21 rfl rfl)
theorem dX0_culprits_91 : decode cX0_culprits 91 = .ok (.iload_n 3, 1) := dk_29 (dk_at dksX0_culprits_3 22 rfl rfl)
theorem dX0_culprits_92 : decode cX0_culprits 92 = .ok (.iconst 1, 1) := dk_4 (dk_at dksX0_culprits_3 23 rfl rfl)
theorem dX0_culprits_93 : decode cX0_culprits 93 = .ok (.aload_n 0, 1) := dk_42 (dk_at dksX0_culprits_4 0 rfl rfl)
theorem dX0_culprits_94 : decode cX0_culprits 94 = .ok (.getfield 25, 3) := dk_180 0 25 (dk_at dksX0_culprits_4 1 rfl rfl)
theorem dX0_culprits_97 : decode cX0_culprits 97 = .ok (.ishl, 1) := dk_120 (dk_at dksX0_culprits_4 4 rfl rfl)
theorem dX0_culprits_98 : decode cX0_culprits 98 = .ok (.if_icmp .ge 93, 3) := dk_162 0 93 (dk_at dksX0_culprits_4 5 rfl rfl)
theorem dX0_culprits_101 : decode cX0_culprits 101 = .ok (.iload_n 3, 1) := dk_29 (dk_at dksX0_culprits_4 8 rfl rfl)
theorem dX0_culprits_102 : decode cX0_culprits 102 = .ok (.invokestatic 414, 3) := dk_184 1 158 (dk_at dksX0_culprits_4 9 rfl rfl)
theorem dX0_culprits_105 : decode cX0_culprits 105 = .ok (.iload_n 2, 1) := dk_28 (dk_at dksX0_culprits_4 12 rfl rfl)
theorem dX0_culprits_106 : decode cX0_culprits 106 = .ok (.if_icmp .eq 6, 3) := dk_159 0 6 (dk_at dksX0_culprits_4 13 rfl rfl)
theorem dX0_culprits_109 : decode cX0_culprits 109 = .ok (.goto 76, 3) := dk_167 0 76 (dk_at dksX0_culprits_4 16 rfl rfl)
theorem dX0_culprits_112 : decode cX0_culprits 112 = .ok (.aload_n 0, 1) := dk_42 (dk_at dksX0_culprits_4 19 rfl rfl)
theorem dX0_culprits_113 : decode cX0_culprits 113 = .ok (.getfield 74, 3) := dk_180 0 74 (dk_at dksX0_culprits_4 20 rfl rfl)
theorem dX0_culprits_116 : decode cX0_culprits 116 = .ok (.iload_n 3, 1) := dk_29 (dk_at dksX0_culprits_4 23 rfl rfl)
theorem dX0_culprits_117 : decode cX0_culprits 117 = .ok (.invokevirtual 423, 3) := dk_182 1 167 (dk_at dksX0_culprits_5 0 rfl rfl)
theorem dX0_culprits_120 : decode cX0_culprits 120 = .ok (.iconst 1, 1) := dk_4 (dk_at dksX0_culprits_5 3 rfl rfl)
theorem dX0_culprits_121 : decode cX0_culprits 121 = .ok (.istore 4, 2) := dk_54 4 (dk_at dksX0_culprits_5 4 rfl rfl)
theorem dX0_culprits_123 : decode cX0_culprits 123 = .ok (.iconst 0, 1) := dk_3 (dk_at dksX0_culprits_5 6 rfl rfl)
theorem dX0_culprits_124 : decode cX0_culprits 124 = .ok (.istore 5, 2) := dk_54 5 (dk_at dksX0_culprits_5 7 rfl rfl)
theorem dX0_culprits_126 : decode cX0_culprits 126 = .ok (.iload 5, 2) := dk_21 5 (dk_at dksX0_culprits_5 9 rfl rfl)
theorem dX0_culprits_128 : decode cX0_culprits 128 = .ok (.aload_n 0, 1) := dk_42 (dk_at dksX0_culprits_5 11 rfl rfl)
theorem dX0_culprits_129 : decode cX0_culprits 129 = .ok (.getfield 68, 3) := dk_180 0 68 (dk_at dksX0_culprits_5 12 rfl rfl)
theorem dX0_culprits_132 : decode cX0_culprits 132 = .ok (.invokevirtual 137, 3) := dk_182 0 137 (dk_at dksX0_culprits_5 15 rfl rfl)
theorem dX0_culprits_135 : decode cX0_culprits 135 = .ok (.if_icmp .ge 43, 3) := dk_162 0 43 (dk_at dksX0_culprits_5 18 rfl rfl)
theorem dX0_culprits_138 : decode cX0_culprits 138 = .ok (.iload 4, 2) := dk_21 4 (dk_at dksX0_culprits_5 21 rfl rfl)
theorem dX0_culprits_140 : decode cX0_culprits 140 = .ok (.ifCond .eq 38, 3) := dk_153 0 38 (dk_at dksX0_culprits_6 0 rfl rfl)
theorem dX0_culprits_143 : decode cX0_culprits 143 = .ok (.iload_n 1, 1) := dk_27 (dk_at dksX0_culprits_6 3 rfl rfl)
theorem dX0_culprits_144 : decode cX0_culprits 144 = .ok (.iload 5, 2) := dk_21 5 (dk_at dksX0_culprits_6 4 rfl rfl)
theorem dX0_culprits_146 : decode cX0_culprits 146 = .ok (.ishr, 1) := dk_122 (dk_at dksX0_culprits_6 6 rfl rfl)
theorem dX0_culprits_147 : decode cX0_culprits 147 = .ok (.iconst 1, 1) := dk_4 (dk_at dksX0_culprits_6 7 rfl rfl)
theorem dX0_culprits_148 : decode cX0_culprits 148 = .ok (.iand, 1) := dk_126 (dk_at dksX0_culprits_6 8 rfl rfl)
theorem dX0_culprits_149 : decode cX0_culprits 149 = .ok (.ifCond .eq 16, 3) := dk_153 0 16 (dk_at dksX0_culprits_6 9 rfl rfl)
theorem dX0_culprits_152 : decode cX0_culprits 152 = .ok (.aload_n 0, 1) := dk_42 (dk_at dksX0_culprits_6 12 rfl rfl)
theorem dX0_culprits_153 : decode cX0_culprits 153 = .ok (.aload_n 0, 1) := dk_42 (dk_at dksX0_culprits_6 13 rfl rfl)
theorem dX0_culprits_154 : decode cX0_culprits 154 = .ok (.iload 5, 2) := dk_21 5 (dk_at dksX0_culprits_6 14 rfl rfl)
theorem dX0_culprits_156 : decode cX0_culprits 156 = .ok (.invokevirtual 394, 3) := dk_182 1 138 (dk_at dksX0_culprits_6 16 rfl rfl)
theorem dX0_culprits_159 : decode cX0_culprits 159 = .ok (.invokevirtual 436, 3) := dk_182 1 180 (dk_at dksX0_culprits_6 19 rfl rfl)
theorem dX0_culprits_162 : decode cX0_culprits 162 = .ok (.ifCond .eq 7, 3) := dk_153 0 7 (dk_at dksX0_culprits_7 0 rfl rfl)
theorem dX0_culprits_165 : decode cX0_culprits 165 = .ok (.iconst 1, 1) := dk_4 (dk_at dksX0_culprits_7 3 rfl rfl)
theorem dX0_culprits_166 : decode cX0_culprits 166 = .ok (.goto 4, 3) := dk_167 0 4 (dk_at dksX0_culprits_7 4 rfl rfl)
theorem dX0_culprits_169 : decode cX0_culprits 169 = .ok (.iconst 0, 1) := dk_3 (dk_at dksX0_culprits_7 7 rfl rfl)
theorem dX0_culprits_170 : decode cX0_culprits 170 = .ok (.istore 4, 2) := dk_54 4 (dk_at dksX0_culprits_7 8 rfl rfl)
theorem dX0_culprits_172 : decode cX0_culprits 172 = .ok (.iinc 5 1, 3) := dk_132 5 1 (dk_at dksX0_culprits_7 10 rfl rfl)
theorem dX0_culprits_175 : decode cX0_culprits 175 = .ok (.goto (-49), 3) := dk_167 255 207 (dk_at dksX0_culprits_7 13 rfl rfl)
theorem dX0_culprits_178 : decode cX0_culprits 178 = .ok (.iload 4, 2) := dk_21 4 (dk_at dksX0_culprits_7 16 rfl rfl)
theorem dX0_culprits_180 : decode cX0_culprits 180 = .ok (.ifCond .eq 5, 3) := dk_153 0 5 (dk_at dksX0_culprits_7 18 rfl rfl)
theorem dX0_culprits_183 : decode cX0_culprits 183 = .ok (.iload_n 3, 1) := dk_29 (dk_at dksX0_culprits_7 21 rfl rfl)
theorem dX0_culprits_184 : decode cX0_culprits 184 = .ok (.ireturn, 1) := dk_172 (dk_at dksX0_culprits_7 22 rfl rfl)
theorem dX0_culprits_185 : decode cX0_culprits 185 = .ok (.iinc 3 1, 3) := dk_132 3 1 (dk_at dksX0_culprits_8 0 rfl rfl)
theorem dX0_culprits_188 : decode cX0_culprits 188 = .ok (.goto (-97), 3) := dk_167 255 159 (dk_at dksX0_culprits_8 3 rfl rfl)
theorem dX0_culprits_191 : decode cX0_culprits 191 = .ok (.iinc 2 1, 3) := dk_132 2 1 (dk_at dksX0_culprits_8 6 rfl rfl)
theorem dX0_culprits_194 : decode cX0_culprits 194 = .ok (.goto (-113), 3) := dk_167 255 143 (dk_at dksX0_culprits_8 9 rfl rfl)
theorem dX0_culprits_197 : decode cX0_culprits 197 = .ok (.iconst (-1), 1) := dk_2 (dk_at dksX0_culprits_8 12 rfl rfl)
theorem dX0_culprits_198 : decode cX0_culprits 198 = .ok (.ireturn, 1) := dk_172 (dk_at dksX0_culprits_8 13 rfl rfl)
abbrev cX0_isExplained : ByteArray := prog_1_method_60_code
def yX0_isExplained : MethodName := ⟨RX0, "isExplained", "(LRapTable$Came;)Z"⟩
def dkwX0_isExplained_1 : List UInt8 := [180, 1, 157, 43, 180, 1, 151, 43, 180, 1, 154, 182, 1, 170, 2, 159, 0, 7, 4, 167, 0, 4, 3, 172]
abbrev dktX0_isExplained_1 : List UInt8 := dkwX0_isExplained_1 ++ []
def dkwX0_isExplained_0 : List UInt8 := [42, 180, 0, 74, 42, 180, 0, 32, 43, 180, 1, 146, 43, 180, 1, 151, 4, 100, 182, 0, 168, 43]
abbrev dktX0_isExplained_0 : List UInt8 := dkwX0_isExplained_0 ++ dktX0_isExplained_1
theorem dksX0_isExplained_0 : cX0_isExplained.data.toList.drop 0 = dktX0_isExplained_0 := by decide +kernel
theorem dksX0_isExplained_1 : cX0_isExplained.data.toList.drop 22 = dktX0_isExplained_1 := dk_seg dksX0_isExplained_0 22 rfl rfl
theorem dX0_isExplained_0 : decode cX0_isExplained 0 = .ok (.aload_n 0, 1) := dk_42 (dk_at dksX0_isExplained_0 0 rfl rfl)
theorem dX0_isExplained_1 : decode cX0_isExplained 1 = .ok (.getfield 74, 3) := dk_180 0 74 (dk_at dksX0_isExplained_0 1 rfl rfl)
theorem dX0_isExplained_4 : decode cX0_isExplained 4 = .ok (.aload_n 0, 1) := dk_42 (dk_at dksX0_isExplained_0 4 rfl rfl)
theorem dX0_isExplained_5 : decode cX0_isExplained 5 = .ok (.getfield 32, 3) := dk_180 0 32 (dk_at dksX0_isExplained_0 5 rfl rfl)
theorem dX0_isExplained_8 : decode cX0_isExplained 8 = .ok (.aload_n 1, 1) := dk_43 (dk_at dksX0_isExplained_0 8 rfl rfl)
theorem dX0_isExplained_9 : decode cX0_isExplained 9 = .ok (.getfield 402, 3) := dk_180 1 146 (dk_at dksX0_isExplained_0 9 rfl rfl)
theorem dX0_isExplained_12 : decode cX0_isExplained 12 = .ok (.aload_n 1, 1) := dk_43 (dk_at dksX0_isExplained_0 12 rfl rfl)
theorem dX0_isExplained_13 : decode cX0_isExplained 13 = .ok (.getfield 407, 3) := dk_180 1 151 (dk_at dksX0_isExplained_0 13 rfl rfl)
theorem dX0_isExplained_16 : decode cX0_isExplained 16 = .ok (.iconst 1, 1) := dk_4 (dk_at dksX0_isExplained_0 16 rfl rfl)
theorem dX0_isExplained_17 : decode cX0_isExplained 17 = .ok (.isub, 1) := dk_100 (dk_at dksX0_isExplained_0 17 rfl rfl)
theorem dX0_isExplained_18 : decode cX0_isExplained 18 = .ok (.invokevirtual 168, 3) := dk_182 0 168 (dk_at dksX0_isExplained_0 18 rfl rfl)
theorem dX0_isExplained_21 : decode cX0_isExplained 21 = .ok (.aload_n 1, 1) := dk_43 (dk_at dksX0_isExplained_0 21 rfl rfl)
theorem dX0_isExplained_22 : decode cX0_isExplained 22 = .ok (.getfield 413, 3) := dk_180 1 157 (dk_at dksX0_isExplained_1 0 rfl rfl)
theorem dX0_isExplained_25 : decode cX0_isExplained 25 = .ok (.aload_n 1, 1) := dk_43 (dk_at dksX0_isExplained_1 3 rfl rfl)
theorem dX0_isExplained_26 : decode cX0_isExplained 26 = .ok (.getfield 407, 3) := dk_180 1 151 (dk_at dksX0_isExplained_1 4 rfl rfl)
theorem dX0_isExplained_29 : decode cX0_isExplained 29 = .ok (.aload_n 1, 1) := dk_43 (dk_at dksX0_isExplained_1 7 rfl rfl)
theorem dX0_isExplained_30 : decode cX0_isExplained 30 = .ok (.getfield 410, 3) := dk_180 1 154 (dk_at dksX0_isExplained_1 8 rfl rfl)
theorem dX0_isExplained_33 : decode cX0_isExplained 33 = .ok (.invokevirtual 426, 3) := dk_182 1 170 (dk_at dksX0_isExplained_1 11 rfl rfl)
theorem dX0_isExplained_36 : decode cX0_isExplained 36 = .ok (.iconst (-1), 1) := dk_2 (dk_at dksX0_isExplained_1 14 rfl rfl)
theorem dX0_isExplained_37 : decode cX0_isExplained 37 = .ok (.if_icmp .eq 7, 3) := dk_159 0 7 (dk_at dksX0_isExplained_1 15 rfl rfl)
theorem dX0_isExplained_40 : decode cX0_isExplained 40 = .ok (.iconst 1, 1) := dk_4 (dk_at dksX0_isExplained_1 18 rfl rfl)
theorem dX0_isExplained_41 : decode cX0_isExplained 41 = .ok (.goto 4, 3) := dk_167 0 4 (dk_at dksX0_isExplained_1 19 rfl rfl)
theorem dX0_isExplained_44 : decode cX0_isExplained 44 = .ok (.iconst 0, 1) := dk_3 (dk_at dksX0_isExplained_1 22 rfl rfl)
theorem dX0_isExplained_45 : decode cX0_isExplained 45 = .ok (.ireturn, 1) := dk_172 (dk_at dksX0_isExplained_1 23 rfl rfl)
abbrev cX0_control : ByteArray := prog_1_method_62_code
def yX0_control : MethodName := ⟨RX0, "control", "(IIIIII)I"⟩
def dkwX0_control_8 : List UInt8 := [182, 0, 146, 87, 42, 180, 0, 45, 182, 0, 137, 4, 100, 172]
abbrev dktX0_control_8 : List UInt8 := dkwX0_control_8 ++ []
def dkwX0_control_7 : List UInt8 := [183, 1, 193, 167, 0, 19, 187, 1, 194, 89, 42, 28, 29, 21, 4, 21, 5, 21, 6, 183, 1, 196]
abbrev dktX0_control_7 : List UInt8 := dkwX0_control_7 ++ dktX0_control_8
def dkwX0_control_6 : List UInt8 := [183, 1, 188, 167, 0, 42, 27, 4, 160, 0, 21, 187, 1, 191, 89, 42, 29, 21, 4, 21, 5, 21, 6]
abbrev dktX0_control_6 : List UInt8 := dkwX0_control_6 ++ dktX0_control_7
def dkwX0_control_5 : List UInt8 := [182, 0, 130, 172, 42, 180, 0, 45, 27, 154, 0, 21, 187, 1, 186, 89, 42, 28, 21, 4, 21, 5, 21, 6]
abbrev dktX0_control_5 : List UInt8 := dkwX0_control_5 ++ dktX0_control_6
def dkwX0_control_4 : List UInt8 := [154, 0, 9, 42, 5, 182, 0, 130, 172, 42, 180, 0, 45, 182, 0, 137, 16, 8, 160, 0, 9, 42, 6]
abbrev dktX0_control_4 : List UInt8 := dkwX0_control_4 ++ dktX0_control_5
def dkwX0_control_3 : List UInt8 := [153, 0, 26, 21, 4, 21, 5, 184, 0, 117, 153, 0, 16, 21, 6, 133, 10, 20, 1, 184, 184, 0, 5]
abbrev dktX0_control_3 : List UInt8 := dkwX0_control_3 ++ dktX0_control_4
def dkwX0_control_2 : List UInt8 := [154, 0, 9, 42, 4, 182, 0, 130, 172, 27, 4, 160, 0, 15, 29, 133, 9, 20, 0, 97, 184, 0, 5]
abbrev dktX0_control_2 : List UInt8 := dkwX0_control_2 ++ dktX0_control_3
def dkwX0_control_1 : List UInt8 := [182, 0, 108, 153, 0, 15, 42, 29, 182, 0, 123, 153, 0, 7, 4, 167, 0, 4, 3, 54, 7, 21, 7]
abbrev dktX0_control_1 : List UInt8 := dkwX0_control_1 ++ dktX0_control_2
def dkwX0_control_0 : List UInt8 := [27, 154, 0, 11, 42, 28, 182, 0, 150, 167, 0, 34, 27, 4, 159, 0, 24, 27, 5, 160, 0, 23, 42, 28]
abbrev dktX0_control_0 : List UInt8 := dkwX0_control_0 ++ dktX0_control_1
theorem dksX0_control_0 : cX0_control.data.toList.drop 0 = dktX0_control_0 := by decide +kernel
theorem dksX0_control_1 : cX0_control.data.toList.drop 24 = dktX0_control_1 := dk_seg dksX0_control_0 24 rfl rfl
theorem dksX0_control_2 : cX0_control.data.toList.drop 47 = dktX0_control_2 := dk_seg dksX0_control_1 23 rfl rfl
theorem dksX0_control_3 : cX0_control.data.toList.drop 70 = dktX0_control_3 := dk_seg dksX0_control_2 23 rfl rfl
theorem dksX0_control_4 : cX0_control.data.toList.drop 93 = dktX0_control_4 := dk_seg dksX0_control_3 23 rfl rfl
theorem dksX0_control_5 : cX0_control.data.toList.drop 116 = dktX0_control_5 := dk_seg dksX0_control_4 23 rfl rfl
theorem dksX0_control_6 : cX0_control.data.toList.drop 140 = dktX0_control_6 := dk_seg dksX0_control_5 24 rfl rfl
theorem dksX0_control_7 : cX0_control.data.toList.drop 163 = dktX0_control_7 := dk_seg dksX0_control_6 23 rfl rfl
theorem dksX0_control_8 : cX0_control.data.toList.drop 185 = dktX0_control_8 := dk_seg dksX0_control_7 22 rfl rfl
theorem dX0_control_0 : decode cX0_control 0 = .ok (.iload_n 1, 1) := dk_27 (dk_at dksX0_control_0 0 rfl rfl)
theorem dX0_control_1 : decode cX0_control 1 = .ok (.ifCond .ne 11, 3) := dk_154 0 11 (dk_at dksX0_control_0 1 rfl rfl)
theorem dX0_control_4 : decode cX0_control 4 = .ok (.aload_n 0, 1) := dk_42 (dk_at dksX0_control_0 4 rfl rfl)
theorem dX0_control_5 : decode cX0_control 5 = .ok (.iload_n 2, 1) := dk_28 (dk_at dksX0_control_0 5 rfl rfl)
theorem dX0_control_6 : decode cX0_control 6 = .ok (.invokevirtual 150, 3) := dk_182 0 150 (dk_at dksX0_control_0 6 rfl rfl)
theorem dX0_control_9 : decode cX0_control 9 = .ok (.goto 34, 3) := dk_167 0 34 (dk_at dksX0_control_0 9 rfl rfl)
theorem dX0_control_12 : decode cX0_control 12 = .ok (.iload_n 1, 1) := dk_27 (dk_at dksX0_control_0 12 rfl rfl)
theorem dX0_control_13 : decode cX0_control 13 = .ok (.iconst 1, 1) := dk_4 (dk_at dksX0_control_0 13 rfl rfl)
theorem dX0_control_14 : decode cX0_control 14 = .ok (.if_icmp .eq 24, 3) := dk_159 0 24 (dk_at dksX0_control_0 14 rfl rfl)
theorem dX0_control_17 : decode cX0_control 17 = .ok (.iload_n 1, 1) := dk_27 (dk_at dksX0_control_0 17 rfl rfl)
theorem dX0_control_18 : decode cX0_control 18 = .ok (.iconst 2, 1) := dk_5 (dk_at dksX0_control_0 18 rfl rfl)
theorem dX0_control_19 : decode cX0_control 19 = .ok (.if_icmp .ne 23, 3) := dk_160 0 23 (dk_at dksX0_control_0 19 rfl rfl)
theorem dX0_control_22 : decode cX0_control 22 = .ok (.aload_n 0, 1) := dk_42 (dk_at dksX0_control_0 22 rfl rfl)
theorem dX0_control_23 : decode cX0_control 23 = .ok (.iload_n 2, 1) := dk_28 (dk_at dksX0_control_0 23 rfl rfl)
theorem dX0_control_24 : decode cX0_control 24 = .ok (.invokevirtual 108, 3) := dk_182 0 108 (dk_at dksX0_control_1 0 rfl rfl)
theorem dX0_control_27 : decode cX0_control 27 = .ok (.ifCond .eq 15, 3) := dk_153 0 15 (dk_at dksX0_control_1 3 rfl rfl)
theorem dX0_control_30 : decode cX0_control 30 = .ok (.aload_n 0, 1) := dk_42 (dk_at dksX0_control_1 6 rfl rfl)
theorem dX0_control_31 : decode cX0_control 31 = .ok (.iload_n 3, 1) := dk_29 (dk_at dksX0_control_1 7 rfl rfl)
theorem dX0_control_32 : decode cX0_control 32 = .ok (.invokevirtual 123, 3) := dk_182 0 123 (dk_at dksX0_control_1 8 rfl rfl)
theorem dX0_control_35 : decode cX0_control 35 = .ok (.ifCond .eq 7, 3) := dk_153 0 7 (dk_at dksX0_control_1 11 rfl rfl)
theorem dX0_control_38 : decode cX0_control 38 = .ok (.iconst 1, 1) := dk_4 (dk_at dksX0_control_1 14 rfl rfl)
theorem dX0_control_39 : decode cX0_control 39 = .ok (.goto 4, 3) := dk_167 0 4 (dk_at dksX0_control_1 15 rfl rfl)
theorem dX0_control_42 : decode cX0_control 42 = .ok (.iconst 0, 1) := dk_3 (dk_at dksX0_control_1 18 rfl rfl)
theorem dX0_control_43 : decode cX0_control 43 = .ok (.istore 7, 2) := dk_54 7 (dk_at dksX0_control_1 19 rfl rfl)
theorem dX0_control_45 : decode cX0_control 45 = .ok (.iload 7, 2) := dk_21 7 (dk_at dksX0_control_1 21 rfl rfl)
theorem dX0_control_47 : decode cX0_control 47 = .ok (.ifCond .ne 9, 3) := dk_154 0 9 (dk_at dksX0_control_2 0 rfl rfl)
theorem dX0_control_50 : decode cX0_control 50 = .ok (.aload_n 0, 1) := dk_42 (dk_at dksX0_control_2 3 rfl rfl)
theorem dX0_control_51 : decode cX0_control 51 = .ok (.iconst 1, 1) := dk_4 (dk_at dksX0_control_2 4 rfl rfl)
theorem dX0_control_52 : decode cX0_control 52 = .ok (.invokevirtual 130, 3) := dk_182 0 130 (dk_at dksX0_control_2 5 rfl rfl)
theorem dX0_control_55 : decode cX0_control 55 = .ok (.ireturn, 1) := dk_172 (dk_at dksX0_control_2 8 rfl rfl)
theorem dX0_control_56 : decode cX0_control 56 = .ok (.iload_n 1, 1) := dk_27 (dk_at dksX0_control_2 9 rfl rfl)
theorem dX0_control_57 : decode cX0_control 57 = .ok (.iconst 1, 1) := dk_4 (dk_at dksX0_control_2 10 rfl rfl)
theorem dX0_control_58 : decode cX0_control 58 = .ok (.if_icmp .ne 15, 3) := dk_160 0 15 (dk_at dksX0_control_2 11 rfl rfl)
theorem dX0_control_61 : decode cX0_control 61 = .ok (.iload_n 3, 1) := dk_29 (dk_at dksX0_control_2 14 rfl rfl)
theorem dX0_control_62 : decode cX0_control 62 = .ok (.i2l, 1) := dk_133 (dk_at dksX0_control_2 15 rfl rfl)
theorem dX0_control_63 : decode cX0_control 63 = .ok (.lconst 0, 1) := dk_9 (dk_at dksX0_control_2 16 rfl rfl)
theorem dX0_control_64 : decode cX0_control 64 = .ok (.ldc2_w 97, 3) := dk_20 0 97 (dk_at dksX0_control_2 17 rfl rfl)
theorem dX0_control_67 : decode cX0_control 67 = .ok (.invokestatic 5, 3) := dk_184 0 5 (dk_at dksX0_control_2 20 rfl rfl)
theorem dX0_control_70 : decode cX0_control 70 = .ok (.ifCond .eq 26, 3) := dk_153 0 26 (dk_at dksX0_control_3 0 rfl rfl)
theorem dX0_control_73 : decode cX0_control 73 = .ok (.iload 4, 2) := dk_21 4 (dk_at dksX0_control_3 3 rfl rfl)
theorem dX0_control_75 : decode cX0_control 75 = .ok (.iload 5, 2) := dk_21 5 (dk_at dksX0_control_3 5 rfl rfl)
theorem dX0_control_77 : decode cX0_control 77 = .ok (.invokestatic 117, 3) := dk_184 0 117 (dk_at dksX0_control_3 7 rfl rfl)
theorem dX0_control_80 : decode cX0_control 80 = .ok (.ifCond .eq 16, 3) := dk_153 0 16 (dk_at dksX0_control_3 10 rfl rfl)
theorem dX0_control_83 : decode cX0_control 83 = .ok (.iload 6, 2) := dk_21 6 (dk_at dksX0_control_3 13 rfl rfl)
theorem dX0_control_85 : decode cX0_control 85 = .ok (.i2l, 1) := dk_133 (dk_at dksX0_control_3 15 rfl rfl)
theorem dX0_control_86 : decode cX0_control 86 = .ok (.lconst 1, 1) := dk_10 (dk_at dksX0_control_3 16 rfl rfl)
theorem dX0_control_87 : decode cX0_control 87 = .ok (.ldc2_w 440, 3) := dk_20 1 184 (dk_at dksX0_control_3 17 rfl rfl)
theorem dX0_control_90 : decode cX0_control 90 = .ok (.invokestatic 5, 3) := dk_184 0 5 (dk_at dksX0_control_3 20 rfl rfl)
theorem dX0_control_93 : decode cX0_control 93 = .ok (.ifCond .ne 9, 3) := dk_154 0 9 (dk_at dksX0_control_4 0 rfl rfl)
theorem dX0_control_96 : decode cX0_control 96 = .ok (.aload_n 0, 1) := dk_42 (dk_at dksX0_control_4 3 rfl rfl)
theorem dX0_control_97 : decode cX0_control 97 = .ok (.iconst 2, 1) := dk_5 (dk_at dksX0_control_4 4 rfl rfl)
theorem dX0_control_98 : decode cX0_control 98 = .ok (.invokevirtual 130, 3) := dk_182 0 130 (dk_at dksX0_control_4 5 rfl rfl)
theorem dX0_control_101 : decode cX0_control 101 = .ok (.ireturn, 1) := dk_172 (dk_at dksX0_control_4 8 rfl rfl)
theorem dX0_control_102 : decode cX0_control 102 = .ok (.aload_n 0, 1) := dk_42 (dk_at dksX0_control_4 9 rfl rfl)
theorem dX0_control_103 : decode cX0_control 103 = .ok (.getfield 45, 3) := dk_180 0 45 (dk_at dksX0_control_4 10 rfl rfl)
theorem dX0_control_106 : decode cX0_control 106 = .ok (.invokevirtual 137, 3) := dk_182 0 137 (dk_at dksX0_control_4 13 rfl rfl)
theorem dX0_control_109 : decode cX0_control 109 = .ok (.bipush 8, 2) := dk_16 8 (dk_at dksX0_control_4 16 rfl rfl)
theorem dX0_control_111 : decode cX0_control 111 = .ok (.if_icmp .ne 9, 3) := dk_160 0 9 (dk_at dksX0_control_4 18 rfl rfl)
theorem dX0_control_114 : decode cX0_control 114 = .ok (.aload_n 0, 1) := dk_42 (dk_at dksX0_control_4 21 rfl rfl)
theorem dX0_control_115 : decode cX0_control 115 = .ok (.iconst 3, 1) := dk_6 (dk_at dksX0_control_4 22 rfl rfl)
theorem dX0_control_116 : decode cX0_control 116 = .ok (.invokevirtual 130, 3) := dk_182 0 130 (dk_at dksX0_control_5 0 rfl rfl)
theorem dX0_control_119 : decode cX0_control 119 = .ok (.ireturn, 1) := dk_172 (dk_at dksX0_control_5 3 rfl rfl)
theorem dX0_control_120 : decode cX0_control 120 = .ok (.aload_n 0, 1) := dk_42 (dk_at dksX0_control_5 4 rfl rfl)
theorem dX0_control_121 : decode cX0_control 121 = .ok (.getfield 45, 3) := dk_180 0 45 (dk_at dksX0_control_5 5 rfl rfl)
theorem dX0_control_124 : decode cX0_control 124 = .ok (.iload_n 1, 1) := dk_27 (dk_at dksX0_control_5 8 rfl rfl)
theorem dX0_control_125 : decode cX0_control 125 = .ok (.ifCond .ne 21, 3) := dk_154 0 21 (dk_at dksX0_control_5 9 rfl rfl)
theorem dX0_control_128 : decode cX0_control 128 = .ok (.new 442, 3) := dk_187 1 186 (dk_at dksX0_control_5 12 rfl rfl)
theorem dX0_control_131 : decode cX0_control 131 = .ok (.dup, 1) := dk_89 (dk_at dksX0_control_5 15 rfl rfl)
theorem dX0_control_132 : decode cX0_control 132 = .ok (.aload_n 0, 1) := dk_42 (dk_at dksX0_control_5 16 rfl rfl)
theorem dX0_control_133 : decode cX0_control 133 = .ok (.iload_n 2, 1) := dk_28 (dk_at dksX0_control_5 17 rfl rfl)
theorem dX0_control_134 : decode cX0_control 134 = .ok (.iload 4, 2) := dk_21 4 (dk_at dksX0_control_5 18 rfl rfl)
theorem dX0_control_136 : decode cX0_control 136 = .ok (.iload 5, 2) := dk_21 5 (dk_at dksX0_control_5 20 rfl rfl)
theorem dX0_control_138 : decode cX0_control 138 = .ok (.iload 6, 2) := dk_21 6 (dk_at dksX0_control_5 22 rfl rfl)
theorem dX0_control_140 : decode cX0_control 140 = .ok (.invokespecial 444, 3) := dk_183 1 188 (dk_at dksX0_control_6 0 rfl rfl)
theorem dX0_control_143 : decode cX0_control 143 = .ok (.goto 42, 3) := dk_167 0 42 (dk_at dksX0_control_6 3 rfl rfl)
theorem dX0_control_146 : decode cX0_control 146 = .ok (.iload_n 1, 1) := dk_27 (dk_at dksX0_control_6 6 rfl rfl)
theorem dX0_control_147 : decode cX0_control 147 = .ok (.iconst 1, 1) := dk_4 (dk_at dksX0_control_6 7 rfl rfl)
theorem dX0_control_148 : decode cX0_control 148 = .ok (.if_icmp .ne 21, 3) := dk_160 0 21 (dk_at dksX0_control_6 8 rfl rfl)
theorem dX0_control_151 : decode cX0_control 151 = .ok (.new 447, 3) := dk_187 1 191 (dk_at dksX0_control_6 11 rfl rfl)
theorem dX0_control_154 : decode cX0_control 154 = .ok (.dup, 1) := dk_89 (dk_at dksX0_control_6 14 rfl rfl)
theorem dX0_control_155 : decode cX0_control 155 = .ok (.aload_n 0, 1) := dk_42 (dk_at dksX0_control_6 15 rfl rfl)
theorem dX0_control_156 : decode cX0_control 156 = .ok (.iload_n 3, 1) := dk_29 (dk_at dksX0_control_6 16 rfl rfl)
theorem dX0_control_157 : decode cX0_control 157 = .ok (.iload 4, 2) := dk_21 4 (dk_at dksX0_control_6 17 rfl rfl)
theorem dX0_control_159 : decode cX0_control 159 = .ok (.iload 5, 2) := dk_21 5 (dk_at dksX0_control_6 19 rfl rfl)
theorem dX0_control_161 : decode cX0_control 161 = .ok (.iload 6, 2) := dk_21 6 (dk_at dksX0_control_6 21 rfl rfl)
theorem dX0_control_163 : decode cX0_control 163 = .ok (.invokespecial 449, 3) := dk_183 1 193 (dk_at dksX0_control_7 0 rfl rfl)
theorem dX0_control_166 : decode cX0_control 166 = .ok (.goto 19, 3) := dk_167 0 19 (dk_at dksX0_control_7 3 rfl rfl)
theorem dX0_control_169 : decode cX0_control 169 = .ok (.new 450, 3) := dk_187 1 194 (dk_at dksX0_control_7 6 rfl rfl)
theorem dX0_control_172 : decode cX0_control 172 = .ok (.dup, 1) := dk_89 (dk_at dksX0_control_7 9 rfl rfl)
theorem dX0_control_173 : decode cX0_control 173 = .ok (.aload_n 0, 1) := dk_42 (dk_at dksX0_control_7 10 rfl rfl)
theorem dX0_control_174 : decode cX0_control 174 = .ok (.iload_n 2, 1) := dk_28 (dk_at dksX0_control_7 11 rfl rfl)
theorem dX0_control_175 : decode cX0_control 175 = .ok (.iload_n 3, 1) := dk_29 (dk_at dksX0_control_7 12 rfl rfl)
theorem dX0_control_176 : decode cX0_control 176 = .ok (.iload 4, 2) := dk_21 4 (dk_at dksX0_control_7 13 rfl rfl)
theorem dX0_control_178 : decode cX0_control 178 = .ok (.iload 5, 2) := dk_21 5 (dk_at dksX0_control_7 15 rfl rfl)
theorem dX0_control_180 : decode cX0_control 180 = .ok (.iload 6, 2) := dk_21 6 (dk_at dksX0_control_7 17 rfl rfl)
theorem dX0_control_182 : decode cX0_control 182 = .ok (.invokespecial 452, 3) := dk_183 1 196 (dk_at dksX0_control_7 19 rfl rfl)
theorem dX0_control_185 : decode cX0_control 185 = .ok (.invokevirtual 146, 3) := dk_182 0 146 (dk_at dksX0_control_8 0 rfl rfl)
theorem dX0_control_188 : decode cX0_control 188 = .ok (.pop, 1) := dk_87 (dk_at dksX0_control_8 3 rfl rfl)
theorem dX0_control_189 : decode cX0_control 189 = .ok (.aload_n 0, 1) := dk_42 (dk_at dksX0_control_8 4 rfl rfl)
theorem dX0_control_190 : decode cX0_control 190 = .ok (.getfield 45, 3) := dk_180 0 45 (dk_at dksX0_control_8 5 rfl rfl)
theorem dX0_control_193 : decode cX0_control 193 = .ok (.invokevirtual 137, 3) := dk_182 0 137 (dk_at dksX0_control_8 8 rfl rfl)
theorem dX0_control_196 : decode cX0_control 196 = .ok (.iconst 1, 1) := dk_4 (dk_at dksX0_control_8 11 rfl rfl)
theorem dX0_control_197 : decode cX0_control 197 = .ok (.isub, 1) := dk_100 (dk_at dksX0_control_8 12 rfl rfl)
theorem dX0_control_198 : decode cX0_control 198 = .ok (.ireturn, 1) := dk_172 (dk_at dksX0_control_8 13 rfl rfl)
abbrev cX0_closes : ByteArray := prog_1_method_66_code
def yX0_closes : MethodName := ⟨RX0, "closes", "(IIIII)I"⟩
def dkwX0_closes_1 : List UInt8 := [167, 0, 22, 42, 27, 28, 29, 21, 4, 21, 5, 182, 1, 204, 153, 0, 7, 4, 167, 0, 4, 3, 172]
abbrev dktX0_closes_1 : List UInt8 := dkwX0_closes_1 ++ []
def dkwX0_closes_0 : List UInt8 := [42, 27, 182, 1, 201, 153, 0, 16, 42, 28, 29, 21, 4, 21, 5, 182, 1, 64, 154, 0, 7, 2]
abbrev dktX0_closes_0 : List UInt8 := dkwX0_closes_0 ++ dktX0_closes_1
theorem dksX0_closes_0 : cX0_closes.data.toList.drop 0 = dktX0_closes_0 := by decide +kernel
theorem dksX0_closes_1 : cX0_closes.data.toList.drop 22 = dktX0_closes_1 := dk_seg dksX0_closes_0 22 rfl rfl
theorem dX0_closes_0 : decode cX0_closes 0 = .ok (.aload_n 0, 1) := dk_42 (dk_at dksX0_closes_0 0 rfl rfl)
theorem dX0_closes_1 : decode cX0_closes 1 = .ok (.iload_n 1, 1) := dk_27 (dk_at dksX0_closes_0 1 rfl rfl)
theorem dX0_closes_2 : decode cX0_closes 2 = .ok (.invokevirtual 457, 3) := dk_182 1 201 (dk_at dksX0_closes_0 2 rfl rfl)
theorem dX0_closes_5 : decode cX0_closes 5 = .ok (.ifCond .eq 16, 3) := dk_153 0 16 (dk_at dksX0_closes_0 5 rfl rfl)
theorem dX0_closes_8 : decode cX0_closes 8 = .ok (.aload_n 0, 1) := dk_42 (dk_at dksX0_closes_0 8 rfl rfl)
theorem dX0_closes_9 : decode cX0_closes 9 = .ok (.iload_n 2, 1) := dk_28 (dk_at dksX0_closes_0 9 rfl rfl)
theorem dX0_closes_10 : decode cX0_closes 10 = .ok (.iload_n 3, 1) := dk_29 (dk_at dksX0_closes_0 10 rfl rfl)
theorem dX0_closes_11 : decode cX0_closes 11 = .ok (.iload 4, 2) := dk_21 4 (dk_at dksX0_closes_0 11 rfl rfl)
theorem dX0_closes_13 : decode cX0_closes 13 = .ok (.iload 5, 2) := dk_21 5 (dk_at dksX0_closes_0 13 rfl rfl)
theorem dX0_closes_15 : decode cX0_closes 15 = .ok (.invokevirtual 320, 3) := dk_182 1 64 (dk_at dksX0_closes_0 15 rfl rfl)
theorem dX0_closes_18 : decode cX0_closes 18 = .ok (.ifCond .ne 7, 3) := dk_154 0 7 (dk_at dksX0_closes_0 18 rfl rfl)
theorem dX0_closes_21 : decode cX0_closes 21 = .ok (.iconst (-1), 1) := dk_2 (dk_at dksX0_closes_0 21 rfl rfl)
theorem dX0_closes_22 : decode cX0_closes 22 = .ok (.goto 22, 3) := dk_167 0 22 (dk_at dksX0_closes_1 0 rfl rfl)
theorem dX0_closes_25 : decode cX0_closes 25 = .ok (.aload_n 0, 1) := dk_42 (dk_at dksX0_closes_1 3 rfl rfl)
theorem dX0_closes_26 : decode cX0_closes 26 = .ok (.iload_n 1, 1) := dk_27 (dk_at dksX0_closes_1 4 rfl rfl)
theorem dX0_closes_27 : decode cX0_closes 27 = .ok (.iload_n 2, 1) := dk_28 (dk_at dksX0_closes_1 5 rfl rfl)
theorem dX0_closes_28 : decode cX0_closes 28 = .ok (.iload_n 3, 1) := dk_29 (dk_at dksX0_closes_1 6 rfl rfl)
theorem dX0_closes_29 : decode cX0_closes 29 = .ok (.iload 4, 2) := dk_21 4 (dk_at dksX0_closes_1 7 rfl rfl)
theorem dX0_closes_31 : decode cX0_closes 31 = .ok (.iload 5, 2) := dk_21 5 (dk_at dksX0_closes_1 9 rfl rfl)
theorem dX0_closes_33 : decode cX0_closes 33 = .ok (.invokevirtual 460, 3) := dk_182 1 204 (dk_at dksX0_closes_1 11 rfl rfl)
theorem dX0_closes_36 : decode cX0_closes 36 = .ok (.ifCond .eq 7, 3) := dk_153 0 7 (dk_at dksX0_closes_1 14 rfl rfl)
theorem dX0_closes_39 : decode cX0_closes 39 = .ok (.iconst 1, 1) := dk_4 (dk_at dksX0_closes_1 17 rfl rfl)
theorem dX0_closes_40 : decode cX0_closes 40 = .ok (.goto 4, 3) := dk_167 0 4 (dk_at dksX0_closes_1 18 rfl rfl)
theorem dX0_closes_43 : decode cX0_closes 43 = .ok (.iconst 0, 1) := dk_3 (dk_at dksX0_closes_1 21 rfl rfl)
theorem dX0_closes_44 : decode cX0_closes 44 = .ok (.ireturn, 1) := dk_172 (dk_at dksX0_closes_1 22 rfl rfl)
abbrev cX0_areControls : ByteArray := prog_1_method_63_code
def yX0_areControls : MethodName := ⟨RX0, "areControls", "(I)Z"⟩
def dkwX0_areControls_0 : List UInt8 := [27, 155, 0, 20, 27, 4, 42, 180, 0, 45, 182, 0, 137, 120, 162, 0, 7, 4, 167, 0, 4, 3, 172]
abbrev dktX0_areControls_0 : List UInt8 := dkwX0_areControls_0 ++ []
theorem dksX0_areControls_0 : cX0_areControls.data.toList.drop 0 = dktX0_areControls_0 := by decide +kernel
theorem dX0_areControls_0 : decode cX0_areControls 0 = .ok (.iload_n 1, 1) := dk_27 (dk_at dksX0_areControls_0 0 rfl rfl)
theorem dX0_areControls_1 : decode cX0_areControls 1 = .ok (.ifCond .lt 20, 3) := dk_155 0 20 (dk_at dksX0_areControls_0 1 rfl rfl)
theorem dX0_areControls_4 : decode cX0_areControls 4 = .ok (.iload_n 1, 1) := dk_27 (dk_at dksX0_areControls_0 4 rfl rfl)
theorem dX0_areControls_5 : decode cX0_areControls 5 = .ok (.iconst 1, 1) := dk_4 (dk_at dksX0_areControls_0 5 rfl rfl)
theorem dX0_areControls_6 : decode cX0_areControls 6 = .ok (.aload_n 0, 1) := dk_42 (dk_at dksX0_areControls_0 6 rfl rfl)
theorem dX0_areControls_7 : decode cX0_areControls 7 = .ok (.getfield 45, 3) := dk_180 0 45 (dk_at dksX0_areControls_0 7 rfl rfl)
theorem dX0_areControls_10 : decode cX0_areControls 10 = .ok (.invokevirtual 137, 3) := dk_182 0 137 (dk_at dksX0_areControls_0 10 rfl rfl)
theorem dX0_areControls_13 : decode cX0_areControls 13 = .ok (.ishl, 1) := dk_120 (dk_at dksX0_areControls_0 13 rfl rfl)
theorem dX0_areControls_14 : decode cX0_areControls 14 = .ok (.if_icmp .ge 7, 3) := dk_162 0 7 (dk_at dksX0_areControls_0 14 rfl rfl)
theorem dX0_areControls_17 : decode cX0_areControls 17 = .ok (.iconst 1, 1) := dk_4 (dk_at dksX0_areControls_0 17 rfl rfl)
theorem dX0_areControls_18 : decode cX0_areControls 18 = .ok (.goto 4, 3) := dk_167 0 4 (dk_at dksX0_areControls_0 18 rfl rfl)
theorem dX0_areControls_21 : decode cX0_areControls 21 = .ok (.iconst 0, 1) := dk_3 (dk_at dksX0_areControls_0 21 rfl rfl)
theorem dX0_areControls_22 : decode cX0_areControls 22 = .ok (.ireturn, 1) := dk_172 (dk_at dksX0_areControls_0 22 rfl rfl)
abbrev cX0_isClosed : ByteArray := prog_1_method_65_code
def yX0_isClosed : MethodName := ⟨RX0, "isClosed", "(IIIII)Z"⟩
def dkwX0_isClosed_2 : List UInt8 := [21, 5, 182, 1, 197, 153, 0, 5, 3, 172, 132, 7, 1, 167, 255, 214, 132, 6, 1, 167, 255, 193, 4, 172]
abbrev dktX0_isClosed_2 : List UInt8 := dkwX0_isClosed_2 ++ []
def dkwX0_isClosed_1 : List UInt8 := [162, 0, 39, 42, 27, 42, 180, 0, 49, 21, 6, 182, 0, 172, 192, 1, 26, 21, 7, 28, 29, 21, 4]
abbrev dktX0_isClosed_1 : List UInt8 := dkwX0_isClosed_1 ++ dktX0_isClosed_2
def dkwX0_isClosed_0 : List UInt8 := [3, 54, 6, 21, 6, 42, 180, 0, 49, 182, 0, 137, 162, 0, 57, 3, 54, 7, 21, 7, 42, 180, 0, 25]
abbrev dktX0_isClosed_0 : List UInt8 := dkwX0_isClosed_0 ++ dktX0_isClosed_1
theorem dksX0_isClosed_0 : cX0_isClosed.data.toList.drop 0 = dktX0_isClosed_0 := by decide +kernel
theorem dksX0_isClosed_1 : cX0_isClosed.data.toList.drop 24 = dktX0_isClosed_1 := dk_seg dksX0_isClosed_0 24 rfl rfl
theorem dksX0_isClosed_2 : cX0_isClosed.data.toList.drop 47 = dktX0_isClosed_2 := dk_seg dksX0_isClosed_1 23 rfl rfl
theorem dX0_isClosed_0 : decode cX0_isClosed 0 = .ok (.iconst 0, 1) := dk_3 (dk_at dksX0_isClosed_0 0 rfl rfl)
theorem dX0_isClosed_1 : decode cX0_isClosed 1 = .ok (.istore 6, 2) := dk_54 6 (dk_at dksX0_isClosed_0 1 rfl rfl)
theorem dX0_isClosed_3 : decode cX0_isClosed 3 = .ok (.iload 6, 2) := dk_21 6 (dk_at dksX0_isClosed_0 3 rfl rfl)
theorem dX0_isClosed_5 : decode cX0_isClosed 5 = .ok (.aload_n 0, 1) := dk_42 (dk_at dksX0_isClosed_0 5 rfl rfl)
theorem dX0_isClosed_6 : decode cX0_isClosed 6 = .ok (.getfield 49, 3) := dk_180 0 49 (dk_at dksX0_isClosed_0 6 rfl rfl)
theorem dX0_isClosed_9 : decode cX0_isClosed 9 = .ok (.invokevirtual 137, 3) := dk_182 0 137 (dk_at dksX0_isClosed_0 9 rfl rfl)
theorem dX0_isClosed_12 : decode cX0_isClosed 12 = .ok (.if_icmp .ge 57, 3) := dk_162 0 57 (dk_at dksX0_isClosed_0 12 rfl rfl)
theorem dX0_isClosed_15 : decode cX0_isClosed 15 = .ok (.iconst 0, 1) := dk_3 (dk_at dksX0_isClosed_0 15 rfl rfl)
theorem dX0_isClosed_16 : decode cX0_isClosed 16 = .ok (.istore 7, 2) := dk_54 7 (dk_at dksX0_isClosed_0 16 rfl rfl)
theorem dX0_isClosed_18 : decode cX0_isClosed 18 = .ok (.iload 7, 2) := dk_21 7 (dk_at dksX0_isClosed_0 18 rfl rfl)
theorem dX0_isClosed_20 : decode cX0_isClosed 20 = .ok (.aload_n 0, 1) := dk_42 (dk_at dksX0_isClosed_0 20 rfl rfl)
theorem dX0_isClosed_21 : decode cX0_isClosed 21 = .ok (.getfield 25, 3) := dk_180 0 25 (dk_at dksX0_isClosed_0 21 rfl rfl)
theorem dX0_isClosed_24 : decode cX0_isClosed 24 = .ok (.if_icmp .ge 39, 3) := dk_162 0 39 (dk_at dksX0_isClosed_1 0 rfl rfl)
theorem dX0_isClosed_27 : decode cX0_isClosed 27 = .ok (.aload_n 0, 1) := dk_42 (dk_at dksX0_isClosed_1 3 rfl rfl)
theorem dX0_isClosed_28 : decode cX0_isClosed 28 = .ok (.iload_n 1, 1) := dk_27 (dk_at dksX0_isClosed_1 4 rfl rfl)
theorem dX0_isClosed_29 : decode cX0_isClosed 29 = .ok (.aload_n 0, 1) := dk_42 (dk_at dksX0_isClosed_1 5 rfl rfl)
theorem dX0_isClosed_30 : decode cX0_isClosed 30 = .ok (.getfield 49, 3) := dk_180 0 49 (dk_at dksX0_isClosed_1 6 rfl rfl)
theorem dX0_isClosed_33 : decode cX0_isClosed 33 = .ok (.iload 6, 2) := dk_21 6 (dk_at dksX0_isClosed_1 9 rfl rfl)
theorem dX0_isClosed_35 : decode cX0_isClosed 35 = .ok (.invokevirtual 172, 3) := dk_182 0 172 (dk_at dksX0_isClosed_1 11 rfl rfl)
theorem dX0_isClosed_38 : decode cX0_isClosed 38 = .ok (.checkcast 282, 3) := dk_192 1 26 (dk_at dksX0_isClosed_1 14 rfl rfl)
theorem dX0_isClosed_41 : decode cX0_isClosed 41 = .ok (.iload 7, 2) := dk_21 7 (dk_at dksX0_isClosed_1 17 rfl rfl)
theorem dX0_isClosed_43 : decode cX0_isClosed 43 = .ok (.iload_n 2, 1) := dk_28 (dk_at dksX0_isClosed_1 19 rfl rfl)
theorem dX0_isClosed_44 : decode cX0_isClosed 44 = .ok (.iload_n 3, 1) := dk_29 (dk_at dksX0_isClosed_1 20 rfl rfl)
theorem dX0_isClosed_45 : decode cX0_isClosed 45 = .ok (.iload 4, 2) := dk_21 4 (dk_at dksX0_isClosed_1 21 rfl rfl)
theorem dX0_isClosed_47 : decode cX0_isClosed 47 = .ok (.iload 5, 2) := dk_21 5 (dk_at dksX0_isClosed_2 0 rfl rfl)
theorem dX0_isClosed_49 : decode cX0_isClosed 49 = .ok (.invokevirtual 453, 3) := dk_182 1 197 (dk_at dksX0_isClosed_2 2 rfl rfl)
theorem dX0_isClosed_52 : decode cX0_isClosed 52 = .ok (.ifCond .eq 5, 3) := dk_153 0 5 (dk_at dksX0_isClosed_2 5 rfl rfl)
theorem dX0_isClosed_55 : decode cX0_isClosed 55 = .ok (.iconst 0, 1) := dk_3 (dk_at dksX0_isClosed_2 8 rfl rfl)
theorem dX0_isClosed_56 : decode cX0_isClosed 56 = .ok (.ireturn, 1) := dk_172 (dk_at dksX0_isClosed_2 9 rfl rfl)
theorem dX0_isClosed_57 : decode cX0_isClosed 57 = .ok (.iinc 7 1, 3) := dk_132 7 1 (dk_at dksX0_isClosed_2 10 rfl rfl)
theorem dX0_isClosed_60 : decode cX0_isClosed 60 = .ok (.goto (-42), 3) := dk_167 255 214 (dk_at dksX0_isClosed_2 13 rfl rfl)
theorem dX0_isClosed_63 : decode cX0_isClosed 63 = .ok (.iinc 6 1, 3) := dk_132 6 1 (dk_at dksX0_isClosed_2 16 rfl rfl)
theorem dX0_isClosed_66 : decode cX0_isClosed 66 = .ok (.goto (-63), 3) := dk_167 255 193 (dk_at dksX0_isClosed_2 19 rfl rfl)
theorem dX0_isClosed_69 : decode cX0_isClosed 69 = .ok (.iconst 1, 1) := dk_4 (dk_at dksX0_isClosed_2 22 rfl rfl)
theorem dX0_isClosed_70 : decode cX0_isClosed 70 = .ok (.ireturn, 1) := dk_172 (dk_at dksX0_isClosed_2 23 rfl rfl)
abbrev cX0_fitsUnder : ByteArray := prog_1_method_64_code
def yX0_fitsUnder : MethodName := ⟨RX0, "fitsUnder", "(ILRapTable$Way;IIIII)Z"⟩
def dkwX0_fitsUnder_1 : List UInt8 := [4, 167, 0, 4, 3, 54, 8, 42, 3, 181, 0, 196, 21, 8, 172]
abbrev dktX0_fitsUnder_1 : List UInt8 := dkwX0_fitsUnder_1 ++ []
def dkwX0_fitsUnder_0 : List UInt8 := [42, 27, 181, 0, 196, 42, 44, 29, 3, 21, 4, 21, 5, 21, 6, 21, 7, 182, 1, 68, 2, 159, 0, 7]
abbrev dktX0_fitsUnder_0 : List UInt8 := dkwX0_fitsUnder_0 ++ dktX0_fitsUnder_1
theorem dksX0_fitsUnder_0 : cX0_fitsUnder.data.toList.drop 0 = dktX0_fitsUnder_0 := by decide +kernel
theorem dksX0_fitsUnder_1 : cX0_fitsUnder.data.toList.drop 24 = dktX0_fitsUnder_1 := dk_seg dksX0_fitsUnder_0 24 rfl rfl
theorem dX0_fitsUnder_0 : decode cX0_fitsUnder 0 = .ok (.aload_n 0, 1) := dk_42 (dk_at dksX0_fitsUnder_0 0 rfl rfl)
theorem dX0_fitsUnder_1 : decode cX0_fitsUnder 1 = .ok (.iload_n 1, 1) := dk_27 (dk_at dksX0_fitsUnder_0 1 rfl rfl)
theorem dX0_fitsUnder_2 : decode cX0_fitsUnder 2 = .ok (.putfield 196, 3) := dk_181 0 196 (dk_at dksX0_fitsUnder_0 2 rfl rfl)
theorem dX0_fitsUnder_5 : decode cX0_fitsUnder 5 = .ok (.aload_n 0, 1) := dk_42 (dk_at dksX0_fitsUnder_0 5 rfl rfl)
theorem dX0_fitsUnder_6 : decode cX0_fitsUnder 6 = .ok (.aload_n 2, 1) := dk_44 (dk_at dksX0_fitsUnder_0 6 rfl rfl)
theorem dX0_fitsUnder_7 : decode cX0_fitsUnder 7 = .ok (.iload_n 3, 1) := dk_29 (dk_at dksX0_fitsUnder_0 7 rfl rfl)
theorem dX0_fitsUnder_8 : decode cX0_fitsUnder 8 = .ok (.iconst 0, 1) := dk_3 (dk_at dksX0_fitsUnder_0 8 rfl rfl)
theorem dX0_fitsUnder_9 : decode cX0_fitsUnder 9 = .ok (.iload 4, 2) := dk_21 4 (dk_at dksX0_fitsUnder_0 9 rfl rfl)
theorem dX0_fitsUnder_11 : decode cX0_fitsUnder 11 = .ok (.iload 5, 2) := dk_21 5 (dk_at dksX0_fitsUnder_0 11 rfl rfl)
theorem dX0_fitsUnder_13 : decode cX0_fitsUnder 13 = .ok (.iload 6, 2) := dk_21 6 (dk_at dksX0_fitsUnder_0 13 rfl rfl)
theorem dX0_fitsUnder_15 : decode cX0_fitsUnder 15 = .ok (.iload 7, 2) := dk_21 7 (dk_at dksX0_fitsUnder_0 15 rfl rfl)
theorem dX0_fitsUnder_17 : decode cX0_fitsUnder 17 = .ok (.invokevirtual 324, 3) := dk_182 1 68 (dk_at dksX0_fitsUnder_0 17 rfl rfl)
theorem dX0_fitsUnder_20 : decode cX0_fitsUnder 20 = .ok (.iconst (-1), 1) := dk_2 (dk_at dksX0_fitsUnder_0 20 rfl rfl)
theorem dX0_fitsUnder_21 : decode cX0_fitsUnder 21 = .ok (.if_icmp .eq 7, 3) := dk_159 0 7 (dk_at dksX0_fitsUnder_0 21 rfl rfl)
theorem dX0_fitsUnder_24 : decode cX0_fitsUnder 24 = .ok (.iconst 1, 1) := dk_4 (dk_at dksX0_fitsUnder_1 0 rfl rfl)
theorem dX0_fitsUnder_25 : decode cX0_fitsUnder 25 = .ok (.goto 4, 3) := dk_167 0 4 (dk_at dksX0_fitsUnder_1 1 rfl rfl)
theorem dX0_fitsUnder_28 : decode cX0_fitsUnder 28 = .ok (.iconst 0, 1) := dk_3 (dk_at dksX0_fitsUnder_1 4 rfl rfl)
theorem dX0_fitsUnder_29 : decode cX0_fitsUnder 29 = .ok (.istore 8, 2) := dk_54 8 (dk_at dksX0_fitsUnder_1 5 rfl rfl)
theorem dX0_fitsUnder_31 : decode cX0_fitsUnder 31 = .ok (.aload_n 0, 1) := dk_42 (dk_at dksX0_fitsUnder_1 7 rfl rfl)
theorem dX0_fitsUnder_32 : decode cX0_fitsUnder 32 = .ok (.iconst 0, 1) := dk_3 (dk_at dksX0_fitsUnder_1 8 rfl rfl)
theorem dX0_fitsUnder_33 : decode cX0_fitsUnder 33 = .ok (.putfield 196, 3) := dk_181 0 196 (dk_at dksX0_fitsUnder_1 9 rfl rfl)
theorem dX0_fitsUnder_36 : decode cX0_fitsUnder 36 = .ok (.iload 8, 2) := dk_21 8 (dk_at dksX0_fitsUnder_1 12 rfl rfl)
theorem dX0_fitsUnder_38 : decode cX0_fitsUnder 38 = .ok (.ireturn, 1) := dk_172 (dk_at dksX0_fitsUnder_1 14 rfl rfl)
abbrev cX0_cheapest : ByteArray := prog_1_method_68_code
def yX0_cheapest : MethodName := ⟨RX0, "cheapest", "(IIIII)I"⟩
def dkwX0_cheapest_6 : List UInt8 := [182, 1, 211, 172]
abbrev dktX0_cheapest_6 : List UInt8 := dkwX0_cheapest_6 ++ []
def dkwX0_cheapest_5 : List UInt8 := [167, 255, 169, 21, 6, 2, 159, 0, 8, 21, 5, 154, 0, 8, 21, 6, 167, 0, 9, 42, 21, 6]
abbrev dktX0_cheapest_5 : List UInt8 := dkwX0_cheapest_5 ++ dktX0_cheapest_6
def dkwX0_cheapest_4 : List UInt8 := [167, 0, 21, 42, 21, 7, 27, 28, 29, 21, 4, 182, 1, 204, 153, 0, 7, 21, 7, 54, 6, 132, 7, 1]
abbrev dktX0_cheapest_4 : List UInt8 := dkwX0_cheapest_4 ++ dktX0_cheapest_5
def dkwX0_cheapest_3 : List UInt8 := [42, 21, 6, 182, 1, 211, 160, 0, 19, 21, 7, 184, 1, 158, 21, 6, 184, 1, 158, 161, 0, 6]
abbrev dktX0_cheapest_3 : List UInt8 := dkwX0_cheapest_3 ++ dktX0_cheapest_4
def dkwX0_cheapest_2 : List UInt8 := [159, 0, 49, 42, 21, 7, 182, 1, 211, 42, 21, 6, 182, 1, 211, 163, 0, 52, 42, 21, 7, 182, 1, 211]
abbrev dktX0_cheapest_2 : List UInt8 := dkwX0_cheapest_2 ++ dktX0_cheapest_3
def dkwX0_cheapest_1 : List UInt8 := [172, 2, 54, 6, 3, 54, 7, 21, 7, 4, 42, 180, 0, 45, 182, 0, 137, 120, 162, 0, 79, 21, 6, 2]
abbrev dktX0_cheapest_1 : List UInt8 := dkwX0_cheapest_1 ++ dktX0_cheapest_2
def dkwX0_cheapest_0 : List UInt8 := [42, 27, 28, 29, 21, 4, 182, 1, 64, 153, 0, 14, 21, 5, 133, 9, 10, 184, 0, 5, 154, 0, 5, 2]
abbrev dktX0_cheapest_0 : List UInt8 := dkwX0_cheapest_0 ++ dktX0_cheapest_1
theorem dksX0_cheapest_0 : cX0_cheapest.data.toList.drop 0 = dktX0_cheapest_0 := by decide +kernel
theorem dksX0_cheapest_1 : cX0_cheapest.data.toList.drop 24 = dktX0_cheapest_1 := dk_seg dksX0_cheapest_0 24 rfl rfl
theorem dksX0_cheapest_2 : cX0_cheapest.data.toList.drop 48 = dktX0_cheapest_2 := dk_seg dksX0_cheapest_1 24 rfl rfl
theorem dksX0_cheapest_3 : cX0_cheapest.data.toList.drop 72 = dktX0_cheapest_3 := dk_seg dksX0_cheapest_2 24 rfl rfl
theorem dksX0_cheapest_4 : cX0_cheapest.data.toList.drop 94 = dktX0_cheapest_4 := dk_seg dksX0_cheapest_3 22 rfl rfl
theorem dksX0_cheapest_5 : cX0_cheapest.data.toList.drop 118 = dktX0_cheapest_5 := dk_seg dksX0_cheapest_4 24 rfl rfl
theorem dksX0_cheapest_6 : cX0_cheapest.data.toList.drop 140 = dktX0_cheapest_6 := dk_seg dksX0_cheapest_5 22 rfl rfl
theorem dX0_cheapest_0 : decode cX0_cheapest 0 = .ok (.aload_n 0, 1) := dk_42 (dk_at dksX0_cheapest_0 0 rfl rfl)
theorem dX0_cheapest_1 : decode cX0_cheapest 1 = .ok (.iload_n 1, 1) := dk_27 (dk_at dksX0_cheapest_0 1 rfl rfl)
theorem dX0_cheapest_2 : decode cX0_cheapest 2 = .ok (.iload_n 2, 1) := dk_28 (dk_at dksX0_cheapest_0 2 rfl rfl)
theorem dX0_cheapest_3 : decode cX0_cheapest 3 = .ok (.iload_n 3, 1) := dk_29 (dk_at dksX0_cheapest_0 3 rfl rfl)
theorem dX0_cheapest_4 : decode cX0_cheapest 4 = .ok (.iload 4, 2) := dk_21 4 (dk_at dksX0_cheapest_0 4 rfl rfl)
theorem dX0_cheapest_6 : decode cX0_cheapest 6 = .ok (.invokevirtual 320, 3) := dk_182 1 64 (dk_at dksX0_cheapest_0 6 rfl rfl)
theorem dX0_cheapest_9 : decode cX0_cheapest 9 = .ok (.ifCond .eq 14, 3) := dk_153 0 14 (dk_at dksX0_cheapest_0 9 rfl rfl)
theorem dX0_cheapest_12 : decode cX0_cheapest 12 = .ok (.iload 5, 2) := dk_21 5 (dk_at dksX0_cheapest_0 12 rfl rfl)
theorem dX0_cheapest_14 : decode cX0_cheapest 14 = .ok (.i2l, 1) := dk_133 (dk_at dksX0_cheapest_0 14 rfl rfl)
theorem dX0_cheapest_15 : decode cX0_cheapest 15 = .ok (.lconst 0, 1) := dk_9 (dk_at dksX0_cheapest_0 15 rfl rfl)
theorem dX0_cheapest_16 : decode cX0_cheapest 16 = .ok (.lconst 1, 1) := dk_10 (dk_at dksX0_cheapest_0 16 rfl rfl)
theorem dX0_cheapest_17 : decode cX0_cheapest 17 = .ok (.invokestatic 5, 3) := dk_184 0 5 (dk_at dksX0_cheapest_0 17 rfl rfl)
theorem dX0_cheapest_20 : decode cX0_cheapest 20 = .ok (.ifCond .ne 5, 3) := dk_154 0 5 (dk_at dksX0_cheapest_0 20 rfl rfl)
theorem dX0_cheapest_23 : decode cX0_cheapest 23 = .ok (.iconst (-1), 1) := dk_2 (dk_at dksX0_cheapest_0 23 rfl rfl)
theorem dX0_cheapest_24 : decode cX0_cheapest 24 = .ok (.ireturn, 1) := dk_172 (dk_at dksX0_cheapest_1 0 rfl rfl)
theorem dX0_cheapest_25 : decode cX0_cheapest 25 = .ok (.iconst (-1), 1) := dk_2 (dk_at dksX0_cheapest_1 1 rfl rfl)
theorem dX0_cheapest_26 : decode cX0_cheapest 26 = .ok (.istore 6, 2) := dk_54 6 (dk_at dksX0_cheapest_1 2 rfl rfl)
theorem dX0_cheapest_28 : decode cX0_cheapest 28 = .ok (.iconst 0, 1) := dk_3 (dk_at dksX0_cheapest_1 4 rfl rfl)
theorem dX0_cheapest_29 : decode cX0_cheapest 29 = .ok (.istore 7, 2) := dk_54 7 (dk_at dksX0_cheapest_1 5 rfl rfl)
theorem dX0_cheapest_31 : decode cX0_cheapest 31 = .ok (.iload 7, 2) := dk_21 7 (dk_at dksX0_cheapest_1 7 rfl rfl)
theorem dX0_cheapest_33 : decode cX0_cheapest 33 = .ok (.iconst 1, 1) := dk_4 (dk_at dksX0_cheapest_1 9 rfl rfl)
theorem dX0_cheapest_34 : decode cX0_cheapest 34 = .ok (.aload_n 0, 1) := dk_42 (dk_at dksX0_cheapest_1 10 rfl rfl)
theorem dX0_cheapest_35 : decode cX0_cheapest 35 = .ok (.getfield 45, 3) := dk_180 0 45 (dk_at dksX0_cheapest_1 11 rfl rfl)
theorem dX0_cheapest_38 : decode cX0_cheapest 38 = .ok (.invokevirtual 137, 3) := dk_182 0 137 (dk_at dksX0_cheapest_1 14 rfl rfl)
theorem dX0_cheapest_41 : decode cX0_cheapest 41 = .ok (.ishl, 1) := dk_120 (dk_at dksX0_cheapest_1 17 rfl rfl)
theorem dX0_cheapest_42 : decode cX0_cheapest 42 = .ok (.if_icmp .ge 79, 3) := dk_162 0 79 (dk_at dksX0_cheapest_1 18 rfl rfl)
theorem dX0_cheapest_45 : decode cX0_cheapest 45 = .ok (.iload 6, 2) := dk_21 6 (dk_at dksX0_cheapest_1 21 rfl rfl)
theorem dX0_cheapest_47 : decode cX0_cheapest 47 = .ok (.iconst (-1), 1) := dk_2 (dk_at dksX0_cheapest_1 23 rfl rfl)
theorem dX0_cheapest_48 : decode cX0_cheapest 48 = .ok (.if_icmp .eq 49, 3) := dk_159 0 49 (dk_at dksX0_cheapest_2 0 rfl rfl)
theorem dX0_cheapest_51 : decode cX0_cheapest 51 = .ok (.aload_n 0, 1) := dk_42 (dk_at dksX0_cheapest_2 3 rfl rfl)
theorem dX0_cheapest_52 : decode cX0_cheapest 52 = .ok (.iload 7, 2) := dk_21 7 (dk_at dksX0_cheapest_2 4 rfl rfl)
theorem dX0_cheapest_54 : decode cX0_cheapest 54 = .ok (.invokevirtual 467, 3) := dk_182 1 211 (dk_at dksX0_cheapest_2 6 rfl rfl)
theorem dX0_cheapest_57 : decode cX0_cheapest 57 = .ok (.aload_n 0, 1) := dk_42 (dk_at dksX0_cheapest_2 9 rfl rfl)
theorem dX0_cheapest_58 : decode cX0_cheapest 58 = .ok (.iload 6, 2) := dk_21 6 (dk_at dksX0_cheapest_2 10 rfl rfl)
theorem dX0_cheapest_60 : decode cX0_cheapest 60 = .ok (.invokevirtual 467, 3) := dk_182 1 211 (dk_at dksX0_cheapest_2 12 rfl rfl)
theorem dX0_cheapest_63 : decode cX0_cheapest 63 = .ok (.if_icmp .gt 52, 3) := dk_163 0 52 (dk_at dksX0_cheapest_2 15 rfl rfl)
theorem dX0_cheapest_66 : decode cX0_cheapest 66 = .ok (.aload_n 0, 1) := dk_42 (dk_at dksX0_cheapest_2 18 rfl rfl)
theorem dX0_cheapest_67 : decode cX0_cheapest 67 = .ok (.iload 7, 2) := dk_21 7 (dk_at dksX0_cheapest_2 19 rfl rfl)
theorem dX0_cheapest_69 : decode cX0_cheapest 69 = .ok (.invokevirtual 467, 3) := dk_182 1 211 (dk_at dksX0_cheapest_2 21 rfl rfl)
theorem dX0_cheapest_72 : decode cX0_cheapest 72 = .ok (.aload_n 0, 1) := dk_42 (dk_at dksX0_cheapest_3 0 rfl rfl)
theorem dX0_cheapest_73 : decode cX0_cheapest 73 = .ok (.iload 6, 2) := dk_21 6 (dk_at dksX0_cheapest_3 1 rfl rfl)
theorem dX0_cheapest_75 : decode cX0_cheapest 75 = .ok (.invokevirtual 467, 3) := dk_182 1 211 (dk_at dksX0_cheapest_3 3 rfl rfl)
theorem dX0_cheapest_78 : decode cX0_cheapest 78 = .ok (.if_icmp .ne 19, 3) := dk_160 0 19 (dk_at dksX0_cheapest_3 6 rfl rfl)
theorem dX0_cheapest_81 : decode cX0_cheapest 81 = .ok (.iload 7, 2) := dk_21 7 (dk_at dksX0_cheapest_3 9 rfl rfl)
theorem dX0_cheapest_83 : decode cX0_cheapest 83 = .ok (.invokestatic 414, 3) := dk_184 1 158 (dk_at dksX0_cheapest_3 11 rfl rfl)
theorem dX0_cheapest_86 : decode cX0_cheapest 86 = .ok (.iload 6, 2) := dk_21 6 (dk_at dksX0_cheapest_3 14 rfl rfl)
theorem dX0_cheapest_88 : decode cX0_cheapest 88 = .ok (.invokestatic 414, 3) := dk_184 1 158 (dk_at dksX0_cheapest_3 16 rfl rfl)
theorem dX0_cheapest_91 : decode cX0_cheapest 91 = .ok (.if_icmp .lt 6, 3) := dk_161 0 6 (dk_at dksX0_cheapest_3 19 rfl rfl)
theorem dX0_cheapest_94 : decode cX0_cheapest 94 = .ok (.goto 21, 3) := dk_167 0 21 (dk_at dksX0_cheapest_4 0 rfl rfl)
theorem dX0_cheapest_97 : decode cX0_cheapest 97 = .ok (.aload_n 0, 1) := dk_42 (dk_at dksX0_cheapest_4 3 rfl rfl)
theorem dX0_cheapest_98 : decode cX0_cheapest 98 = .ok (.iload 7, 2) := dk_21 7 (dk_at dksX0_cheapest_4 4 rfl rfl)
theorem dX0_cheapest_100 : decode cX0_cheapest 100 = .ok (.iload_n 1, 1) := dk_27 (dk_at dksX0_cheapest_4 6 rfl rfl)
theorem dX0_cheapest_101 : decode cX0_cheapest 101 = .ok (.iload_n 2, 1) := dk_28 (dk_at dksX0_cheapest_4 7 rfl rfl)
theorem dX0_cheapest_102 : decode cX0_cheapest 102 = .ok (.iload_n 3, 1) := dk_29 (dk_at dksX0_cheapest_4 8 rfl rfl)
theorem dX0_cheapest_103 : decode cX0_cheapest 103 = .ok (.iload 4, 2) := dk_21 4 (dk_at dksX0_cheapest_4 9 rfl rfl)
theorem dX0_cheapest_105 : decode cX0_cheapest 105 = .ok (.invokevirtual 460, 3) := dk_182 1 204 (dk_at dksX0_cheapest_4 11 rfl rfl)
theorem dX0_cheapest_108 : decode cX0_cheapest 108 = .ok (.ifCond .eq 7, 3) := dk_153 0 7 (dk_at dksX0_cheapest_4 14 rfl rfl)
theorem dX0_cheapest_111 : decode cX0_cheapest 111 = .ok (.iload 7, 2) := dk_21 7 (dk_at dksX0_cheapest_4 17 rfl rfl)
theorem dX0_cheapest_113 : decode cX0_cheapest 113 = .ok (.istore 6, 2) := dk_54 6 (dk_at dksX0_cheapest_4 19 rfl rfl)
theorem dX0_cheapest_115 : decode cX0_cheapest 115 = .ok (.iinc 7 1, 3) := dk_132 7 1 (dk_at dksX0_cheapest_4 21 rfl rfl)
theorem dX0_cheapest_118 : decode cX0_cheapest 118 = .ok (.goto (-87), 3) := dk_167 255 169 (dk_at dksX0_cheapest_5 0 rfl rfl)
theorem dX0_cheapest_121 : decode cX0_cheapest 121 = .ok (.iload 6, 2) := dk_21 6 (dk_at dksX0_cheapest_5 3 rfl rfl)
theorem dX0_cheapest_123 : decode cX0_cheapest 123 = .ok (.iconst (-1), 1) := dk_2 (dk_at dksX0_cheapest_5 5 rfl rfl)
theorem dX0_cheapest_124 : decode cX0_cheapest 124 = .ok (.if_icmp .eq 8, 3) := dk_159 0 8 (dk_at dksX0_cheapest_5 6 rfl rfl)
theorem dX0_cheapest_127 : decode cX0_cheapest 127 = .ok (.iload 5, 2) := dk_21 5 (dk_at dksX0_cheapest_5 9 rfl rfl)
theorem dX0_cheapest_129 : decode cX0_cheapest 129 = .ok (.ifCond .ne 8, 3) := dk_154 0 8 (dk_at dksX0_cheapest_5 11 rfl rfl)
theorem dX0_cheapest_132 : decode cX0_cheapest 132 = .ok (.iload 6, 2) := dk_21 6 (dk_at dksX0_cheapest_5 14 rfl rfl)
theorem dX0_cheapest_134 : decode cX0_cheapest 134 = .ok (.goto 9, 3) := dk_167 0 9 (dk_at dksX0_cheapest_5 16 rfl rfl)
theorem dX0_cheapest_137 : decode cX0_cheapest 137 = .ok (.aload_n 0, 1) := dk_42 (dk_at dksX0_cheapest_5 19 rfl rfl)
theorem dX0_cheapest_138 : decode cX0_cheapest 138 = .ok (.iload 6, 2) := dk_21 6 (dk_at dksX0_cheapest_5 20 rfl rfl)
theorem dX0_cheapest_140 : decode cX0_cheapest 140 = .ok (.invokevirtual 467, 3) := dk_182 1 211 (dk_at dksX0_cheapest_6 0 rfl rfl)
theorem dX0_cheapest_143 : decode cX0_cheapest 143 = .ok (.ireturn, 1) := dk_172 (dk_at dksX0_cheapest_6 3 rfl rfl)
abbrev cX0_costOf : ByteArray := prog_1_method_67_code
def yX0_costOf : MethodName := ⟨RX0, "costOf", "(I)I"⟩
def dkwX0_costOf_2 : List UInt8 := [132, 3, 1, 167, 255, 212, 28, 172]
abbrev dktX0_costOf_2 : List UInt8 := dkwX0_costOf_2 ++ []
def dkwX0_costOf_1 : List UInt8 := [160, 0, 20, 42, 180, 0, 45, 29, 182, 0, 172, 192, 0, 199, 180, 1, 208, 167, 0, 4, 3, 96, 61]
abbrev dktX0_costOf_1 : List UInt8 := dkwX0_costOf_1 ++ dktX0_costOf_2
def dkwX0_costOf_0 : List UInt8 := [3, 61, 3, 62, 29, 42, 180, 0, 45, 182, 0, 137, 162, 0, 39, 28, 27, 29, 122, 4, 126, 4]
abbrev dktX0_costOf_0 : List UInt8 := dkwX0_costOf_0 ++ dktX0_costOf_1
theorem dksX0_costOf_0 : cX0_costOf.data.toList.drop 0 = dktX0_costOf_0 := by decide +kernel
theorem dksX0_costOf_1 : cX0_costOf.data.toList.drop 22 = dktX0_costOf_1 := dk_seg dksX0_costOf_0 22 rfl rfl
theorem dksX0_costOf_2 : cX0_costOf.data.toList.drop 45 = dktX0_costOf_2 := dk_seg dksX0_costOf_1 23 rfl rfl
theorem dX0_costOf_0 : decode cX0_costOf 0 = .ok (.iconst 0, 1) := dk_3 (dk_at dksX0_costOf_0 0 rfl rfl)
theorem dX0_costOf_1 : decode cX0_costOf 1 = .ok (.istore_n 2, 1) := dk_61 (dk_at dksX0_costOf_0 1 rfl rfl)
theorem dX0_costOf_2 : decode cX0_costOf 2 = .ok (.iconst 0, 1) := dk_3 (dk_at dksX0_costOf_0 2 rfl rfl)
theorem dX0_costOf_3 : decode cX0_costOf 3 = .ok (.istore_n 3, 1) := dk_62 (dk_at dksX0_costOf_0 3 rfl rfl)
theorem dX0_costOf_4 : decode cX0_costOf 4 = .ok (.iload_n 3, 1) := dk_29 (dk_at dksX0_costOf_0 4 rfl rfl)
theorem dX0_costOf_5 : decode cX0_costOf 5 = .ok (.aload_n 0, 1) := dk_42 (dk_at dksX0_costOf_0 5 rfl rfl)
theorem dX0_costOf_6 : decode cX0_costOf 6 = .ok (.getfield 45, 3) := dk_180 0 45 (dk_at dksX0_costOf_0 6 rfl rfl)
theorem dX0_costOf_9 : decode cX0_costOf 9 = .ok (.invokevirtual 137, 3) := dk_182 0 137 (dk_at dksX0_costOf_0 9 rfl rfl)
theorem dX0_costOf_12 : decode cX0_costOf 12 = .ok (.if_icmp .ge 39, 3) := dk_162 0 39 (dk_at dksX0_costOf_0 12 rfl rfl)
theorem dX0_costOf_15 : decode cX0_costOf 15 = .ok (.iload_n 2, 1) := dk_28 (dk_at dksX0_costOf_0 15 rfl rfl)
theorem dX0_costOf_16 : decode cX0_costOf 16 = .ok (.iload_n 1, 1) := dk_27 (dk_at dksX0_costOf_0 16 rfl rfl)
theorem dX0_costOf_17 : decode cX0_costOf 17 = .ok (.iload_n 3, 1) := dk_29 (dk_at dksX0_costOf_0 17 rfl rfl)
theorem dX0_costOf_18 : decode cX0_costOf 18 = .ok (.ishr, 1) := dk_122 (dk_at dksX0_costOf_0 18 rfl rfl)
theorem dX0_costOf_19 : decode cX0_costOf 19 = .ok (.iconst 1, 1) := dk_4 (dk_at dksX0_costOf_0 19 rfl rfl)
theorem dX0_costOf_20 : decode cX0_costOf 20 = .ok (.iand, 1) := dk_126 (dk_at dksX0_costOf_0 20 rfl rfl)
theorem dX0_costOf_21 : decode cX0_costOf 21 = .ok (.iconst 1, 1) := dk_4 (dk_at dksX0_costOf_0 21 rfl rfl)
theorem dX0_costOf_22 : decode cX0_costOf 22 = .ok (.if_icmp .ne 20, 3) := dk_160 0 20 (dk_at dksX0_costOf_1 0 rfl rfl)
theorem dX0_costOf_25 : decode cX0_costOf 25 = .ok (.aload_n 0, 1) := dk_42 (dk_at dksX0_costOf_1 3 rfl rfl)
theorem dX0_costOf_26 : decode cX0_costOf 26 = .ok (.getfield 45, 3) := dk_180 0 45 (dk_at dksX0_costOf_1 4 rfl rfl)
theorem dX0_costOf_29 : decode cX0_costOf 29 = .ok (.iload_n 3, 1) := dk_29 (dk_at dksX0_costOf_1 7 rfl rfl)
theorem dX0_costOf_30 : decode cX0_costOf 30 = .ok (.invokevirtual 172, 3) := dk_182 0 172 (dk_at dksX0_costOf_1 8 rfl rfl)
theorem dX0_costOf_33 : decode cX0_costOf 33 = .ok (.checkcast 199, 3) := dk_192 0 199 (dk_at dksX0_costOf_1 11 rfl rfl)
theorem dX0_costOf_36 : decode cX0_costOf 36 = .ok (.getfield 464, 3) := dk_180 1 208 (dk_at dksX0_costOf_1 14 rfl rfl)
theorem dX0_costOf_39 : decode cX0_costOf 39 = .ok (.goto 4, 3) := dk_167 0 4 (dk_at dksX0_costOf_1 17 rfl rfl)
theorem dX0_costOf_42 : decode cX0_costOf 42 = .ok (.iconst 0, 1) := dk_3 (dk_at dksX0_costOf_1 20 rfl rfl)
theorem dX0_costOf_43 : decode cX0_costOf 43 = .ok (.iadd, 1) := dk_96 (dk_at dksX0_costOf_1 21 rfl rfl)
theorem dX0_costOf_44 : decode cX0_costOf 44 = .ok (.istore_n 2, 1) := dk_61 (dk_at dksX0_costOf_1 22 rfl rfl)
theorem dX0_costOf_45 : decode cX0_costOf 45 = .ok (.iinc 3 1, 3) := dk_132 3 1 (dk_at dksX0_costOf_2 0 rfl rfl)
theorem dX0_costOf_48 : decode cX0_costOf 48 = .ok (.goto (-44), 3) := dk_167 255 212 (dk_at dksX0_costOf_2 3 rfl rfl)
theorem dX0_costOf_51 : decode cX0_costOf 51 = .ok (.iload_n 2, 1) := dk_28 (dk_at dksX0_costOf_2 6 rfl rfl)
theorem dX0_costOf_52 : decode cX0_costOf 52 = .ok (.ireturn, 1) := dk_172 (dk_at dksX0_costOf_2 7 rfl rfl)
abbrev cX0_opens : ByteArray := prog_1_method_69_code
def yX0_opens : MethodName := ⟨RX0, "opens", "(IIIII)I"⟩
def dkwX0_opens_6 : List UInt8 := [132, 7, 1, 167, 255, 155, 21, 6, 172]
abbrev dktX0_opens_6 : List UInt8 := dkwX0_opens_6 ++ []
def dkwX0_opens_5 : List UInt8 := [21, 5, 182, 1, 197, 154, 0, 7, 4, 167, 0, 4, 3, 96, 54, 6, 132, 8, 1, 167, 255, 176]
abbrev dktX0_opens_5 : List UInt8 := dkwX0_opens_5 ++ dktX0_opens_6
def dkwX0_opens_4 : List UInt8 := [153, 0, 35, 42, 3, 42, 180, 0, 49, 21, 7, 182, 0, 172, 192, 1, 26, 21, 8, 28, 29, 21, 4]
abbrev dktX0_opens_4 : List UInt8 := dkwX0_opens_4 ++ dktX0_opens_5
def dkwX0_opens_3 : List UInt8 := [42, 180, 0, 49, 21, 7, 182, 0, 172, 192, 1, 26, 21, 8, 28, 29, 21, 4, 21, 5, 182, 1, 197]
abbrev dktX0_opens_3 : List UInt8 := dkwX0_opens_3 ++ dktX0_opens_4
def dkwX0_opens_2 : List UInt8 := [182, 0, 137, 162, 0, 95, 3, 54, 8, 21, 8, 42, 180, 0, 25, 162, 0, 77, 21, 6, 42, 4, 27, 120]
abbrev dktX0_opens_2 : List UInt8 := dkwX0_opens_2 ++ dktX0_opens_3
def dkwX0_opens_1 : List UInt8 := [21, 5, 182, 1, 64, 154, 0, 5, 2, 172, 3, 54, 6, 3, 54, 7, 21, 7, 42, 180, 0, 49]
abbrev dktX0_opens_1 : List UInt8 := dkwX0_opens_1 ++ dktX0_opens_2
def dkwX0_opens_0 : List UInt8 := [27, 133, 9, 42, 180, 0, 45, 182, 0, 137, 4, 100, 133, 184, 0, 5, 153, 0, 16, 42, 28, 29, 21, 4]
abbrev dktX0_opens_0 : List UInt8 := dkwX0_opens_0 ++ dktX0_opens_1
theorem dksX0_opens_0 : cX0_opens.data.toList.drop 0 = dktX0_opens_0 := by decide +kernel
theorem dksX0_opens_1 : cX0_opens.data.toList.drop 24 = dktX0_opens_1 := dk_seg dksX0_opens_0 24 rfl rfl
theorem dksX0_opens_2 : cX0_opens.data.toList.drop 46 = dktX0_opens_2 := dk_seg dksX0_opens_1 22 rfl rfl
theorem dksX0_opens_3 : cX0_opens.data.toList.drop 70 = dktX0_opens_3 := dk_seg dksX0_opens_2 24 rfl rfl
theorem dksX0_opens_4 : cX0_opens.data.toList.drop 93 = dktX0_opens_4 := dk_seg dksX0_opens_3 23 rfl rfl
theorem dksX0_opens_5 : cX0_opens.data.toList.drop 116 = dktX0_opens_5 := dk_seg dksX0_opens_4 23 rfl rfl
theorem dksX0_opens_6 : cX0_opens.data.toList.drop 138 = dktX0_opens_6 := dk_seg dksX0_opens_5 22 rfl rfl
theorem dX0_opens_0 : decode cX0_opens 0 = .ok (.iload_n 1, 1) := dk_27 (dk_at dksX0_opens_0 0 rfl rfl)
theorem dX0_opens_1 : decode cX0_opens 1 = .ok (.i2l, 1) := dk_133 (dk_at dksX0_opens_0 1 rfl rfl)
theorem dX0_opens_2 : decode cX0_opens 2 = .ok (.lconst 0, 1) := dk_9 (dk_at dksX0_opens_0 2 rfl rfl)
theorem dX0_opens_3 : decode cX0_opens 3 = .ok (.aload_n 0, 1) := dk_42 (dk_at dksX0_opens_0 3 rfl rfl)
theorem dX0_opens_4 : decode cX0_opens 4 = .ok (.getfield 45, 3) := dk_180 0 45 (dk_at dksX0_opens_0 4 rfl rfl)
theorem dX0_opens_7 : decode cX0_opens 7 = .ok (.invokevirtual 137, 3) := dk_182 0 137 (dk_at dksX0_opens_0 7 rfl rfl)
theorem dX0_opens_10 : decode cX0_opens 10 = .ok (.iconst 1, 1) := dk_4 (dk_at dksX0_opens_0 10 rfl rfl)
theorem dX0_opens_11 : decode cX0_opens 11 = .ok (.isub, 1) := dk_100 (dk_at dksX0_opens_0 11 rfl rfl)
theorem dX0_opens_12 : decode cX0_opens 12 = .ok (.i2l, 1) := dk_133 (dk_at dksX0_opens_0 12 rfl rfl)
theorem dX0_opens_13 : decode cX0_opens 13 = .ok (.invokestatic 5, 3) := dk_184 0 5 (dk_at dksX0_opens_0 13 rfl rfl)
theorem dX0_opens_16 : decode cX0_opens 16 = .ok (.ifCond .eq 16, 3) := dk_153 0 16 (dk_at dksX0_opens_0 16 rfl rfl)
theorem dX0_opens_19 : decode cX0_opens 19 = .ok (.aload_n 0, 1) := dk_42 (dk_at dksX0_opens_0 19 rfl rfl)
theorem dX0_opens_20 : decode cX0_opens 20 = .ok (.iload_n 2, 1) := dk_28 (dk_at dksX0_opens_0 20 rfl rfl)
theorem dX0_opens_21 : decode cX0_opens 21 = .ok (.iload_n 3, 1) := dk_29 (dk_at dksX0_opens_0 21 rfl rfl)
theorem dX0_opens_22 : decode cX0_opens 22 = .ok (.iload 4, 2) := dk_21 4 (dk_at dksX0_opens_0 22 rfl rfl)
theorem dX0_opens_24 : decode cX0_opens 24 = .ok (.iload 5, 2) := dk_21 5 (dk_at dksX0_opens_1 0 rfl rfl)
theorem dX0_opens_26 : decode cX0_opens 26 = .ok (.invokevirtual 320, 3) := dk_182 1 64 (dk_at dksX0_opens_1 2 rfl rfl)
theorem dX0_opens_29 : decode cX0_opens 29 = .ok (.ifCond .ne 5, 3) := dk_154 0 5 (dk_at dksX0_opens_1 5 rfl rfl)
theorem dX0_opens_32 : decode cX0_opens 32 = .ok (.iconst (-1), 1) := dk_2 (dk_at dksX0_opens_1 8 rfl rfl)
theorem dX0_opens_33 : decode cX0_opens 33 = .ok (.ireturn, 1) := dk_172 (dk_at dksX0_opens_1 9 rfl rfl)
theorem dX0_opens_34 : decode cX0_opens 34 = .ok (.iconst 0, 1) := dk_3 (dk_at dksX0_opens_1 10 rfl rfl)
theorem dX0_opens_35 : decode cX0_opens 35 = .ok (.istore 6, 2) := dk_54 6 (dk_at dksX0_opens_1 11 rfl rfl)
theorem dX0_opens_37 : decode cX0_opens 37 = .ok (.iconst 0, 1) := dk_3 (dk_at dksX0_opens_1 13 rfl rfl)
theorem dX0_opens_38 : decode cX0_opens 38 = .ok (.istore 7, 2) := dk_54 7 (dk_at dksX0_opens_1 14 rfl rfl)
theorem dX0_opens_40 : decode cX0_opens 40 = .ok (.iload 7, 2) := dk_21 7 (dk_at dksX0_opens_1 16 rfl rfl)
theorem dX0_opens_42 : decode cX0_opens 42 = .ok (.aload_n 0, 1) := dk_42 (dk_at dksX0_opens_1 18 rfl rfl)
theorem dX0_opens_43 : decode cX0_opens 43 = .ok (.getfield 49, 3) := dk_180 0 49 (dk_at dksX0_opens_1 19 rfl rfl)
theorem dX0_opens_46 : decode cX0_opens 46 = .ok (.invokevirtual 137, 3) := dk_182 0 137 (dk_at dksX0_opens_2 0 rfl rfl)
theorem dX0_opens_49 : decode cX0_opens 49 = .ok (.if_icmp .ge 95, 3) := dk_162 0 95 (dk_at dksX0_opens_2 3 rfl rfl)
theorem dX0_opens_52 : decode cX0_opens 52 = .ok (.iconst 0, 1) := dk_3 (dk_at dksX0_opens_2 6 rfl rfl)
theorem dX0_opens_53 : decode cX0_opens 53 = .ok (.istore 8, 2) := dk_54 8 (dk_at dksX0_opens_2 7 rfl rfl)
theorem dX0_opens_55 : decode cX0_opens 55 = .ok (.iload 8, 2) := dk_21 8 (dk_at dksX0_opens_2 9 rfl rfl)
theorem dX0_opens_57 : decode cX0_opens 57 = .ok (.aload_n 0, 1) := dk_42 (dk_at dksX0_opens_2 11 rfl rfl)
theorem dX0_opens_58 : decode cX0_opens 58 = .ok (.getfield 25, 3) := dk_180 0 25 (dk_at dksX0_opens_2 12 rfl rfl)
theorem dX0_opens_61 : decode cX0_opens 61 = .ok (.if_icmp .ge 77, 3) := dk_162 0 77 (dk_at dksX0_opens_2 15 rfl rfl)
theorem dX0_opens_64 : decode cX0_opens 64 = .ok (.iload 6, 2) := dk_21 6 (dk_at dksX0_opens_2 18 rfl rfl)
theorem dX0_opens_66 : decode cX0_opens 66 = .ok (.aload_n 0, 1) := dk_42 (dk_at dksX0_opens_2 20 rfl rfl)
theorem dX0_opens_67 : decode cX0_opens 67 = .ok (.iconst 1, 1) := dk_4 (dk_at dksX0_opens_2 21 rfl rfl)
theorem dX0_opens_68 : decode cX0_opens 68 = .ok (.iload_n 1, 1) := dk_27 (dk_at dksX0_opens_2 22 rfl rfl)
theorem dX0_opens_69 : decode cX0_opens 69 = .ok (.ishl, 1) := dk_120 (dk_at dksX0_opens_2 23 rfl rfl)
theorem dX0_opens_70 : decode cX0_opens 70 = .ok (.aload_n 0, 1) := dk_42 (dk_at dksX0_opens_3 0 rfl rfl)
theorem dX0_opens_71 : decode cX0_opens 71 = .ok (.getfield 49, 3) := dk_180 0 49 (dk_at dksX0_opens_3 1 rfl rfl)
theorem dX0_opens_74 : decode cX0_opens 74 = .ok (.iload 7, 2) := dk_21 7 (dk_at dksX0_opens_3 4 rfl rfl)
theorem dX0_opens_76 : decode cX0_opens 76 = .ok (.invokevirtual 172, 3) := dk_182 0 172 (dk_at dksX0_opens_3 6 rfl rfl)
theorem dX0_opens_79 : decode cX0_opens 79 = .ok (.checkcast 282, 3) := dk_192 1 26 (dk_at dksX0_opens_3 9 rfl rfl)
theorem dX0_opens_82 : decode cX0_opens 82 = .ok (.iload 8, 2) := dk_21 8 (dk_at dksX0_opens_3 12 rfl rfl)
theorem dX0_opens_84 : decode cX0_opens 84 = .ok (.iload_n 2, 1) := dk_28 (dk_at dksX0_opens_3 14 rfl rfl)
theorem dX0_opens_85 : decode cX0_opens 85 = .ok (.iload_n 3, 1) := dk_29 (dk_at dksX0_opens_3 15 rfl rfl)
theorem dX0_opens_86 : decode cX0_opens 86 = .ok (.iload 4, 2) := dk_21 4 (dk_at dksX0_opens_3 16 rfl rfl)
theorem dX0_opens_88 : decode cX0_opens 88 = .ok (.iload 5, 2) := dk_21 5 (dk_at dksX0_opens_3 18 rfl rfl)
theorem dX0_opens_90 : decode cX0_opens 90 = .ok (.invokevirtual 453, 3) := dk_182 1 197 (dk_at dksX0_opens_3 20 rfl rfl)
theorem dX0_opens_93 : decode cX0_opens 93 = .ok (.ifCond .eq 35, 3) := dk_153 0 35 (dk_at dksX0_opens_4 0 rfl rfl)
theorem dX0_opens_96 : decode cX0_opens 96 = .ok (.aload_n 0, 1) := dk_42 (dk_at dksX0_opens_4 3 rfl rfl)
theorem dX0_opens_97 : decode cX0_opens 97 = .ok (.iconst 0, 1) := dk_3 (dk_at dksX0_opens_4 4 rfl rfl)
theorem dX0_opens_98 : decode cX0_opens 98 = .ok (.aload_n 0, 1) := dk_42 (dk_at dksX0_opens_4 5 rfl rfl)
theorem dX0_opens_99 : decode cX0_opens 99 = .ok (.getfield 49, 3) := dk_180 0 49 (dk_at dksX0_opens_4 6 rfl rfl)
theorem dX0_opens_102 : decode cX0_opens 102 = .ok (.iload 7, 2) := dk_21 7 (dk_at dksX0_opens_4 9 rfl rfl)
theorem dX0_opens_104 : decode cX0_opens 104 = .ok (.invokevirtual 172, 3) := dk_182 0 172 (dk_at dksX0_opens_4 11 rfl rfl)
theorem dX0_opens_107 : decode cX0_opens 107 = .ok (.checkcast 282, 3) := dk_192 1 26 (dk_at dksX0_opens_4 14 rfl rfl)
theorem dX0_opens_110 : decode cX0_opens 110 = .ok (.iload 8, 2) := dk_21 8 (dk_at dksX0_opens_4 17 rfl rfl)
theorem dX0_opens_112 : decode cX0_opens 112 = .ok (.iload_n 2, 1) := dk_28 (dk_at dksX0_opens_4 19 rfl rfl)
theorem dX0_opens_113 : decode cX0_opens 113 = .ok (.iload_n 3, 1) := dk_29 (dk_at dksX0_opens_4 20 rfl rfl)
theorem dX0_opens_114 : decode cX0_opens 114 = .ok (.iload 4, 2) := dk_21 4 (dk_at dksX0_opens_4 21 rfl rfl)
theorem dX0_opens_116 : decode cX0_opens 116 = .ok (.iload 5, 2) := dk_21 5 (dk_at dksX0_opens_5 0 rfl rfl)
theorem dX0_opens_118 : decode cX0_opens 118 = .ok (.invokevirtual 453, 3) := dk_182 1 197 (dk_at dksX0_opens_5 2 rfl rfl)
theorem dX0_opens_121 : decode cX0_opens 121 = .ok (.ifCond .ne 7, 3) := dk_154 0 7 (dk_at dksX0_opens_5 5 rfl rfl)
theorem dX0_opens_124 : decode cX0_opens 124 = .ok (.iconst 1, 1) := dk_4 (dk_at dksX0_opens_5 8 rfl rfl)
theorem dX0_opens_125 : decode cX0_opens 125 = .ok (.goto 4, 3) := dk_167 0 4 (dk_at dksX0_opens_5 9 rfl rfl)
theorem dX0_opens_128 : decode cX0_opens 128 = .ok (.iconst 0, 1) := dk_3 (dk_at dksX0_opens_5 12 rfl rfl)
theorem dX0_opens_129 : decode cX0_opens 129 = .ok (.iadd, 1) := dk_96 (dk_at dksX0_opens_5 13 rfl rfl)
theorem dX0_opens_130 : decode cX0_opens 130 = .ok (.istore 6, 2) := dk_54 6 (dk_at dksX0_opens_5 14 rfl rfl)
theorem dX0_opens_132 : decode cX0_opens 132 = .ok (.iinc 8 1, 3) := dk_132 8 1 (dk_at dksX0_opens_5 16 rfl rfl)
theorem dX0_opens_135 : decode cX0_opens 135 = .ok (.goto (-80), 3) := dk_167 255 176 (dk_at dksX0_opens_5 19 rfl rfl)
theorem dX0_opens_138 : decode cX0_opens 138 = .ok (.iinc 7 1, 3) := dk_132 7 1 (dk_at dksX0_opens_6 0 rfl rfl)
theorem dX0_opens_141 : decode cX0_opens 141 = .ok (.goto (-101), 3) := dk_167 255 155 (dk_at dksX0_opens_6 3 rfl rfl)
theorem dX0_opens_144 : decode cX0_opens 144 = .ok (.iload 6, 2) := dk_21 6 (dk_at dksX0_opens_6 6 rfl rfl)
theorem dX0_opens_146 : decode cX0_opens 146 = .ok (.ireturn, 1) := dk_172 (dk_at dksX0_opens_6 8 rfl rfl)
abbrev cX0_next : ByteArray := prog_1_method_70_code
def yX0_next : MethodName := ⟨RX0, "next", "(II)I"⟩
def dkwX0_next_9 : List UInt8 := [172]
abbrev dktX0_next_9 : List UInt8 := dkwX0_next_9 ++ []
def dkwX0_next_8 : List UInt8 := [167, 0, 16, 21, 7, 21, 8, 184, 1, 214, 54, 5, 21, 6, 54, 4, 132, 6, 1, 167, 255, 71, 21, 4]
abbrev dktX0_next_8 : List UInt8 := dkwX0_next_8 ++ dktX0_next_9
def dkwX0_next_7 : List UInt8 := [132, 10, 1, 167, 255, 169, 132, 9, 1, 167, 255, 148, 21, 7, 21, 8, 184, 1, 214, 21, 5, 163, 0, 6]
abbrev dktX0_next_7 : List UInt8 := dkwX0_next_7 ++ dktX0_next_8
def dkwX0_next_6 : List UInt8 := [180, 1, 151, 45, 180, 1, 154, 182, 1, 197, 153, 0, 9, 132, 7, 1, 167, 0, 6, 132, 8, 1]
abbrev dktX0_next_6 : List UInt8 := dkwX0_next_6 ++ dktX0_next_7
def dkwX0_next_5 : List UInt8 := [120, 42, 180, 0, 49, 21, 9, 182, 0, 172, 192, 1, 26, 21, 10, 45, 180, 1, 146, 45, 180, 1, 157, 45]
abbrev dktX0_next_5 : List UInt8 := dkwX0_next_5 ++ dktX0_next_6
def dkwX0_next_4 : List UInt8 := [21, 9, 182, 0, 172, 192, 1, 26, 21, 10, 3, 182, 1, 142, 154, 0, 6, 167, 0, 53, 42, 4, 21, 6]
abbrev dktX0_next_4 : List UInt8 := dkwX0_next_4 ++ dktX0_next_5
def dkwX0_next_3 : List UInt8 := [182, 0, 137, 162, 0, 102, 3, 54, 10, 21, 10, 42, 180, 0, 25, 162, 0, 84, 45, 42, 180, 0, 49]
abbrev dktX0_next_3 : List UInt8 := dkwX0_next_3 ++ dktX0_next_4
def dkwX0_next_2 : List UInt8 := [28, 164, 0, 6, 167, 0, 151, 3, 54, 7, 3, 54, 8, 3, 54, 9, 21, 9, 42, 180, 0, 49]
abbrev dktX0_next_2 : List UInt8 := dkwX0_next_2 ++ dktX0_next_3
def dkwX0_next_1 : List UInt8 := [180, 0, 45, 182, 0, 137, 162, 0, 179, 42, 180, 0, 45, 21, 6, 182, 0, 172, 192, 0, 199, 180, 1, 208]
abbrev dktX0_next_1 : List UInt8 := dkwX0_next_1 ++ dktX0_next_2
def dkwX0_next_0 : List UInt8 := [42, 27, 182, 1, 138, 78, 45, 199, 0, 5, 2, 172, 2, 54, 4, 2, 54, 5, 3, 54, 6, 21, 6, 42]
abbrev dktX0_next_0 : List UInt8 := dkwX0_next_0 ++ dktX0_next_1
theorem dksX0_next_0 : cX0_next.data.toList.drop 0 = dktX0_next_0 := by decide +kernel
theorem dksX0_next_1 : cX0_next.data.toList.drop 24 = dktX0_next_1 := dk_seg dksX0_next_0 24 rfl rfl
theorem dksX0_next_2 : cX0_next.data.toList.drop 48 = dktX0_next_2 := dk_seg dksX0_next_1 24 rfl rfl
theorem dksX0_next_3 : cX0_next.data.toList.drop 70 = dktX0_next_3 := dk_seg dksX0_next_2 22 rfl rfl
theorem dksX0_next_4 : cX0_next.data.toList.drop 93 = dktX0_next_4 := dk_seg dksX0_next_3 23 rfl rfl
theorem dksX0_next_5 : cX0_next.data.toList.drop 117 = dktX0_next_5 := dk_seg dksX0_next_4 24 rfl rfl
theorem dksX0_next_6 : cX0_next.data.toList.drop 141 = dktX0_next_6 := dk_seg dksX0_next_5 24 rfl rfl
theorem dksX0_next_7 : cX0_next.data.toList.drop 163 = dktX0_next_7 := dk_seg dksX0_next_6 22 rfl rfl
theorem dksX0_next_8 : cX0_next.data.toList.drop 187 = dktX0_next_8 := dk_seg dksX0_next_7 24 rfl rfl
theorem dksX0_next_9 : cX0_next.data.toList.drop 211 = dktX0_next_9 := dk_seg dksX0_next_8 24 rfl rfl
theorem dX0_next_0 : decode cX0_next 0 = .ok (.aload_n 0, 1) := dk_42 (dk_at dksX0_next_0 0 rfl rfl)
theorem dX0_next_1 : decode cX0_next 1 = .ok (.iload_n 1, 1) := dk_27 (dk_at dksX0_next_0 1 rfl rfl)
theorem dX0_next_2 : decode cX0_next 2 = .ok (.invokevirtual 394, 3) := dk_182 1 138 (dk_at dksX0_next_0 2 rfl rfl)
theorem dX0_next_5 : decode cX0_next 5 = .ok (.astore_n 3, 1) := dk_78 (dk_at dksX0_next_0 5 rfl rfl)
theorem dX0_next_6 : decode cX0_next 6 = .ok (.aload_n 3, 1) := dk_45 (dk_at dksX0_next_0 6 rfl rfl)
theorem dX0_next_7 : decode cX0_next 7 = .ok (.ifnonnull 5, 3) := dk_199 0 5 (dk_at dksX0_next_0 7 rfl rfl)
theorem dX0_next_10 : decode cX0_next 10 = .ok (.iconst (-1), 1) := dk_2 (dk_at dksX0_next_0 10 rfl rfl)
theorem dX0_next_11 : decode cX0_next 11 = .ok (.ireturn, 1) := dk_172 (dk_at dksX0_next_0 11 rfl rfl)
theorem dX0_next_12 : decode cX0_next 12 = .ok (.iconst (-1), 1) := dk_2 (dk_at dksX0_next_0 12 rfl rfl)
theorem dX0_next_13 : decode cX0_next 13 = .ok (.istore 4, 2) := dk_54 4 (dk_at dksX0_next_0 13 rfl rfl)
theorem dX0_next_15 : decode cX0_next 15 = .ok (.iconst (-1), 1) := dk_2 (dk_at dksX0_next_0 15 rfl rfl)
theorem dX0_next_16 : decode cX0_next 16 = .ok (.istore 5, 2) := dk_54 5 (dk_at dksX0_next_0 16 rfl rfl)
theorem dX0_next_18 : decode cX0_next 18 = .ok (.iconst 0, 1) := dk_3 (dk_at dksX0_next_0 18 rfl rfl)
theorem dX0_next_19 : decode cX0_next 19 = .ok (.istore 6, 2) := dk_54 6 (dk_at dksX0_next_0 19 rfl rfl)
theorem dX0_next_21 : decode cX0_next 21 = .ok (.iload 6, 2) := dk_21 6 (dk_at dksX0_next_0 21 rfl rfl)
theorem dX0_next_23 : decode cX0_next 23 = .ok (.aload_n 0, 1) := dk_42 (dk_at dksX0_next_0 23 rfl rfl)
theorem dX0_next_24 : decode cX0_next 24 = .ok (.getfield 45, 3) := dk_180 0 45 (dk_at dksX0_next_1 0 rfl rfl)
theorem dX0_next_27 : decode cX0_next 27 = .ok (.invokevirtual 137, 3) := dk_182 0 137 (dk_at dksX0_next_1 3 rfl rfl)
theorem dX0_next_30 : decode cX0_next 30 = .ok (.if_icmp .ge 179, 3) := dk_162 0 179 (dk_at dksX0_next_1 6 rfl rfl)
theorem dX0_next_33 : decode cX0_next 33 = .ok (.aload_n 0, 1) := dk_42 (dk_at dksX0_next_1 9 rfl rfl)
theorem dX0_next_34 : decode cX0_next 34 = .ok (.getfield 45, 3) := dk_180 0 45 (dk_at dksX0_next_1 10 rfl rfl)
theorem dX0_next_37 : decode cX0_next 37 = .ok (.iload 6, 2) := dk_21 6 (dk_at dksX0_next_1 13 rfl rfl)
theorem dX0_next_39 : decode cX0_next 39 = .ok (.invokevirtual 172, 3) := dk_182 0 172 (dk_at dksX0_next_1 15 rfl rfl)
theorem dX0_next_42 : decode cX0_next 42 = .ok (.checkcast 199, 3) := dk_192 0 199 (dk_at dksX0_next_1 18 rfl rfl)
theorem dX0_next_45 : decode cX0_next 45 = .ok (.getfield 464, 3) := dk_180 1 208 (dk_at dksX0_next_1 21 rfl rfl)
theorem dX0_next_48 : decode cX0_next 48 = .ok (.iload_n 2, 1) := dk_28 (dk_at dksX0_next_2 0 rfl rfl)
theorem dX0_next_49 : decode cX0_next 49 = .ok (.if_icmp .le 6, 3) := dk_164 0 6 (dk_at dksX0_next_2 1 rfl rfl)
theorem dX0_next_52 : decode cX0_next 52 = .ok (.goto 151, 3) := dk_167 0 151 (dk_at dksX0_next_2 4 rfl rfl)
theorem dX0_next_55 : decode cX0_next 55 = .ok (.iconst 0, 1) := dk_3 (dk_at dksX0_next_2 7 rfl rfl)
theorem dX0_next_56 : decode cX0_next 56 = .ok (.istore 7, 2) := dk_54 7 (dk_at dksX0_next_2 8 rfl rfl)
theorem dX0_next_58 : decode cX0_next 58 = .ok (.iconst 0, 1) := dk_3 (dk_at dksX0_next_2 10 rfl rfl)
theorem dX0_next_59 : decode cX0_next 59 = .ok (.istore 8, 2) := dk_54 8 (dk_at dksX0_next_2 11 rfl rfl)
theorem dX0_next_61 : decode cX0_next 61 = .ok (.iconst 0, 1) := dk_3 (dk_at dksX0_next_2 13 rfl rfl)
theorem dX0_next_62 : decode cX0_next 62 = .ok (.istore 9, 2) := dk_54 9 (dk_at dksX0_next_2 14 rfl rfl)
theorem dX0_next_64 : decode cX0_next 64 = .ok (.iload 9, 2) := dk_21 9 (dk_at dksX0_next_2 16 rfl rfl)
theorem dX0_next_66 : decode cX0_next 66 = .ok (.aload_n 0, 1) := dk_42 (dk_at dksX0_next_2 18 rfl rfl)
theorem dX0_next_67 : decode cX0_next 67 = .ok (.getfield 49, 3) := dk_180 0 49 (dk_at dksX0_next_2 19 rfl rfl)
theorem dX0_next_70 : decode cX0_next 70 = .ok (.invokevirtual 137, 3) := dk_182 0 137 (dk_at dksX0_next_3 0 rfl rfl)
theorem dX0_next_73 : decode cX0_next 73 = .ok (.if_icmp .ge 102, 3) := dk_162 0 102 (dk_at dksX0_next_3 3 rfl rfl)
theorem dX0_next_76 : decode cX0_next 76 = .ok (.iconst 0, 1) := dk_3 (dk_at dksX0_next_3 6 rfl rfl)
theorem dX0_next_77 : decode cX0_next 77 = .ok (.istore 10, 2) := dk_54 10 (dk_at dksX0_next_3 7 rfl rfl)
theorem dX0_next_79 : decode cX0_next 79 = .ok (.iload 10, 2) := dk_21 10 (dk_at dksX0_next_3 9 rfl rfl)
theorem dX0_next_81 : decode cX0_next 81 = .ok (.aload_n 0, 1) := dk_42 (dk_at dksX0_next_3 11 rfl rfl)
theorem dX0_next_82 : decode cX0_next 82 = .ok (.getfield 25, 3) := dk_180 0 25 (dk_at dksX0_next_3 12 rfl rfl)
theorem dX0_next_85 : decode cX0_next 85 = .ok (.if_icmp .ge 84, 3) := dk_162 0 84 (dk_at dksX0_next_3 15 rfl rfl)
theorem dX0_next_88 : decode cX0_next 88 = .ok (.aload_n 3, 1) := dk_45 (dk_at dksX0_next_3 18 rfl rfl)
theorem dX0_next_89 : decode cX0_next 89 = .ok (.aload_n 0, 1) := dk_42 (dk_at dksX0_next_3 19 rfl rfl)
theorem dX0_next_90 : decode cX0_next 90 = .ok (.getfield 49, 3) := dk_180 0 49 (dk_at dksX0_next_3 20 rfl rfl)
theorem dX0_next_93 : decode cX0_next 93 = .ok (.iload 9, 2) := dk_21 9 (dk_at dksX0_next_4 0 rfl rfl)
theorem dX0_next_95 : decode cX0_next 95 = .ok (.invokevirtual 172, 3) := dk_182 0 172 (dk_at dksX0_next_4 2 rfl rfl)
theorem dX0_next_98 : decode cX0_next 98 = .ok (.checkcast 282, 3) := dk_192 1 26 (dk_at dksX0_next_4 5 rfl rfl)
theorem dX0_next_101 : decode cX0_next 101 = .ok (.iload 10, 2) := dk_21 10 (dk_at dksX0_next_4 8 rfl rfl)
theorem dX0_next_103 : decode cX0_next 103 = .ok (.iconst 0, 1) := dk_3 (dk_at dksX0_next_4 10 rfl rfl)
theorem dX0_next_104 : decode cX0_next 104 = .ok (.invokevirtual 398, 3) := dk_182 1 142 (dk_at dksX0_next_4 11 rfl rfl)
theorem dX0_next_107 : decode cX0_next 107 = .ok (.ifCond .ne 6, 3) := dk_154 0 6 (dk_at dksX0_next_4 14 rfl rfl)
theorem dX0_next_110 : decode cX0_next 110 = .ok (.goto 53, 3) := dk_167 0 53 (dk_at dksX0_next_4 17 rfl rfl)
theorem dX0_next_113 : decode cX0_next 113 = .ok (.aload_n 0, 1) := dk_42 (dk_at dksX0_next_4 20 rfl rfl)
theorem dX0_next_114 : decode cX0_next 114 = .ok (.iconst 1, 1) := dk_4 (dk_at dksX0_next_4 21 rfl rfl)
theorem dX0_next_115 : decode cX0_next 115 = .ok (.iload 6, 2) := dk_21 6 (dk_at dksX0_next_4 22 rfl rfl)
theorem dX0_next_117 : decode cX0_next 117 = .ok (.ishl, 1) := dk_120 (dk_at dksX0_next_5 0 rfl rfl)
theorem dX0_next_118 : decode cX0_next 118 = .ok (.aload_n 0, 1) := dk_42 (dk_at dksX0_next_5 1 rfl rfl)
theorem dX0_next_119 : decode cX0_next 119 = .ok (.getfield 49, 3) := dk_180 0 49 (dk_at dksX0_next_5 2 rfl rfl)
theorem dX0_next_122 : decode cX0_next 122 = .ok (.iload 9, 2) := dk_21 9 (dk_at dksX0_next_5 5 rfl rfl)
theorem dX0_next_124 : decode cX0_next 124 = .ok (.invokevirtual 172, 3) := dk_182 0 172 (dk_at dksX0_next_5 7 rfl rfl)
theorem dX0_next_127 : decode cX0_next 127 = .ok (.checkcast 282, 3) := dk_192 1 26 (dk_at dksX0_next_5 10 rfl rfl)
theorem dX0_next_130 : decode cX0_next 130 = .ok (.iload 10, 2) := dk_21 10 (dk_at dksX0_next_5 13 rfl rfl)
theorem dX0_next_132 : decode cX0_next 132 = .ok (.aload_n 3, 1) := dk_45 (dk_at dksX0_next_5 15 rfl rfl)
theorem dX0_next_133 : decode cX0_next 133 = .ok (.getfield 402, 3) := dk_180 1 146 (dk_at dksX0_next_5 16 rfl rfl)
theorem dX0_next_136 : decode cX0_next 136 = .ok (.aload_n 3, 1) := dk_45 (dk_at dksX0_next_5 19 rfl rfl)
theorem dX0_next_137 : decode cX0_next 137 = .ok (.getfield 413, 3) := dk_180 1 157 (dk_at dksX0_next_5 20 rfl rfl)
theorem dX0_next_140 : decode cX0_next 140 = .ok (.aload_n 3, 1) := dk_45 (dk_at dksX0_next_5 23 rfl rfl)
theorem dX0_next_141 : decode cX0_next 141 = .ok (.getfield 407, 3) := dk_180 1 151 (dk_at dksX0_next_6 0 rfl rfl)
theorem dX0_next_144 : decode cX0_next 144 = .ok (.aload_n 3, 1) := dk_45 (dk_at dksX0_next_6 3 rfl rfl)
theorem dX0_next_145 : decode cX0_next 145 = .ok (.getfield 410, 3) := dk_180 1 154 (dk_at dksX0_next_6 4 rfl rfl)
theorem dX0_next_148 : decode cX0_next 148 = .ok (.invokevirtual 453, 3) := dk_182 1 197 (dk_at dksX0_next_6 7 rfl rfl)
theorem dX0_next_151 : decode cX0_next 151 = .ok (.ifCond .eq 9, 3) := dk_153 0 9 (dk_at dksX0_next_6 10 rfl rfl)
theorem dX0_next_154 : decode cX0_next 154 = .ok (.iinc 7 1, 3) := dk_132 7 1 (dk_at dksX0_next_6 13 rfl rfl)
theorem dX0_next_157 : decode cX0_next 157 = .ok (.goto 6, 3) := dk_167 0 6 (dk_at dksX0_next_6 16 rfl rfl)
theorem dX0_next_160 : decode cX0_next 160 = .ok (.iinc 8 1, 3) := dk_132 8 1 (dk_at dksX0_next_6 19 rfl rfl)
theorem dX0_next_163 : decode cX0_next 163 = .ok (.iinc 10 1, 3) := dk_132 10 1 (dk_at dksX0_next_7 0 rfl rfl)
theorem dX0_next_166 : decode cX0_next 166 = .ok (.goto (-87), 3) := dk_167 255 169 (dk_at dksX0_next_7 3 rfl rfl)
theorem dX0_next_169 : decode cX0_next 169 = .ok (.iinc 9 1, 3) := dk_132 9 1 (dk_at dksX0_next_7 6 rfl rfl)
theorem dX0_next_172 : decode cX0_next 172 = .ok (.goto (-108), 3) := dk_167 255 148 (dk_at dksX0_next_7 9 rfl rfl)
theorem dX0_next_175 : decode cX0_next 175 = .ok (.iload 7, 2) := dk_21 7 (dk_at dksX0_next_7 12 rfl rfl)
theorem dX0_next_177 : decode cX0_next 177 = .ok (.iload 8, 2) := dk_21 8 (dk_at dksX0_next_7 14 rfl rfl)
theorem dX0_next_179 : decode cX0_next 179 = .ok (.invokestatic 470, 3) := dk_184 1 214 (dk_at dksX0_next_7 16 rfl rfl)
theorem dX0_next_182 : decode cX0_next 182 = .ok (.iload 5, 2) := dk_21 5 (dk_at dksX0_next_7 19 rfl rfl)
theorem dX0_next_184 : decode cX0_next 184 = .ok (.if_icmp .gt 6, 3) := dk_163 0 6 (dk_at dksX0_next_7 21 rfl rfl)
theorem dX0_next_187 : decode cX0_next 187 = .ok (.goto 16, 3) := dk_167 0 16 (dk_at dksX0_next_8 0 rfl rfl)
theorem dX0_next_190 : decode cX0_next 190 = .ok (.iload 7, 2) := dk_21 7 (dk_at dksX0_next_8 3 rfl rfl)
theorem dX0_next_192 : decode cX0_next 192 = .ok (.iload 8, 2) := dk_21 8 (dk_at dksX0_next_8 5 rfl rfl)
theorem dX0_next_194 : decode cX0_next 194 = .ok (.invokestatic 470, 3) := dk_184 1 214 (dk_at dksX0_next_8 7 rfl rfl)
theorem dX0_next_197 : decode cX0_next 197 = .ok (.istore 5, 2) := dk_54 5 (dk_at dksX0_next_8 10 rfl rfl)
theorem dX0_next_199 : decode cX0_next 199 = .ok (.iload 6, 2) := dk_21 6 (dk_at dksX0_next_8 12 rfl rfl)
theorem dX0_next_201 : decode cX0_next 201 = .ok (.istore 4, 2) := dk_54 4 (dk_at dksX0_next_8 14 rfl rfl)
theorem dX0_next_203 : decode cX0_next 203 = .ok (.iinc 6 1, 3) := dk_132 6 1 (dk_at dksX0_next_8 16 rfl rfl)
theorem dX0_next_206 : decode cX0_next 206 = .ok (.goto (-185), 3) := dk_167 255 71 (dk_at dksX0_next_8 19 rfl rfl)
theorem dX0_next_209 : decode cX0_next 209 = .ok (.iload 4, 2) := dk_21 4 (dk_at dksX0_next_8 22 rfl rfl)
theorem dX0_next_211 : decode cX0_next 211 = .ok (.ireturn, 1) := dk_172 (dk_at dksX0_next_9 0 rfl rfl)
abbrev cX0_trial : ByteArray := prog_1_method_71_code
def yX0_trial : MethodName := ⟨RX0, "trial", "(II)I"⟩
def dkwX0_trial_3 : List UInt8 := [180, 0, 105, 4, 96, 181, 0, 105, 42, 180, 0, 105, 4, 100, 172]
abbrev dktX0_trial_3 : List UInt8 := dkwX0_trial_3 ++ []
def dkwX0_trial_2 : List UInt8 := [42, 180, 0, 78, 42, 180, 0, 105, 27, 79, 42, 180, 0, 81, 42, 180, 0, 105, 28, 79, 42, 89]
abbrev dktX0_trial_2 : List UInt8 := dkwX0_trial_2 ++ dktX0_trial_3
def dkwX0_trial_1 : List UInt8 := [154, 0, 9, 42, 5, 182, 0, 130, 172, 42, 180, 0, 105, 16, 9, 160, 0, 9, 42, 6, 182, 0, 130, 172]
abbrev dktX0_trial_1 : List UInt8 := dkwX0_trial_1 ++ dktX0_trial_2
def dkwX0_trial_0 : List UInt8 := [27, 133, 20, 0, 190, 20, 1, 217, 184, 0, 5, 153, 0, 16, 28, 133, 10, 27, 4, 100, 133, 184, 0, 5]
abbrev dktX0_trial_0 : List UInt8 := dkwX0_trial_0 ++ dktX0_trial_1
theorem dksX0_trial_0 : cX0_trial.data.toList.drop 0 = dktX0_trial_0 := by decide +kernel
theorem dksX0_trial_1 : cX0_trial.data.toList.drop 24 = dktX0_trial_1 := dk_seg dksX0_trial_0 24 rfl rfl
theorem dksX0_trial_2 : cX0_trial.data.toList.drop 48 = dktX0_trial_2 := dk_seg dksX0_trial_1 24 rfl rfl
theorem dksX0_trial_3 : cX0_trial.data.toList.drop 70 = dktX0_trial_3 := dk_seg dksX0_trial_2 22 rfl rfl
theorem dX0_trial_0 : decode cX0_trial 0 = .ok (.iload_n 1, 1) := dk_27 (dk_at dksX0_trial_0 0 rfl rfl)
theorem dX0_trial_1 : decode cX0_trial 1 = .ok (.i2l, 1) := dk_133 (dk_at dksX0_trial_0 1 rfl rfl)
theorem dX0_trial_2 : decode cX0_trial 2 = .ok (.ldc2_w 190, 3) := dk_20 0 190 (dk_at dksX0_trial_0 2 rfl rfl)
theorem dX0_trial_5 : decode cX0_trial 5 = .ok (.ldc2_w 473, 3) := dk_20 1 217 (dk_at dksX0_trial_0 5 rfl rfl)
theorem dX0_trial_8 : decode cX0_trial 8 = .ok (.invokestatic 5, 3) := dk_184 0 5 (dk_at dksX0_trial_0 8 rfl rfl)
theorem dX0_trial_11 : decode cX0_trial 11 = .ok (.ifCond .eq 16, 3) := dk_153 0 16 (dk_at dksX0_trial_0 11 rfl rfl)
theorem dX0_trial_14 : decode cX0_trial 14 = .ok (.iload_n 2, 1) := dk_28 (dk_at dksX0_trial_0 14 rfl rfl)
theorem dX0_trial_15 : decode cX0_trial 15 = .ok (.i2l, 1) := dk_133 (dk_at dksX0_trial_0 15 rfl rfl)
theorem dX0_trial_16 : decode cX0_trial 16 = .ok (.lconst 1, 1) := dk_10 (dk_at dksX0_trial_0 16 rfl rfl)
theorem dX0_trial_17 : decode cX0_trial 17 = .ok (.iload_n 1, 1) := dk_27 (dk_at dksX0_trial_0 17 rfl rfl)
theorem dX0_trial_18 : decode cX0_trial 18 = .ok (.iconst 1, 1) := dk_4 (dk_at dksX0_trial_0 18 rfl rfl)
theorem dX0_trial_19 : decode cX0_trial 19 = .ok (.isub, 1) := dk_100 (dk_at dksX0_trial_0 19 rfl rfl)
theorem dX0_trial_20 : decode cX0_trial 20 = .ok (.i2l, 1) := dk_133 (dk_at dksX0_trial_0 20 rfl rfl)
theorem dX0_trial_21 : decode cX0_trial 21 = .ok (.invokestatic 5, 3) := dk_184 0 5 (dk_at dksX0_trial_0 21 rfl rfl)
theorem dX0_trial_24 : decode cX0_trial 24 = .ok (.ifCond .ne 9, 3) := dk_154 0 9 (dk_at dksX0_trial_1 0 rfl rfl)
theorem dX0_trial_27 : decode cX0_trial 27 = .ok (.aload_n 0, 1) := dk_42 (dk_at dksX0_trial_1 3 rfl rfl)
theorem dX0_trial_28 : decode cX0_trial 28 = .ok (.iconst 2, 1) := dk_5 (dk_at dksX0_trial_1 4 rfl rfl)
theorem dX0_trial_29 : decode cX0_trial 29 = .ok (.invokevirtual 130, 3) := dk_182 0 130 (dk_at dksX0_trial_1 5 rfl rfl)
theorem dX0_trial_32 : decode cX0_trial 32 = .ok (.ireturn, 1) := dk_172 (dk_at dksX0_trial_1 8 rfl rfl)
theorem dX0_trial_33 : decode cX0_trial 33 = .ok (.aload_n 0, 1) := dk_42 (dk_at dksX0_trial_1 9 rfl rfl)
theorem dX0_trial_34 : decode cX0_trial 34 = .ok (.getfield 105, 3) := dk_180 0 105 (dk_at dksX0_trial_1 10 rfl rfl)
theorem dX0_trial_37 : decode cX0_trial 37 = .ok (.bipush 9, 2) := dk_16 9 (dk_at dksX0_trial_1 13 rfl rfl)
theorem dX0_trial_39 : decode cX0_trial 39 = .ok (.if_icmp .ne 9, 3) := dk_160 0 9 (dk_at dksX0_trial_1 15 rfl rfl)
theorem dX0_trial_42 : decode cX0_trial 42 = .ok (.aload_n 0, 1) := dk_42 (dk_at dksX0_trial_1 18 rfl rfl)
theorem dX0_trial_43 : decode cX0_trial 43 = .ok (.iconst 3, 1) := dk_6 (dk_at dksX0_trial_1 19 rfl rfl)
theorem dX0_trial_44 : decode cX0_trial 44 = .ok (.invokevirtual 130, 3) := dk_182 0 130 (dk_at dksX0_trial_1 20 rfl rfl)
theorem dX0_trial_47 : decode cX0_trial 47 = .ok (.ireturn, 1) := dk_172 (dk_at dksX0_trial_1 23 rfl rfl)
theorem dX0_trial_48 : decode cX0_trial 48 = .ok (.aload_n 0, 1) := dk_42 (dk_at dksX0_trial_2 0 rfl rfl)
theorem dX0_trial_49 : decode cX0_trial 49 = .ok (.getfield 78, 3) := dk_180 0 78 (dk_at dksX0_trial_2 1 rfl rfl)
theorem dX0_trial_52 : decode cX0_trial 52 = .ok (.aload_n 0, 1) := dk_42 (dk_at dksX0_trial_2 4 rfl rfl)
theorem dX0_trial_53 : decode cX0_trial 53 = .ok (.getfield 105, 3) := dk_180 0 105 (dk_at dksX0_trial_2 5 rfl rfl)
theorem dX0_trial_56 : decode cX0_trial 56 = .ok (.iload_n 1, 1) := dk_27 (dk_at dksX0_trial_2 8 rfl rfl)
theorem dX0_trial_57 : decode cX0_trial 57 = .ok (.iastore, 1) := dk_79 (dk_at dksX0_trial_2 9 rfl rfl)
theorem dX0_trial_58 : decode cX0_trial 58 = .ok (.aload_n 0, 1) := dk_42 (dk_at dksX0_trial_2 10 rfl rfl)
theorem dX0_trial_59 : decode cX0_trial 59 = .ok (.getfield 81, 3) := dk_180 0 81 (dk_at dksX0_trial_2 11 rfl rfl)
theorem dX0_trial_62 : decode cX0_trial 62 = .ok (.aload_n 0, 1) := dk_42 (dk_at dksX0_trial_2 14 rfl rfl)
theorem dX0_trial_63 : decode cX0_trial 63 = .ok (.getfield 105, 3) := dk_180 0 105 (dk_at dksX0_trial_2 15 rfl rfl)
theorem dX0_trial_66 : decode cX0_trial 66 = .ok (.iload_n 2, 1) := dk_28 (dk_at dksX0_trial_2 18 rfl rfl)
theorem dX0_trial_67 : decode cX0_trial 67 = .ok (.iastore, 1) := dk_79 (dk_at dksX0_trial_2 19 rfl rfl)
theorem dX0_trial_68 : decode cX0_trial 68 = .ok (.aload_n 0, 1) := dk_42 (dk_at dksX0_trial_2 20 rfl rfl)
theorem dX0_trial_69 : decode cX0_trial 69 = .ok (.dup, 1) := dk_89 (dk_at dksX0_trial_2 21 rfl rfl)
theorem dX0_trial_70 : decode cX0_trial 70 = .ok (.getfield 105, 3) := dk_180 0 105 (dk_at dksX0_trial_3 0 rfl rfl)
theorem dX0_trial_73 : decode cX0_trial 73 = .ok (.iconst 1, 1) := dk_4 (dk_at dksX0_trial_3 3 rfl rfl)
theorem dX0_trial_74 : decode cX0_trial 74 = .ok (.iadd, 1) := dk_96 (dk_at dksX0_trial_3 4 rfl rfl)
theorem dX0_trial_75 : decode cX0_trial 75 = .ok (.putfield 105, 3) := dk_181 0 105 (dk_at dksX0_trial_3 5 rfl rfl)
theorem dX0_trial_78 : decode cX0_trial 78 = .ok (.aload_n 0, 1) := dk_42 (dk_at dksX0_trial_3 8 rfl rfl)
theorem dX0_trial_79 : decode cX0_trial 79 = .ok (.getfield 105, 3) := dk_180 0 105 (dk_at dksX0_trial_3 9 rfl rfl)
theorem dX0_trial_82 : decode cX0_trial 82 = .ok (.iconst 1, 1) := dk_4 (dk_at dksX0_trial_3 12 rfl rfl)
theorem dX0_trial_83 : decode cX0_trial 83 = .ok (.isub, 1) := dk_100 (dk_at dksX0_trial_3 13 rfl rfl)
theorem dX0_trial_84 : decode cX0_trial 84 = .ok (.ireturn, 1) := dk_172 (dk_at dksX0_trial_3 14 rfl rfl)
abbrev cX0_luck : ByteArray := prog_1_method_72_code
def yX0_luck : MethodName := ⟨RX0, "luck", "(I)J"⟩
def dkwX0_luck_6 : List UInt8 := [32, 42, 180, 0, 84, 21, 4, 47, 97, 65, 132, 4, 1, 167, 255, 234, 32, 173]
abbrev dktX0_luck_6 : List UInt8 := dkwX0_luck_6 ++ []
def dkwX0_luck_5 : List UInt8 := [132, 2, 1, 167, 255, 179, 9, 65, 3, 27, 184, 0, 210, 54, 4, 21, 4, 42, 180, 0, 105, 163, 0, 19]
abbrev dktX0_luck_5 : List UInt8 := dkwX0_luck_5 ++ dktX0_luck_6
def dkwX0_luck_4 : List UInt8 := [100, 47, 42, 180, 0, 81, 28, 46, 133, 105, 167, 0, 4, 9, 97, 80, 132, 3, 255, 167, 255, 197]
abbrev dktX0_luck_4 : List UInt8 := dkwX0_luck_4 ++ dktX0_luck_5
def dkwX0_luck_3 : List UInt8 := [180, 0, 78, 28, 46, 42, 180, 0, 81, 28, 46, 100, 133, 105, 29, 158, 0, 22, 42, 180, 0, 84, 29, 4]
abbrev dktX0_luck_3 : List UInt8 := dkwX0_luck_3 ++ dktX0_luck_4
def dkwX0_luck_2 : List UInt8 := [162, 0, 75, 28, 4, 96, 62, 29, 155, 0, 61, 42, 180, 0, 84, 29, 42, 180, 0, 84, 29, 47, 42]
abbrev dktX0_luck_2 : List UInt8 := dkwX0_luck_2 ++ dktX0_luck_3
def dkwX0_luck_1 : List UInt8 := [154, 0, 7, 10, 167, 0, 4, 9, 80, 132, 2, 1, 167, 255, 232, 3, 61, 28, 42, 180, 0, 105]
abbrev dktX0_luck_1 : List UInt8 := dkwX0_luck_1 ++ dktX0_luck_2
def dkwX0_luck_0 : List UInt8 := [27, 2, 162, 0, 7, 20, 1, 219, 173, 3, 61, 28, 16, 9, 163, 0, 24, 42, 180, 0, 84, 28, 28]
abbrev dktX0_luck_0 : List UInt8 := dkwX0_luck_0 ++ dktX0_luck_1
theorem dksX0_luck_0 : cX0_luck.data.toList.drop 0 = dktX0_luck_0 := by decide +kernel
theorem dksX0_luck_1 : cX0_luck.data.toList.drop 23 = dktX0_luck_1 := dk_seg dksX0_luck_0 23 rfl rfl
theorem dksX0_luck_2 : cX0_luck.data.toList.drop 45 = dktX0_luck_2 := dk_seg dksX0_luck_1 22 rfl rfl
theorem dksX0_luck_3 : cX0_luck.data.toList.drop 68 = dktX0_luck_3 := dk_seg dksX0_luck_2 23 rfl rfl
theorem dksX0_luck_4 : cX0_luck.data.toList.drop 92 = dktX0_luck_4 := dk_seg dksX0_luck_3 24 rfl rfl
theorem dksX0_luck_5 : cX0_luck.data.toList.drop 114 = dktX0_luck_5 := dk_seg dksX0_luck_4 22 rfl rfl
theorem dksX0_luck_6 : cX0_luck.data.toList.drop 138 = dktX0_luck_6 := dk_seg dksX0_luck_5 24 rfl rfl
theorem dX0_luck_0 : decode cX0_luck 0 = .ok (.iload_n 1, 1) := dk_27 (dk_at dksX0_luck_0 0 rfl rfl)
theorem dX0_luck_1 : decode cX0_luck 1 = .ok (.iconst (-1), 1) := dk_2 (dk_at dksX0_luck_0 1 rfl rfl)
theorem dX0_luck_2 : decode cX0_luck 2 = .ok (.if_icmp .ge 7, 3) := dk_162 0 7 (dk_at dksX0_luck_0 2 rfl rfl)
theorem dX0_luck_5 : decode cX0_luck 5 = .ok (.ldc2_w 475, 3) := dk_20 1 219 (dk_at dksX0_luck_0 5 rfl rfl)
theorem dX0_luck_8 : decode cX0_luck 8 = .ok (.lreturn, 1) := dk_173 (dk_at dksX0_luck_0 8 rfl rfl)
theorem dX0_luck_9 : decode cX0_luck 9 = .ok (.iconst 0, 1) := dk_3 (dk_at dksX0_luck_0 9 rfl rfl)
theorem dX0_luck_10 : decode cX0_luck 10 = .ok (.istore_n 2, 1) := dk_61 (dk_at dksX0_luck_0 10 rfl rfl)
theorem dX0_luck_11 : decode cX0_luck 11 = .ok (.iload_n 2, 1) := dk_28 (dk_at dksX0_luck_0 11 rfl rfl)
theorem dX0_luck_12 : decode cX0_luck 12 = .ok (.bipush 9, 2) := dk_16 9 (dk_at dksX0_luck_0 12 rfl rfl)
theorem dX0_luck_14 : decode cX0_luck 14 = .ok (.if_icmp .gt 24, 3) := dk_163 0 24 (dk_at dksX0_luck_0 14 rfl rfl)
theorem dX0_luck_17 : decode cX0_luck 17 = .ok (.aload_n 0, 1) := dk_42 (dk_at dksX0_luck_0 17 rfl rfl)
theorem dX0_luck_18 : decode cX0_luck 18 = .ok (.getfield 84, 3) := dk_180 0 84 (dk_at dksX0_luck_0 18 rfl rfl)
theorem dX0_luck_21 : decode cX0_luck 21 = .ok (.iload_n 2, 1) := dk_28 (dk_at dksX0_luck_0 21 rfl rfl)
theorem dX0_luck_22 : decode cX0_luck 22 = .ok (.iload_n 2, 1) := dk_28 (dk_at dksX0_luck_0 22 rfl rfl)
theorem dX0_luck_23 : decode cX0_luck 23 = .ok (.ifCond .ne 7, 3) := dk_154 0 7 (dk_at dksX0_luck_1 0 rfl rfl)
theorem dX0_luck_26 : decode cX0_luck 26 = .ok (.lconst 1, 1) := dk_10 (dk_at dksX0_luck_1 3 rfl rfl)
theorem dX0_luck_27 : decode cX0_luck 27 = .ok (.goto 4, 3) := dk_167 0 4 (dk_at dksX0_luck_1 4 rfl rfl)
theorem dX0_luck_30 : decode cX0_luck 30 = .ok (.lconst 0, 1) := dk_9 (dk_at dksX0_luck_1 7 rfl rfl)
theorem dX0_luck_31 : decode cX0_luck 31 = .ok (.lastore, 1) := dk_80 (dk_at dksX0_luck_1 8 rfl rfl)
theorem dX0_luck_32 : decode cX0_luck 32 = .ok (.iinc 2 1, 3) := dk_132 2 1 (dk_at dksX0_luck_1 9 rfl rfl)
theorem dX0_luck_35 : decode cX0_luck 35 = .ok (.goto (-24), 3) := dk_167 255 232 (dk_at dksX0_luck_1 12 rfl rfl)
theorem dX0_luck_38 : decode cX0_luck 38 = .ok (.iconst 0, 1) := dk_3 (dk_at dksX0_luck_1 15 rfl rfl)
theorem dX0_luck_39 : decode cX0_luck 39 = .ok (.istore_n 2, 1) := dk_61 (dk_at dksX0_luck_1 16 rfl rfl)
theorem dX0_luck_40 : decode cX0_luck 40 = .ok (.iload_n 2, 1) := dk_28 (dk_at dksX0_luck_1 17 rfl rfl)
theorem dX0_luck_41 : decode cX0_luck 41 = .ok (.aload_n 0, 1) := dk_42 (dk_at dksX0_luck_1 18 rfl rfl)
theorem dX0_luck_42 : decode cX0_luck 42 = .ok (.getfield 105, 3) := dk_180 0 105 (dk_at dksX0_luck_1 19 rfl rfl)
theorem dX0_luck_45 : decode cX0_luck 45 = .ok (.if_icmp .ge 75, 3) := dk_162 0 75 (dk_at dksX0_luck_2 0 rfl rfl)
theorem dX0_luck_48 : decode cX0_luck 48 = .ok (.iload_n 2, 1) := dk_28 (dk_at dksX0_luck_2 3 rfl rfl)
theorem dX0_luck_49 : decode cX0_luck 49 = .ok (.iconst 1, 1) := dk_4 (dk_at dksX0_luck_2 4 rfl rfl)
theorem dX0_luck_50 : decode cX0_luck 50 = .ok (.iadd, 1) := dk_96 (dk_at dksX0_luck_2 5 rfl rfl)
theorem dX0_luck_51 : decode cX0_luck 51 = .ok (.istore_n 3, 1) := dk_62 (dk_at dksX0_luck_2 6 rfl rfl)
theorem dX0_luck_52 : decode cX0_luck 52 = .ok (.iload_n 3, 1) := dk_29 (dk_at dksX0_luck_2 7 rfl rfl)
theorem dX0_luck_53 : decode cX0_luck 53 = .ok (.ifCond .lt 61, 3) := dk_155 0 61 (dk_at dksX0_luck_2 8 rfl rfl)
theorem dX0_luck_56 : decode cX0_luck 56 = .ok (.aload_n 0, 1) := dk_42 (dk_at dksX0_luck_2 11 rfl rfl)
theorem dX0_luck_57 : decode cX0_luck 57 = .ok (.getfield 84, 3) := dk_180 0 84 (dk_at dksX0_luck_2 12 rfl rfl)
theorem dX0_luck_60 : decode cX0_luck 60 = .ok (.iload_n 3, 1) := dk_29 (dk_at dksX0_luck_2 15 rfl rfl)
theorem dX0_luck_61 : decode cX0_luck 61 = .ok (.aload_n 0, 1) := dk_42 (dk_at dksX0_luck_2 16 rfl rfl)
theorem dX0_luck_62 : decode cX0_luck 62 = .ok (.getfield 84, 3) := dk_180 0 84 (dk_at dksX0_luck_2 17 rfl rfl)
theorem dX0_luck_65 : decode cX0_luck 65 = .ok (.iload_n 3, 1) := dk_29 (dk_at dksX0_luck_2 20 rfl rfl)
theorem dX0_luck_66 : decode cX0_luck 66 = .ok (.laload, 1) := dk_47 (dk_at dksX0_luck_2 21 rfl rfl)
theorem dX0_luck_67 : decode cX0_luck 67 = .ok (.aload_n 0, 1) := dk_42 (dk_at dksX0_luck_2 22 rfl rfl)
theorem dX0_luck_68 : decode cX0_luck 68 = .ok (.getfield 78, 3) := dk_180 0 78 (dk_at dksX0_luck_3 0 rfl rfl)
theorem dX0_luck_71 : decode cX0_luck 71 = .ok (.iload_n 2, 1) := dk_28 (dk_at dksX0_luck_3 3 rfl rfl)
theorem dX0_luck_72 : decode cX0_luck 72 = .ok (.iaload, 1) := dk_46 (dk_at dksX0_luck_3 4 rfl rfl)
theorem dX0_luck_73 : decode cX0_luck 73 = .ok (.aload_n 0, 1) := dk_42 (dk_at dksX0_luck_3 5 rfl rfl)
theorem dX0_luck_74 : decode cX0_luck 74 = .ok (.getfield 81, 3) := dk_180 0 81 (dk_at dksX0_luck_3 6 rfl rfl)
theorem dX0_luck_77 : decode cX0_luck 77 = .ok (.iload_n 2, 1) := dk_28 (dk_at dksX0_luck_3 9 rfl rfl)
theorem dX0_luck_78 : decode cX0_luck 78 = .ok (.iaload, 1) := dk_46 (dk_at dksX0_luck_3 10 rfl rfl)
theorem dX0_luck_79 : decode cX0_luck 79 = .ok (.isub, 1) := dk_100 (dk_at dksX0_luck_3 11 rfl rfl)
theorem dX0_luck_80 : decode cX0_luck 80 = .ok (.i2l, 1) := dk_133 (dk_at dksX0_luck_3 12 rfl rfl)
theorem dX0_luck_81 : decode cX0_luck 81 = .ok (.lmul, 1) := dk_105 (dk_at dksX0_luck_3 13 rfl rfl)
theorem dX0_luck_82 : decode cX0_luck 82 = .ok (.iload_n 3, 1) := dk_29 (dk_at dksX0_luck_3 14 rfl rfl)
theorem dX0_luck_83 : decode cX0_luck 83 = .ok (.ifCond .le 22, 3) := dk_158 0 22 (dk_at dksX0_luck_3 15 rfl rfl)
theorem dX0_luck_86 : decode cX0_luck 86 = .ok (.aload_n 0, 1) := dk_42 (dk_at dksX0_luck_3 18 rfl rfl)
theorem dX0_luck_87 : decode cX0_luck 87 = .ok (.getfield 84, 3) := dk_180 0 84 (dk_at dksX0_luck_3 19 rfl rfl)
theorem dX0_luck_90 : decode cX0_luck 90 = .ok (.iload_n 3, 1) := dk_29 (dk_at dksX0_luck_3 22 rfl rfl)
theorem dX0_luck_91 : decode cX0_luck 91 = .ok (.iconst 1, 1) := dk_4 (dk_at dksX0_luck_3 23 rfl rfl)
theorem dX0_luck_92 : decode cX0_luck 92 = .ok (.isub, 1) := dk_100 (dk_at dksX0_luck_4 0 rfl rfl)
theorem dX0_luck_93 : decode cX0_luck 93 = .ok (.laload, 1) := dk_47 (dk_at dksX0_luck_4 1 rfl rfl)
theorem dX0_luck_94 : decode cX0_luck 94 = .ok (.aload_n 0, 1) := dk_42 (dk_at dksX0_luck_4 2 rfl rfl)
theorem dX0_luck_95 : decode cX0_luck 95 = .ok (.getfield 81, 3) := dk_180 0 81 (dk_at dksX0_luck_4 3 rfl rfl)
theorem dX0_luck_98 : decode cX0_luck 98 = .ok (.iload_n 2, 1) := dk_28 (dk_at dksX0_luck_4 6 rfl rfl)
theorem dX0_luck_99 : decode cX0_luck 99 = .ok (.iaload, 1) := dk_46 (dk_at dksX0_luck_4 7 rfl rfl)
theorem dX0_luck_100 : decode cX0_luck 100 = .ok (.i2l, 1) := dk_133 (dk_at dksX0_luck_4 8 rfl rfl)
theorem dX0_luck_101 : decode cX0_luck 101 = .ok (.lmul, 1) := dk_105 (dk_at dksX0_luck_4 9 rfl rfl)
theorem dX0_luck_102 : decode cX0_luck 102 = .ok (.goto 4, 3) := dk_167 0 4 (dk_at dksX0_luck_4 10 rfl rfl)
theorem dX0_luck_105 : decode cX0_luck 105 = .ok (.lconst 0, 1) := dk_9 (dk_at dksX0_luck_4 13 rfl rfl)
theorem dX0_luck_106 : decode cX0_luck 106 = .ok (.ladd, 1) := dk_97 (dk_at dksX0_luck_4 14 rfl rfl)
theorem dX0_luck_107 : decode cX0_luck 107 = .ok (.lastore, 1) := dk_80 (dk_at dksX0_luck_4 15 rfl rfl)
theorem dX0_luck_108 : decode cX0_luck 108 = .ok (.iinc 3 (-1), 3) := dk_132 3 255 (dk_at dksX0_luck_4 16 rfl rfl)
theorem dX0_luck_111 : decode cX0_luck 111 = .ok (.goto (-59), 3) := dk_167 255 197 (dk_at dksX0_luck_4 19 rfl rfl)
theorem dX0_luck_114 : decode cX0_luck 114 = .ok (.iinc 2 1, 3) := dk_132 2 1 (dk_at dksX0_luck_5 0 rfl rfl)
theorem dX0_luck_117 : decode cX0_luck 117 = .ok (.goto (-77), 3) := dk_167 255 179 (dk_at dksX0_luck_5 3 rfl rfl)
theorem dX0_luck_120 : decode cX0_luck 120 = .ok (.lconst 0, 1) := dk_9 (dk_at dksX0_luck_5 6 rfl rfl)
theorem dX0_luck_121 : decode cX0_luck 121 = .ok (.lstore_n 2, 1) := dk_65 (dk_at dksX0_luck_5 7 rfl rfl)
theorem dX0_luck_122 : decode cX0_luck 122 = .ok (.iconst 0, 1) := dk_3 (dk_at dksX0_luck_5 8 rfl rfl)
theorem dX0_luck_123 : decode cX0_luck 123 = .ok (.iload_n 1, 1) := dk_27 (dk_at dksX0_luck_5 9 rfl rfl)
theorem dX0_luck_124 : decode cX0_luck 124 = .ok (.invokestatic 210, 3) := dk_184 0 210 (dk_at dksX0_luck_5 10 rfl rfl)
theorem dX0_luck_127 : decode cX0_luck 127 = .ok (.istore 4, 2) := dk_54 4 (dk_at dksX0_luck_5 13 rfl rfl)
theorem dX0_luck_129 : decode cX0_luck 129 = .ok (.iload 4, 2) := dk_21 4 (dk_at dksX0_luck_5 15 rfl rfl)
theorem dX0_luck_131 : decode cX0_luck 131 = .ok (.aload_n 0, 1) := dk_42 (dk_at dksX0_luck_5 17 rfl rfl)
theorem dX0_luck_132 : decode cX0_luck 132 = .ok (.getfield 105, 3) := dk_180 0 105 (dk_at dksX0_luck_5 18 rfl rfl)
theorem dX0_luck_135 : decode cX0_luck 135 = .ok (.if_icmp .gt 19, 3) := dk_163 0 19 (dk_at dksX0_luck_5 21 rfl rfl)
theorem dX0_luck_138 : decode cX0_luck 138 = .ok (.lload_n 2, 1) := dk_32 (dk_at dksX0_luck_6 0 rfl rfl)
theorem dX0_luck_139 : decode cX0_luck 139 = .ok (.aload_n 0, 1) := dk_42 (dk_at dksX0_luck_6 1 rfl rfl)
theorem dX0_luck_140 : decode cX0_luck 140 = .ok (.getfield 84, 3) := dk_180 0 84 (dk_at dksX0_luck_6 2 rfl rfl)
theorem dX0_luck_143 : decode cX0_luck 143 = .ok (.iload 4, 2) := dk_21 4 (dk_at dksX0_luck_6 5 rfl rfl)
theorem dX0_luck_145 : decode cX0_luck 145 = .ok (.laload, 1) := dk_47 (dk_at dksX0_luck_6 7 rfl rfl)
theorem dX0_luck_146 : decode cX0_luck 146 = .ok (.ladd, 1) := dk_97 (dk_at dksX0_luck_6 8 rfl rfl)
theorem dX0_luck_147 : decode cX0_luck 147 = .ok (.lstore_n 2, 1) := dk_65 (dk_at dksX0_luck_6 9 rfl rfl)
theorem dX0_luck_148 : decode cX0_luck 148 = .ok (.iinc 4 1, 3) := dk_132 4 1 (dk_at dksX0_luck_6 10 rfl rfl)
theorem dX0_luck_151 : decode cX0_luck 151 = .ok (.goto (-22), 3) := dk_167 255 234 (dk_at dksX0_luck_6 13 rfl rfl)
theorem dX0_luck_154 : decode cX0_luck 154 = .ok (.lload_n 2, 1) := dk_32 (dk_at dksX0_luck_6 16 rfl rfl)
theorem dX0_luck_155 : decode cX0_luck 155 = .ok (.lreturn, 1) := dk_173 (dk_at dksX0_luck_6 17 rfl rfl)
abbrev cX0_chance : ByteArray := prog_1_method_74_code
def yX0_chance : MethodName := ⟨RX0, "chance", "(II)I"⟩
def dkwX0_chance_2 : List UInt8 := [105, 20, 1, 221, 109, 66, 132, 7, 1, 167, 255, 238, 20, 1, 221, 33, 101, 136, 172]
abbrev dktX0_chance_2 : List UInt8 := dkwX0_chance_2 ++ []
def dkwX0_chance_1 : List UInt8 := [19, 1, 229, 42, 27, 182, 1, 230, 100, 133, 55, 5, 3, 54, 7, 21, 7, 28, 162, 0, 18, 33, 22, 5]
abbrev dktX0_chance_1 : List UInt8 := dkwX0_chance_1 ++ dktX0_chance_2
def dkwX0_chance_0 : List UInt8 := [27, 155, 0, 15, 28, 133, 10, 20, 1, 227, 184, 0, 5, 154, 0, 5, 2, 172, 20, 1, 221, 66]
abbrev dktX0_chance_0 : List UInt8 := dkwX0_chance_0 ++ dktX0_chance_1
theorem dksX0_chance_0 : cX0_chance.data.toList.drop 0 = dktX0_chance_0 := by decide +kernel
theorem dksX0_chance_1 : cX0_chance.data.toList.drop 22 = dktX0_chance_1 := dk_seg dksX0_chance_0 22 rfl rfl
theorem dksX0_chance_2 : cX0_chance.data.toList.drop 46 = dktX0_chance_2 := dk_seg dksX0_chance_1 24 rfl rfl
theorem dX0_chance_0 : decode cX0_chance 0 = .ok (.iload_n 1, 1) := dk_27 (dk_at dksX0_chance_0 0 rfl rfl)
theorem dX0_chance_1 : decode cX0_chance 1 = .ok (.ifCond .lt 15, 3) := dk_155 0 15 (dk_at dksX0_chance_0 1 rfl rfl)
theorem dX0_chance_4 : decode cX0_chance 4 = .ok (.iload_n 2, 1) := dk_28 (dk_at dksX0_chance_0 4 rfl rfl)
theorem dX0_chance_5 : decode cX0_chance 5 = .ok (.i2l, 1) := dk_133 (dk_at dksX0_chance_0 5 rfl rfl)
theorem dX0_chance_6 : decode cX0_chance 6 = .ok (.lconst 1, 1) := dk_10 (dk_at dksX0_chance_0 6 rfl rfl)
theorem dX0_chance_7 : decode cX0_chance 7 = .ok (.ldc2_w 483, 3) := dk_20 1 227 (dk_at dksX0_chance_0 7 rfl rfl)
theorem dX0_chance_10 : decode cX0_chance 10 = .ok (.invokestatic 5, 3) := dk_184 0 5 (dk_at dksX0_chance_0 10 rfl rfl)
theorem dX0_chance_13 : decode cX0_chance 13 = .ok (.ifCond .ne 5, 3) := dk_154 0 5 (dk_at dksX0_chance_0 13 rfl rfl)
theorem dX0_chance_16 : decode cX0_chance 16 = .ok (.iconst (-1), 1) := dk_2 (dk_at dksX0_chance_0 16 rfl rfl)
theorem dX0_chance_17 : decode cX0_chance 17 = .ok (.ireturn, 1) := dk_172 (dk_at dksX0_chance_0 17 rfl rfl)
theorem dX0_chance_18 : decode cX0_chance 18 = .ok (.ldc2_w 477, 3) := dk_20 1 221 (dk_at dksX0_chance_0 18 rfl rfl)
theorem dX0_chance_21 : decode cX0_chance 21 = .ok (.lstore_n 3, 1) := dk_66 (dk_at dksX0_chance_0 21 rfl rfl)
theorem dX0_chance_22 : decode cX0_chance 22 = .ok (.ldc_w 485, 3) := dk_19 1 229 (dk_at dksX0_chance_1 0 rfl rfl)
theorem dX0_chance_25 : decode cX0_chance 25 = .ok (.aload_n 0, 1) := dk_42 (dk_at dksX0_chance_1 3 rfl rfl)
theorem dX0_chance_26 : decode cX0_chance 26 = .ok (.iload_n 1, 1) := dk_27 (dk_at dksX0_chance_1 4 rfl rfl)
theorem dX0_chance_27 : decode cX0_chance 27 = .ok (.invokevirtual 486, 3) := dk_182 1 230 (dk_at dksX0_chance_1 5 rfl rfl)
theorem dX0_chance_30 : decode cX0_chance 30 = .ok (.isub, 1) := dk_100 (dk_at dksX0_chance_1 8 rfl rfl)
theorem dX0_chance_31 : decode cX0_chance 31 = .ok (.i2l, 1) := dk_133 (dk_at dksX0_chance_1 9 rfl rfl)
theorem dX0_chance_32 : decode cX0_chance 32 = .ok (.lstore 5, 2) := dk_55 5 (dk_at dksX0_chance_1 10 rfl rfl)
theorem dX0_chance_34 : decode cX0_chance 34 = .ok (.iconst 0, 1) := dk_3 (dk_at dksX0_chance_1 12 rfl rfl)
theorem dX0_chance_35 : decode cX0_chance 35 = .ok (.istore 7, 2) := dk_54 7 (dk_at dksX0_chance_1 13 rfl rfl)
theorem dX0_chance_37 : decode cX0_chance 37 = .ok (.iload 7, 2) := dk_21 7 (dk_at dksX0_chance_1 15 rfl rfl)
theorem dX0_chance_39 : decode cX0_chance 39 = .ok (.iload_n 2, 1) := dk_28 (dk_at dksX0_chance_1 17 rfl rfl)
theorem dX0_chance_40 : decode cX0_chance 40 = .ok (.if_icmp .ge 18, 3) := dk_162 0 18 (dk_at dksX0_chance_1 18 rfl rfl)
theorem dX0_chance_43 : decode cX0_chance 43 = .ok (.lload_n 3, 1) := dk_33 (dk_at dksX0_chance_1 21 rfl rfl)
theorem dX0_chance_44 : decode cX0_chance 44 = .ok (.lload 5, 2) := dk_22 5 (dk_at dksX0_chance_1 22 rfl rfl)
theorem dX0_chance_46 : decode cX0_chance 46 = .ok (.lmul, 1) := dk_105 (dk_at dksX0_chance_2 0 rfl rfl)
theorem dX0_chance_47 : decode cX0_chance 47 = .ok (.ldc2_w 477, 3) := dk_20 1 221 (dk_at dksX0_chance_2 1 rfl rfl)
theorem dX0_chance_50 : decode cX0_chance 50 = .ok (.ldiv, 1) := dk_109 (dk_at dksX0_chance_2 4 rfl rfl)
theorem dX0_chance_51 : decode cX0_chance 51 = .ok (.lstore_n 3, 1) := dk_66 (dk_at dksX0_chance_2 5 rfl rfl)
theorem dX0_chance_52 : decode cX0_chance 52 = .ok (.iinc 7 1, 3) := dk_132 7 1 (dk_at dksX0_chance_2 6 rfl rfl)
theorem dX0_chance_55 : decode cX0_chance 55 = .ok (.goto (-18), 3) := dk_167 255 238 (dk_at dksX0_chance_2 9 rfl rfl)
theorem dX0_chance_58 : decode cX0_chance 58 = .ok (.ldc2_w 477, 3) := dk_20 1 221 (dk_at dksX0_chance_2 12 rfl rfl)
theorem dX0_chance_61 : decode cX0_chance 61 = .ok (.lload_n 3, 1) := dk_33 (dk_at dksX0_chance_2 15 rfl rfl)
theorem dX0_chance_62 : decode cX0_chance 62 = .ok (.lsub, 1) := dk_101 (dk_at dksX0_chance_2 16 rfl rfl)
theorem dX0_chance_63 : decode cX0_chance 63 = .ok (.l2i, 1) := dk_136 (dk_at dksX0_chance_2 17 rfl rfl)
theorem dX0_chance_64 : decode cX0_chance 64 = .ok (.ireturn, 1) := dk_172 (dk_at dksX0_chance_2 18 rfl rfl)
abbrev cX0_chanceOf : ByteArray := prog_1_method_73_code
def yX0_chanceOf : MethodName := ⟨RX0, "chanceOf", "(I)I"⟩
def dkwX0_chanceOf_0 : List UInt8 := [20, 1, 221, 42, 27, 182, 1, 223, 105, 42, 2, 182, 1, 223, 109, 136, 172]
abbrev dktX0_chanceOf_0 : List UInt8 := dkwX0_chanceOf_0 ++ []
theorem dksX0_chanceOf_0 : cX0_chanceOf.data.toList.drop 0 = dktX0_chanceOf_0 := by decide +kernel
theorem dX0_chanceOf_0 : decode cX0_chanceOf 0 = .ok (.ldc2_w 477, 3) := dk_20 1 221 (dk_at dksX0_chanceOf_0 0 rfl rfl)
theorem dX0_chanceOf_3 : decode cX0_chanceOf 3 = .ok (.aload_n 0, 1) := dk_42 (dk_at dksX0_chanceOf_0 3 rfl rfl)
theorem dX0_chanceOf_4 : decode cX0_chanceOf 4 = .ok (.iload_n 1, 1) := dk_27 (dk_at dksX0_chanceOf_0 4 rfl rfl)
theorem dX0_chanceOf_5 : decode cX0_chanceOf 5 = .ok (.invokevirtual 479, 3) := dk_182 1 223 (dk_at dksX0_chanceOf_0 5 rfl rfl)
theorem dX0_chanceOf_8 : decode cX0_chanceOf 8 = .ok (.lmul, 1) := dk_105 (dk_at dksX0_chanceOf_0 8 rfl rfl)
theorem dX0_chanceOf_9 : decode cX0_chanceOf 9 = .ok (.aload_n 0, 1) := dk_42 (dk_at dksX0_chanceOf_0 9 rfl rfl)
theorem dX0_chanceOf_10 : decode cX0_chanceOf 10 = .ok (.iconst (-1), 1) := dk_2 (dk_at dksX0_chanceOf_0 10 rfl rfl)
theorem dX0_chanceOf_11 : decode cX0_chanceOf 11 = .ok (.invokevirtual 479, 3) := dk_182 1 223 (dk_at dksX0_chanceOf_0 11 rfl rfl)
theorem dX0_chanceOf_14 : decode cX0_chanceOf 14 = .ok (.ldiv, 1) := dk_109 (dk_at dksX0_chanceOf_0 14 rfl rfl)
theorem dX0_chanceOf_15 : decode cX0_chanceOf 15 = .ok (.l2i, 1) := dk_136 (dk_at dksX0_chanceOf_0 15 rfl rfl)
theorem dX0_chanceOf_16 : decode cX0_chanceOf 16 = .ok (.ireturn, 1) := dk_172 (dk_at dksX0_chanceOf_0 16 rfl rfl)
abbrev cX0_ease : ByteArray := prog_1_method_76_code
def yX0_ease : MethodName := ⟨RX0, "ease", "(II)I"⟩
def dkwX0_ease_3 : List UInt8 := [172]
abbrev dktX0_ease_3 : List UInt8 := dkwX0_ease_3 ++ []
def dkwX0_ease_2 : List UInt8 := [160, 0, 6, 21, 4, 172, 132, 3, 1, 132, 4, 1, 167, 255, 216, 28, 156, 0, 7, 29, 167, 0, 4, 2]
abbrev dktX0_ease_2 : List UInt8 := dkwX0_ease_2 ++ dktX0_ease_3
def dkwX0_ease_1 : List UInt8 := [42, 180, 0, 25, 104, 120, 162, 0, 33, 42, 27, 21, 4, 182, 1, 233, 154, 0, 6, 167, 0, 14, 29, 28]
abbrev dktX0_ease_1 : List UInt8 := dkwX0_ease_1 ++ dktX0_ease_2
def dkwX0_ease_0 : List UInt8 := [42, 27, 182, 1, 61, 153, 0, 8, 28, 2, 162, 0, 5, 2, 172, 3, 62, 3, 54, 4, 21, 4, 4, 5]
abbrev dktX0_ease_0 : List UInt8 := dkwX0_ease_0 ++ dktX0_ease_1
theorem dksX0_ease_0 : cX0_ease.data.toList.drop 0 = dktX0_ease_0 := by decide +kernel
theorem dksX0_ease_1 : cX0_ease.data.toList.drop 24 = dktX0_ease_1 := dk_seg dksX0_ease_0 24 rfl rfl
theorem dksX0_ease_2 : cX0_ease.data.toList.drop 48 = dktX0_ease_2 := dk_seg dksX0_ease_1 24 rfl rfl
theorem dksX0_ease_3 : cX0_ease.data.toList.drop 72 = dktX0_ease_3 := dk_seg dksX0_ease_2 24 rfl rfl
theorem dX0_ease_0 : decode cX0_ease 0 = .ok (.aload_n 0, 1) := dk_42 (dk_at dksX0_ease_0 0 rfl rfl)
theorem dX0_ease_1 : decode cX0_ease 1 = .ok (.iload_n 1, 1) := dk_27 (dk_at dksX0_ease_0 1 rfl rfl)
theorem dX0_ease_2 : decode cX0_ease 2 = .ok (.invokevirtual 317, 3) := dk_182 1 61 (dk_at dksX0_ease_0 2 rfl rfl)
theorem dX0_ease_5 : decode cX0_ease 5 = .ok (.ifCond .eq 8, 3) := dk_153 0 8 (dk_at dksX0_ease_0 5 rfl rfl)
theorem dX0_ease_8 : decode cX0_ease 8 = .ok (.iload_n 2, 1) := dk_28 (dk_at dksX0_ease_0 8 rfl rfl)
theorem dX0_ease_9 : decode cX0_ease 9 = .ok (.iconst (-1), 1) := dk_2 (dk_at dksX0_ease_0 9 rfl rfl)
theorem dX0_ease_10 : decode cX0_ease 10 = .ok (.if_icmp .ge 5, 3) := dk_162 0 5 (dk_at dksX0_ease_0 10 rfl rfl)
theorem dX0_ease_13 : decode cX0_ease 13 = .ok (.iconst (-1), 1) := dk_2 (dk_at dksX0_ease_0 13 rfl rfl)
theorem dX0_ease_14 : decode cX0_ease 14 = .ok (.ireturn, 1) := dk_172 (dk_at dksX0_ease_0 14 rfl rfl)
theorem dX0_ease_15 : decode cX0_ease 15 = .ok (.iconst 0, 1) := dk_3 (dk_at dksX0_ease_0 15 rfl rfl)
theorem dX0_ease_16 : decode cX0_ease 16 = .ok (.istore_n 3, 1) := dk_62 (dk_at dksX0_ease_0 16 rfl rfl)
theorem dX0_ease_17 : decode cX0_ease 17 = .ok (.iconst 0, 1) := dk_3 (dk_at dksX0_ease_0 17 rfl rfl)
theorem dX0_ease_18 : decode cX0_ease 18 = .ok (.istore 4, 2) := dk_54 4 (dk_at dksX0_ease_0 18 rfl rfl)
theorem dX0_ease_20 : decode cX0_ease 20 = .ok (.iload 4, 2) := dk_21 4 (dk_at dksX0_ease_0 20 rfl rfl)
theorem dX0_ease_22 : decode cX0_ease 22 = .ok (.iconst 1, 1) := dk_4 (dk_at dksX0_ease_0 22 rfl rfl)
theorem dX0_ease_23 : decode cX0_ease 23 = .ok (.iconst 2, 1) := dk_5 (dk_at dksX0_ease_0 23 rfl rfl)
theorem dX0_ease_24 : decode cX0_ease 24 = .ok (.aload_n 0, 1) := dk_42 (dk_at dksX0_ease_1 0 rfl rfl)
theorem dX0_ease_25 : decode cX0_ease 25 = .ok (.getfield 25, 3) := dk_180 0 25 (dk_at dksX0_ease_1 1 rfl rfl)
theorem dX0_ease_28 : decode cX0_ease 28 = .ok (.imul, 1) := dk_104 (dk_at dksX0_ease_1 4 rfl rfl)
theorem dX0_ease_29 : decode cX0_ease 29 = .ok (.ishl, 1) := dk_120 (dk_at dksX0_ease_1 5 rfl rfl)
theorem dX0_ease_30 : decode cX0_ease 30 = .ok (.if_icmp .ge 33, 3) := dk_162 0 33 (dk_at dksX0_ease_1 6 rfl rfl)
theorem dX0_ease_33 : decode cX0_ease 33 = .ok (.aload_n 0, 1) := dk_42 (dk_at dksX0_ease_1 9 rfl rfl)
theorem dX0_ease_34 : decode cX0_ease 34 = .ok (.iload_n 1, 1) := dk_27 (dk_at dksX0_ease_1 10 rfl rfl)
theorem dX0_ease_35 : decode cX0_ease 35 = .ok (.iload 4, 2) := dk_21 4 (dk_at dksX0_ease_1 11 rfl rfl)
theorem dX0_ease_37 : decode cX0_ease 37 = .ok (.invokevirtual 489, 3) := dk_182 1 233 (dk_at dksX0_ease_1 13 rfl rfl)
theorem dX0_ease_40 : decode cX0_ease 40 = .ok (.ifCond .ne 6, 3) := dk_154 0 6 (dk_at dksX0_ease_1 16 rfl rfl)
theorem dX0_ease_43 : decode cX0_ease 43 = .ok (.goto 14, 3) := dk_167 0 14 (dk_at dksX0_ease_1 19 rfl rfl)
theorem dX0_ease_46 : decode cX0_ease 46 = .ok (.iload_n 3, 1) := dk_29 (dk_at dksX0_ease_1 22 rfl rfl)
theorem dX0_ease_47 : decode cX0_ease 47 = .ok (.iload_n 2, 1) := dk_28 (dk_at dksX0_ease_1 23 rfl rfl)
theorem dX0_ease_48 : decode cX0_ease 48 = .ok (.if_icmp .ne 6, 3) := dk_160 0 6 (dk_at dksX0_ease_2 0 rfl rfl)
theorem dX0_ease_51 : decode cX0_ease 51 = .ok (.iload 4, 2) := dk_21 4 (dk_at dksX0_ease_2 3 rfl rfl)
theorem dX0_ease_53 : decode cX0_ease 53 = .ok (.ireturn, 1) := dk_172 (dk_at dksX0_ease_2 5 rfl rfl)
theorem dX0_ease_54 : decode cX0_ease 54 = .ok (.iinc 3 1, 3) := dk_132 3 1 (dk_at dksX0_ease_2 6 rfl rfl)
theorem dX0_ease_57 : decode cX0_ease 57 = .ok (.iinc 4 1, 3) := dk_132 4 1 (dk_at dksX0_ease_2 9 rfl rfl)
theorem dX0_ease_60 : decode cX0_ease 60 = .ok (.goto (-40), 3) := dk_167 255 216 (dk_at dksX0_ease_2 12 rfl rfl)
theorem dX0_ease_63 : decode cX0_ease 63 = .ok (.iload_n 2, 1) := dk_28 (dk_at dksX0_ease_2 15 rfl rfl)
theorem dX0_ease_64 : decode cX0_ease 64 = .ok (.ifCond .ge 7, 3) := dk_156 0 7 (dk_at dksX0_ease_2 16 rfl rfl)
theorem dX0_ease_67 : decode cX0_ease 67 = .ok (.iload_n 3, 1) := dk_29 (dk_at dksX0_ease_2 19 rfl rfl)
theorem dX0_ease_68 : decode cX0_ease 68 = .ok (.goto 4, 3) := dk_167 0 4 (dk_at dksX0_ease_2 20 rfl rfl)
theorem dX0_ease_71 : decode cX0_ease 71 = .ok (.iconst (-1), 1) := dk_2 (dk_at dksX0_ease_2 23 rfl rfl)
theorem dX0_ease_72 : decode cX0_ease 72 = .ok (.ireturn, 1) := dk_172 (dk_at dksX0_ease_3 0 rfl rfl)
abbrev cX0_isEase : ByteArray := prog_1_method_75_code
def yX0_isEase : MethodName := ⟨RX0, "isEase", "(II)Z"⟩
def dkwX0_isEase_2 : List UInt8 := [180, 0, 25, 112, 104, 122, 6, 126, 153, 0, 5, 3, 172, 132, 3, 1, 167, 255, 195, 4, 172]
abbrev dktX0_isEase_2 : List UInt8 := dkwX0_isEase_2 ++ []
def dkwX0_isEase_1 : List UInt8 := [167, 0, 36, 21, 4, 6, 159, 0, 28, 27, 29, 122, 4, 126, 153, 0, 20, 28, 5, 29, 4, 96, 42]
abbrev dktX0_isEase_1 : List UInt8 := dkwX0_isEase_1 ++ dktX0_isEase_2
def dkwX0_isEase_0 : List UInt8 := [3, 62, 29, 42, 180, 0, 25, 162, 0, 59, 28, 5, 29, 104, 122, 6, 126, 54, 4, 21, 4, 154, 0, 6]
abbrev dktX0_isEase_0 : List UInt8 := dkwX0_isEase_0 ++ dktX0_isEase_1
theorem dksX0_isEase_0 : cX0_isEase.data.toList.drop 0 = dktX0_isEase_0 := by decide +kernel
theorem dksX0_isEase_1 : cX0_isEase.data.toList.drop 24 = dktX0_isEase_1 := dk_seg dksX0_isEase_0 24 rfl rfl
theorem dksX0_isEase_2 : cX0_isEase.data.toList.drop 47 = dktX0_isEase_2 := dk_seg dksX0_isEase_1 23 rfl rfl
theorem dX0_isEase_0 : decode cX0_isEase 0 = .ok (.iconst 0, 1) := dk_3 (dk_at dksX0_isEase_0 0 rfl rfl)
theorem dX0_isEase_1 : decode cX0_isEase 1 = .ok (.istore_n 3, 1) := dk_62 (dk_at dksX0_isEase_0 1 rfl rfl)
theorem dX0_isEase_2 : decode cX0_isEase 2 = .ok (.iload_n 3, 1) := dk_29 (dk_at dksX0_isEase_0 2 rfl rfl)
theorem dX0_isEase_3 : decode cX0_isEase 3 = .ok (.aload_n 0, 1) := dk_42 (dk_at dksX0_isEase_0 3 rfl rfl)
theorem dX0_isEase_4 : decode cX0_isEase 4 = .ok (.getfield 25, 3) := dk_180 0 25 (dk_at dksX0_isEase_0 4 rfl rfl)
theorem dX0_isEase_7 : decode cX0_isEase 7 = .ok (.if_icmp .ge 59, 3) := dk_162 0 59 (dk_at dksX0_isEase_0 7 rfl rfl)
theorem dX0_isEase_10 : decode cX0_isEase 10 = .ok (.iload_n 2, 1) := dk_28 (dk_at dksX0_isEase_0 10 rfl rfl)
theorem dX0_isEase_11 : decode cX0_isEase 11 = .ok (.iconst 2, 1) := dk_5 (dk_at dksX0_isEase_0 11 rfl rfl)
theorem dX0_isEase_12 : decode cX0_isEase 12 = .ok (.iload_n 3, 1) := dk_29 (dk_at dksX0_isEase_0 12 rfl rfl)
theorem dX0_isEase_13 : decode cX0_isEase 13 = .ok (.imul, 1) := dk_104 (dk_at dksX0_isEase_0 13 rfl rfl)
theorem dX0_isEase_14 : decode cX0_isEase 14 = .ok (.ishr, 1) := dk_122 (dk_at dksX0_isEase_0 14 rfl rfl)
theorem dX0_isEase_15 : decode cX0_isEase 15 = .ok (.iconst 3, 1) := dk_6 (dk_at dksX0_isEase_0 15 rfl rfl)
theorem dX0_isEase_16 : decode cX0_isEase 16 = .ok (.iand, 1) := dk_126 (dk_at dksX0_isEase_0 16 rfl rfl)
theorem dX0_isEase_17 : decode cX0_isEase 17 = .ok (.istore 4, 2) := dk_54 4 (dk_at dksX0_isEase_0 17 rfl rfl)
theorem dX0_isEase_19 : decode cX0_isEase 19 = .ok (.iload 4, 2) := dk_21 4 (dk_at dksX0_isEase_0 19 rfl rfl)
theorem dX0_isEase_21 : decode cX0_isEase 21 = .ok (.ifCond .ne 6, 3) := dk_154 0 6 (dk_at dksX0_isEase_0 21 rfl rfl)
theorem dX0_isEase_24 : decode cX0_isEase 24 = .ok (.goto 36, 3) := dk_167 0 36 (dk_at dksX0_isEase_1 0 rfl rfl)
theorem dX0_isEase_27 : decode cX0_isEase 27 = .ok (.iload 4, 2) := dk_21 4 (dk_at dksX0_isEase_1 3 rfl rfl)
theorem dX0_isEase_29 : decode cX0_isEase 29 = .ok (.iconst 3, 1) := dk_6 (dk_at dksX0_isEase_1 5 rfl rfl)
theorem dX0_isEase_30 : decode cX0_isEase 30 = .ok (.if_icmp .eq 28, 3) := dk_159 0 28 (dk_at dksX0_isEase_1 6 rfl rfl)
theorem dX0_isEase_33 : decode cX0_isEase 33 = .ok (.iload_n 1, 1) := dk_27 (dk_at dksX0_isEase_1 9 rfl rfl)
theorem dX0_isEase_34 : decode cX0_isEase 34 = .ok (.iload_n 3, 1) := dk_29 (dk_at dksX0_isEase_1 10 rfl rfl)
theorem dX0_isEase_35 : decode cX0_isEase 35 = .ok (.ishr, 1) := dk_122 (dk_at dksX0_isEase_1 11 rfl rfl)
theorem dX0_isEase_36 : decode cX0_isEase 36 = .ok (.iconst 1, 1) := dk_4 (dk_at dksX0_isEase_1 12 rfl rfl)
theorem dX0_isEase_37 : decode cX0_isEase 37 = .ok (.iand, 1) := dk_126 (dk_at dksX0_isEase_1 13 rfl rfl)
theorem dX0_isEase_38 : decode cX0_isEase 38 = .ok (.ifCond .eq 20, 3) := dk_153 0 20 (dk_at dksX0_isEase_1 14 rfl rfl)
theorem dX0_isEase_41 : decode cX0_isEase 41 = .ok (.iload_n 2, 1) := dk_28 (dk_at dksX0_isEase_1 17 rfl rfl)
theorem dX0_isEase_42 : decode cX0_isEase 42 = .ok (.iconst 2, 1) := dk_5 (dk_at dksX0_isEase_1 18 rfl rfl)
theorem dX0_isEase_43 : decode cX0_isEase 43 = .ok (.iload_n 3, 1) := dk_29 (dk_at dksX0_isEase_1 19 rfl rfl)
theorem dX0_isEase_44 : decode cX0_isEase 44 = .ok (.iconst 1, 1) := dk_4 (dk_at dksX0_isEase_1 20 rfl rfl)
theorem dX0_isEase_45 : decode cX0_isEase 45 = .ok (.iadd, 1) := dk_96 (dk_at dksX0_isEase_1 21 rfl rfl)
theorem dX0_isEase_46 : decode cX0_isEase 46 = .ok (.aload_n 0, 1) := dk_42 (dk_at dksX0_isEase_1 22 rfl rfl)
theorem dX0_isEase_47 : decode cX0_isEase 47 = .ok (.getfield 25, 3) := dk_180 0 25 (dk_at dksX0_isEase_2 0 rfl rfl)
theorem dX0_isEase_50 : decode cX0_isEase 50 = .ok (.irem, 1) := dk_112 (dk_at dksX0_isEase_2 3 rfl rfl)
theorem dX0_isEase_51 : decode cX0_isEase 51 = .ok (.imul, 1) := dk_104 (dk_at dksX0_isEase_2 4 rfl rfl)
theorem dX0_isEase_52 : decode cX0_isEase 52 = .ok (.ishr, 1) := dk_122 (dk_at dksX0_isEase_2 5 rfl rfl)
theorem dX0_isEase_53 : decode cX0_isEase 53 = .ok (.iconst 3, 1) := dk_6 (dk_at dksX0_isEase_2 6 rfl rfl)
theorem dX0_isEase_54 : decode cX0_isEase 54 = .ok (.iand, 1) := dk_126 (dk_at dksX0_isEase_2 7 rfl rfl)
theorem dX0_isEase_55 : decode cX0_isEase 55 = .ok (.ifCond .eq 5, 3) := dk_153 0 5 (dk_at dksX0_isEase_2 8 rfl rfl)
theorem dX0_isEase_58 : decode cX0_isEase 58 = .ok (.iconst 0, 1) := dk_3 (dk_at dksX0_isEase_2 11 rfl rfl)
theorem dX0_isEase_59 : decode cX0_isEase 59 = .ok (.ireturn, 1) := dk_172 (dk_at dksX0_isEase_2 12 rfl rfl)
theorem dX0_isEase_60 : decode cX0_isEase 60 = .ok (.iinc 3 1, 3) := dk_132 3 1 (dk_at dksX0_isEase_2 13 rfl rfl)
theorem dX0_isEase_63 : decode cX0_isEase 63 = .ok (.goto (-61), 3) := dk_167 255 195 (dk_at dksX0_isEase_2 16 rfl rfl)
theorem dX0_isEase_66 : decode cX0_isEase 66 = .ok (.iconst 1, 1) := dk_4 (dk_at dksX0_isEase_2 19 rfl rfl)
theorem dX0_isEase_67 : decode cX0_isEase 67 = .ok (.ireturn, 1) := dk_172 (dk_at dksX0_isEase_2 20 rfl rfl)
abbrev cX0_fair : ByteArray := prog_1_method_77_code
def yX0_fair : MethodName := ⟨RX0, "fair", "(IIIIIII)I"⟩
def dkwX0_fair_3 : List UInt8 := [167, 0, 16, 28, 42, 180, 0, 105, 164, 0, 7, 6, 167, 0, 4, 3, 172]
abbrev dktX0_fair_3 : List UInt8 := dkwX0_fair_3 ++ []
def dkwX0_fair_2 : List UInt8 := [21, 6, 21, 7, 182, 1, 204, 154, 0, 7, 4, 167, 0, 29, 42, 28, 182, 1, 230, 29, 164, 0, 7, 5]
abbrev dktX0_fair_2 : List UInt8 := dkwX0_fair_2 ++ dktX0_fair_3
def dkwX0_fair_1 : List UInt8 := [155, 0, 15, 29, 133, 9, 20, 1, 221, 184, 0, 5, 154, 0, 5, 2, 172, 42, 27, 21, 4, 21, 5]
abbrev dktX0_fair_1 : List UInt8 := dkwX0_fair_1 ++ dktX0_fair_2
def dkwX0_fair_0 : List UInt8 := [42, 27, 182, 1, 201, 153, 0, 34, 42, 21, 4, 21, 5, 21, 6, 21, 7, 182, 1, 64, 153, 0, 19, 28]
abbrev dktX0_fair_0 : List UInt8 := dkwX0_fair_0 ++ dktX0_fair_1
theorem dksX0_fair_0 : cX0_fair.data.toList.drop 0 = dktX0_fair_0 := by decide +kernel
theorem dksX0_fair_1 : cX0_fair.data.toList.drop 24 = dktX0_fair_1 := dk_seg dksX0_fair_0 24 rfl rfl
theorem dksX0_fair_2 : cX0_fair.data.toList.drop 47 = dktX0_fair_2 := dk_seg dksX0_fair_1 23 rfl rfl
theorem dksX0_fair_3 : cX0_fair.data.toList.drop 71 = dktX0_fair_3 := dk_seg dksX0_fair_2 24 rfl rfl
theorem dX0_fair_0 : decode cX0_fair 0 = .ok (.aload_n 0, 1) := dk_42 (dk_at dksX0_fair_0 0 rfl rfl)
theorem dX0_fair_1 : decode cX0_fair 1 = .ok (.iload_n 1, 1) := dk_27 (dk_at dksX0_fair_0 1 rfl rfl)
theorem dX0_fair_2 : decode cX0_fair 2 = .ok (.invokevirtual 457, 3) := dk_182 1 201 (dk_at dksX0_fair_0 2 rfl rfl)
theorem dX0_fair_5 : decode cX0_fair 5 = .ok (.ifCond .eq 34, 3) := dk_153 0 34 (dk_at dksX0_fair_0 5 rfl rfl)
theorem dX0_fair_8 : decode cX0_fair 8 = .ok (.aload_n 0, 1) := dk_42 (dk_at dksX0_fair_0 8 rfl rfl)
theorem dX0_fair_9 : decode cX0_fair 9 = .ok (.iload 4, 2) := dk_21 4 (dk_at dksX0_fair_0 9 rfl rfl)
theorem dX0_fair_11 : decode cX0_fair 11 = .ok (.iload 5, 2) := dk_21 5 (dk_at dksX0_fair_0 11 rfl rfl)
theorem dX0_fair_13 : decode cX0_fair 13 = .ok (.iload 6, 2) := dk_21 6 (dk_at dksX0_fair_0 13 rfl rfl)
theorem dX0_fair_15 : decode cX0_fair 15 = .ok (.iload 7, 2) := dk_21 7 (dk_at dksX0_fair_0 15 rfl rfl)
theorem dX0_fair_17 : decode cX0_fair 17 = .ok (.invokevirtual 320, 3) := dk_182 1 64 (dk_at dksX0_fair_0 17 rfl rfl)
theorem dX0_fair_20 : decode cX0_fair 20 = .ok (.ifCond .eq 19, 3) := dk_153 0 19 (dk_at dksX0_fair_0 20 rfl rfl)
theorem dX0_fair_23 : decode cX0_fair 23 = .ok (.iload_n 2, 1) := dk_28 (dk_at dksX0_fair_0 23 rfl rfl)
theorem dX0_fair_24 : decode cX0_fair 24 = .ok (.ifCond .lt 15, 3) := dk_155 0 15 (dk_at dksX0_fair_1 0 rfl rfl)
theorem dX0_fair_27 : decode cX0_fair 27 = .ok (.iload_n 3, 1) := dk_29 (dk_at dksX0_fair_1 3 rfl rfl)
theorem dX0_fair_28 : decode cX0_fair 28 = .ok (.i2l, 1) := dk_133 (dk_at dksX0_fair_1 4 rfl rfl)
theorem dX0_fair_29 : decode cX0_fair 29 = .ok (.lconst 0, 1) := dk_9 (dk_at dksX0_fair_1 5 rfl rfl)
theorem dX0_fair_30 : decode cX0_fair 30 = .ok (.ldc2_w 477, 3) := dk_20 1 221 (dk_at dksX0_fair_1 6 rfl rfl)
theorem dX0_fair_33 : decode cX0_fair 33 = .ok (.invokestatic 5, 3) := dk_184 0 5 (dk_at dksX0_fair_1 9 rfl rfl)
theorem dX0_fair_36 : decode cX0_fair 36 = .ok (.ifCond .ne 5, 3) := dk_154 0 5 (dk_at dksX0_fair_1 12 rfl rfl)
theorem dX0_fair_39 : decode cX0_fair 39 = .ok (.iconst (-1), 1) := dk_2 (dk_at dksX0_fair_1 15 rfl rfl)
theorem dX0_fair_40 : decode cX0_fair 40 = .ok (.ireturn, 1) := dk_172 (dk_at dksX0_fair_1 16 rfl rfl)
theorem dX0_fair_41 : decode cX0_fair 41 = .ok (.aload_n 0, 1) := dk_42 (dk_at dksX0_fair_1 17 rfl rfl)
theorem dX0_fair_42 : decode cX0_fair 42 = .ok (.iload_n 1, 1) := dk_27 (dk_at dksX0_fair_1 18 rfl rfl)
theorem dX0_fair_43 : decode cX0_fair 43 = .ok (.iload 4, 2) := dk_21 4 (dk_at dksX0_fair_1 19 rfl rfl)
theorem dX0_fair_45 : decode cX0_fair 45 = .ok (.iload 5, 2) := dk_21 5 (dk_at dksX0_fair_1 21 rfl rfl)
theorem dX0_fair_47 : decode cX0_fair 47 = .ok (.iload 6, 2) := dk_21 6 (dk_at dksX0_fair_2 0 rfl rfl)
theorem dX0_fair_49 : decode cX0_fair 49 = .ok (.iload 7, 2) := dk_21 7 (dk_at dksX0_fair_2 2 rfl rfl)
theorem dX0_fair_51 : decode cX0_fair 51 = .ok (.invokevirtual 460, 3) := dk_182 1 204 (dk_at dksX0_fair_2 4 rfl rfl)
theorem dX0_fair_54 : decode cX0_fair 54 = .ok (.ifCond .ne 7, 3) := dk_154 0 7 (dk_at dksX0_fair_2 7 rfl rfl)
theorem dX0_fair_57 : decode cX0_fair 57 = .ok (.iconst 1, 1) := dk_4 (dk_at dksX0_fair_2 10 rfl rfl)
theorem dX0_fair_58 : decode cX0_fair 58 = .ok (.goto 29, 3) := dk_167 0 29 (dk_at dksX0_fair_2 11 rfl rfl)
theorem dX0_fair_61 : decode cX0_fair 61 = .ok (.aload_n 0, 1) := dk_42 (dk_at dksX0_fair_2 14 rfl rfl)
theorem dX0_fair_62 : decode cX0_fair 62 = .ok (.iload_n 2, 1) := dk_28 (dk_at dksX0_fair_2 15 rfl rfl)
theorem dX0_fair_63 : decode cX0_fair 63 = .ok (.invokevirtual 486, 3) := dk_182 1 230 (dk_at dksX0_fair_2 16 rfl rfl)
theorem dX0_fair_66 : decode cX0_fair 66 = .ok (.iload_n 3, 1) := dk_29 (dk_at dksX0_fair_2 19 rfl rfl)
theorem dX0_fair_67 : decode cX0_fair 67 = .ok (.if_icmp .le 7, 3) := dk_164 0 7 (dk_at dksX0_fair_2 20 rfl rfl)
theorem dX0_fair_70 : decode cX0_fair 70 = .ok (.iconst 2, 1) := dk_5 (dk_at dksX0_fair_2 23 rfl rfl)
theorem dX0_fair_71 : decode cX0_fair 71 = .ok (.goto 16, 3) := dk_167 0 16 (dk_at dksX0_fair_3 0 rfl rfl)
theorem dX0_fair_74 : decode cX0_fair 74 = .ok (.iload_n 2, 1) := dk_28 (dk_at dksX0_fair_3 3 rfl rfl)
theorem dX0_fair_75 : decode cX0_fair 75 = .ok (.aload_n 0, 1) := dk_42 (dk_at dksX0_fair_3 4 rfl rfl)
theorem dX0_fair_76 : decode cX0_fair 76 = .ok (.getfield 105, 3) := dk_180 0 105 (dk_at dksX0_fair_3 5 rfl rfl)
theorem dX0_fair_79 : decode cX0_fair 79 = .ok (.if_icmp .le 7, 3) := dk_164 0 7 (dk_at dksX0_fair_3 8 rfl rfl)
theorem dX0_fair_82 : decode cX0_fair 82 = .ok (.iconst 3, 1) := dk_6 (dk_at dksX0_fair_3 11 rfl rfl)
theorem dX0_fair_83 : decode cX0_fair 83 = .ok (.goto 4, 3) := dk_167 0 4 (dk_at dksX0_fair_3 12 rfl rfl)
theorem dX0_fair_86 : decode cX0_fair 86 = .ok (.iconst 0, 1) := dk_3 (dk_at dksX0_fair_3 15 rfl rfl)
theorem dX0_fair_87 : decode cX0_fair 87 = .ok (.ireturn, 1) := dk_172 (dk_at dksX0_fair_3 16 rfl rfl)
abbrev cX0_count : ByteArray := prog_1_method_78_code
def yX0_count : MethodName := ⟨RX0, "count", "(I)I"⟩
def dkwX0_count_5 : List UInt8 := [180, 0, 105, 172, 42, 180, 1, 72, 172, 2, 172]
abbrev dktX0_count_5 : List UInt8 := dkwX0_count_5 ++ []
def dkwX0_count_4 : List UInt8 := [42, 180, 1, 107, 172, 42, 180, 0, 68, 182, 0, 137, 172, 42, 180, 0, 45, 182, 0, 137, 172, 42]
abbrev dktX0_count_4 : List UInt8 := dkwX0_count_4 ++ dktX0_count_5
def dkwX0_count_3 : List UInt8 := [42, 180, 0, 32, 180, 0, 159, 182, 0, 137, 172, 42, 180, 0, 49, 182, 0, 137, 172, 42, 180, 1, 101, 172]
abbrev dktX0_count_3 : List UInt8 := dkwX0_count_3 ++ dktX0_count_4
def dkwX0_count_2 : List UInt8 := [42, 180, 0, 25, 172, 42, 180, 0, 32, 180, 0, 134, 182, 0, 137, 172, 42, 180, 0, 32, 180, 0, 88, 172]
abbrev dktX0_count_2 : List UInt8 := dkwX0_count_2 ++ dktX0_count_3
def dkwX0_count_1 : List UInt8 := [170, 0, 0, 0, 0, 0, 138, 0, 0, 0, 0, 0, 0, 0, 10, 0, 0, 0, 59, 0, 0, 0, 64, 0, 0, 0, 75, 0, 0, 0, 83, 0, 0, 0, 94, 0, 0, 0, 102, 0, 0, 0, 107, 0, 0, 0, 112, 0, 0, 0, 120, 0, 0, 0, 128, 0, 0, 0, 133]
abbrev dktX0_count_1 : List UInt8 := dkwX0_count_1 ++ dktX0_count_2
def dkwX0_count_0 : List UInt8 := [27]
abbrev dktX0_count_0 : List UInt8 := dkwX0_count_0 ++ dktX0_count_1
theorem dksX0_count_0 : cX0_count.data.toList.drop 0 = dktX0_count_0 := by decide +kernel
theorem dksX0_count_1 : cX0_count.data.toList.drop 1 = dktX0_count_1 := dk_seg dksX0_count_0 1 rfl rfl
theorem dksX0_count_2 : cX0_count.data.toList.drop 60 = dktX0_count_2 := dk_seg dksX0_count_1 59 rfl rfl
theorem dksX0_count_3 : cX0_count.data.toList.drop 84 = dktX0_count_3 := dk_seg dksX0_count_2 24 rfl rfl
theorem dksX0_count_4 : cX0_count.data.toList.drop 108 = dktX0_count_4 := dk_seg dksX0_count_3 24 rfl rfl
theorem dksX0_count_5 : cX0_count.data.toList.drop 130 = dktX0_count_5 := dk_seg dksX0_count_4 22 rfl rfl
theorem dX0_count_0 : decode cX0_count 0 = .ok (.iload_n 1, 1) := dk_27 (dk_at dksX0_count_0 0 rfl rfl)
theorem dX0_count_1 : decode cX0_count 1 = .ok (.tableswitch 138 0 10 #[59, 64, 75, 83, 94, 102, 107, 112, 120, 128, 133], 59) := by decide +kernel
theorem dX0_count_60 : decode cX0_count 60 = .ok (.aload_n 0, 1) := dk_42 (dk_at dksX0_count_2 0 rfl rfl)
theorem dX0_count_61 : decode cX0_count 61 = .ok (.getfield 25, 3) := dk_180 0 25 (dk_at dksX0_count_2 1 rfl rfl)
theorem dX0_count_64 : decode cX0_count 64 = .ok (.ireturn, 1) := dk_172 (dk_at dksX0_count_2 4 rfl rfl)
theorem dX0_count_65 : decode cX0_count 65 = .ok (.aload_n 0, 1) := dk_42 (dk_at dksX0_count_2 5 rfl rfl)
theorem dX0_count_66 : decode cX0_count 66 = .ok (.getfield 32, 3) := dk_180 0 32 (dk_at dksX0_count_2 6 rfl rfl)
theorem dX0_count_69 : decode cX0_count 69 = .ok (.getfield 134, 3) := dk_180 0 134 (dk_at dksX0_count_2 9 rfl rfl)
theorem dX0_count_72 : decode cX0_count 72 = .ok (.invokevirtual 137, 3) := dk_182 0 137 (dk_at dksX0_count_2 12 rfl rfl)
theorem dX0_count_75 : decode cX0_count 75 = .ok (.ireturn, 1) := dk_172 (dk_at dksX0_count_2 15 rfl rfl)
theorem dX0_count_76 : decode cX0_count 76 = .ok (.aload_n 0, 1) := dk_42 (dk_at dksX0_count_2 16 rfl rfl)
theorem dX0_count_77 : decode cX0_count 77 = .ok (.getfield 32, 3) := dk_180 0 32 (dk_at dksX0_count_2 17 rfl rfl)
theorem dX0_count_80 : decode cX0_count 80 = .ok (.getfield 88, 3) := dk_180 0 88 (dk_at dksX0_count_2 20 rfl rfl)
theorem dX0_count_83 : decode cX0_count 83 = .ok (.ireturn, 1) := dk_172 (dk_at dksX0_count_2 23 rfl rfl)
theorem dX0_count_84 : decode cX0_count 84 = .ok (.aload_n 0, 1) := dk_42 (dk_at dksX0_count_3 0 rfl rfl)
theorem dX0_count_85 : decode cX0_count 85 = .ok (.getfield 32, 3) := dk_180 0 32 (dk_at dksX0_count_3 1 rfl rfl)
theorem dX0_count_88 : decode cX0_count 88 = .ok (.getfield 159, 3) := dk_180 0 159 (dk_at dksX0_count_3 4 rfl rfl)
theorem dX0_count_91 : decode cX0_count 91 = .ok (.invokevirtual 137, 3) := dk_182 0 137 (dk_at dksX0_count_3 7 rfl rfl)
theorem dX0_count_94 : decode cX0_count 94 = .ok (.ireturn, 1) := dk_172 (dk_at dksX0_count_3 10 rfl rfl)
theorem dX0_count_95 : decode cX0_count 95 = .ok (.aload_n 0, 1) := dk_42 (dk_at dksX0_count_3 11 rfl rfl)
theorem dX0_count_96 : decode cX0_count 96 = .ok (.getfield 49, 3) := dk_180 0 49 (dk_at dksX0_count_3 12 rfl rfl)
theorem dX0_count_99 : decode cX0_count 99 = .ok (.invokevirtual 137, 3) := dk_182 0 137 (dk_at dksX0_count_3 15 rfl rfl)
theorem dX0_count_102 : decode cX0_count 102 = .ok (.ireturn, 1) := dk_172 (dk_at dksX0_count_3 18 rfl rfl)
theorem dX0_count_103 : decode cX0_count 103 = .ok (.aload_n 0, 1) := dk_42 (dk_at dksX0_count_3 19 rfl rfl)
theorem dX0_count_104 : decode cX0_count 104 = .ok (.getfield 357, 3) := dk_180 1 101 (dk_at dksX0_count_3 20 rfl rfl)
theorem dX0_count_107 : decode cX0_count 107 = .ok (.ireturn, 1) := dk_172 (dk_at dksX0_count_3 23 rfl rfl)
theorem dX0_count_108 : decode cX0_count 108 = .ok (.aload_n 0, 1) := dk_42 (dk_at dksX0_count_4 0 rfl rfl)
theorem dX0_count_109 : decode cX0_count 109 = .ok (.getfield 363, 3) := dk_180 1 107 (dk_at dksX0_count_4 1 rfl rfl)
theorem dX0_count_112 : decode cX0_count 112 = .ok (.ireturn, 1) := dk_172 (dk_at dksX0_count_4 4 rfl rfl)
theorem dX0_count_113 : decode cX0_count 113 = .ok (.aload_n 0, 1) := dk_42 (dk_at dksX0_count_4 5 rfl rfl)
theorem dX0_count_114 : decode cX0_count 114 = .ok (.getfield 68, 3) := dk_180 0 68 (dk_at dksX0_count_4 6 rfl rfl)
theorem dX0_count_117 : decode cX0_count 117 = .ok (.invokevirtual 137, 3) := dk_182 0 137 (dk_at dksX0_count_4 9 rfl rfl)
theorem dX0_count_120 : decode cX0_count 120 = .ok (.ireturn, 1) := dk_172 (dk_at dksX0_count_4 12 rfl rfl)
theorem dX0_count_121 : decode cX0_count 121 = .ok (.aload_n 0, 1) := dk_42 (dk_at dksX0_count_4 13 rfl rfl)
theorem dX0_count_122 : decode cX0_count 122 = .ok (.getfield 45, 3) := dk_180 0 45 (dk_at dksX0_count_4 14 rfl rfl)
theorem dX0_count_125 : decode cX0_count 125 = .ok (.invokevirtual 137, 3) := dk_182 0 137 (dk_at dksX0_count_4 17 rfl rfl)
theorem dX0_count_128 : decode cX0_count 128 = .ok (.ireturn, 1) := dk_172 (dk_at dksX0_count_4 20 rfl rfl)
theorem dX0_count_129 : decode cX0_count 129 = .ok (.aload_n 0, 1) := dk_42 (dk_at dksX0_count_4 21 rfl rfl)
theorem dX0_count_130 : decode cX0_count 130 = .ok (.getfield 105, 3) := dk_180 0 105 (dk_at dksX0_count_5 0 rfl rfl)
theorem dX0_count_133 : decode cX0_count 133 = .ok (.ireturn, 1) := dk_172 (dk_at dksX0_count_5 3 rfl rfl)
theorem dX0_count_134 : decode cX0_count 134 = .ok (.aload_n 0, 1) := dk_42 (dk_at dksX0_count_5 4 rfl rfl)
theorem dX0_count_135 : decode cX0_count 135 = .ok (.getfield 328, 3) := dk_180 1 72 (dk_at dksX0_count_5 5 rfl rfl)
theorem dX0_count_138 : decode cX0_count 138 = .ok (.ireturn, 1) := dk_172 (dk_at dksX0_count_5 8 rfl rfl)
theorem dX0_count_139 : decode cX0_count 139 = .ok (.iconst (-1), 1) := dk_2 (dk_at dksX0_count_5 9 rfl rfl)
theorem dX0_count_140 : decode cX0_count 140 = .ok (.ireturn, 1) := dk_172 (dk_at dksX0_count_5 10 rfl rfl)
