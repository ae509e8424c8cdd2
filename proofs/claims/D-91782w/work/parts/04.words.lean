set_option maxRecDepth 100000
theorem q121 : (Jvm.Cond.initialized "java/util/AbstractCollection") ∈ lw_all := lw_g (lw_at lw_m1 3 rfl) rfl
theorem q190 : (Jvm.Cond.instanceMethod ({ cls := "java/util/AbstractCollection", name := "<init>", desc := "()V" } : Jvm.MethodName)) ∈ lw_all := lw_g (lw_at lw_m1 72 rfl) rfl
theorem q191 : (Jvm.Cond.code ({ cls := "java/util/AbstractCollection", name := "<init>", desc := "()V" } : Jvm.MethodName) prog_40_method_1_code (1 : Nat) (Option.none : Option Jvm.ClassFile.FieldType)) ∈ lw_all := lw_g (lw_at lw_m1 73 rfl) rfl
theorem q192 : (Jvm.Cond.methodLink "java/util/AbstractCollection" (1 : Nat) ({ cls := "java/lang/Object", name := "<init>", desc := "()V" } : Jvm.MethodName)) ∈ lw_all := lw_g (lw_at lw_m1 74 rfl) rfl
theorem q122 : (Jvm.Cond.initialized "java/util/AbstractList") ∈ lw_all := lw_g (lw_at lw_m1 4 rfl) rfl
theorem q187 : (Jvm.Cond.instanceMethod ({ cls := "java/util/AbstractList", name := "<init>", desc := "()V" } : Jvm.MethodName)) ∈ lw_all := lw_g (lw_at lw_m1 69 rfl) rfl
theorem q188 : (Jvm.Cond.code ({ cls := "java/util/AbstractList", name := "<init>", desc := "()V" } : Jvm.MethodName) prog_41_method_1_code (1 : Nat) (Option.none : Option Jvm.ClassFile.FieldType)) ∈ lw_all := lw_g (lw_at lw_m1 70 rfl) rfl
theorem q189 : (Jvm.Cond.methodLink "java/util/AbstractList" (1 : Nat) ({ cls := "java/util/AbstractCollection", name := "<init>", desc := "()V" } : Jvm.MethodName)) ∈ lw_all := lw_g (lw_at lw_m1 71 rfl) rfl
theorem q199 : (Jvm.Cond.fieldLink "java/util/AbstractList" (7 : Nat) "java/util/AbstractList" "modCount" "I") ∈ lw_all := lw_g (lw_at lw_m1 81 rfl) rfl
theorem q207 : (Jvm.Cond.soleField "java/util/AbstractList" "modCount") ∈ lw_all := lw_g (lw_at lw_m1 89 rfl) rfl
theorem q138 : (Jvm.Cond.initialized "java/lang/StringUTF16") ∈ lw_all := lw_g (lw_at lw_m1 20 rfl) rfl
theorem q1042 : (Jvm.Cond.static ({ cls := "java/lang/StringUTF16", name := "charAt", desc := "([BI)C" } : Jvm.MethodName)) ∈ lw_all := lw_g (lw_at lw_m4 204 rfl) rfl
theorem q1043 : (Jvm.Cond.code ({ cls := "java/lang/StringUTF16", name := "charAt", desc := "([BI)C" } : Jvm.MethodName) prog_36_method_83_code (2 : Nat) (Option.some Jvm.ClassFile.FieldType.char)) ∈ lw_all := lw_g (lw_at lw_m4 205 rfl) rfl
theorem q1044 : (Jvm.Cond.methodLink "java/lang/StringUTF16" (67 : Nat) ({ cls := "java/lang/StringUTF16", name := "checkIndex", desc := "(I[B)V" } : Jvm.MethodName)) ∈ lw_all := lw_g (lw_at lw_m4 206 rfl) rfl
theorem q1045 : (Jvm.Cond.static ({ cls := "java/lang/StringUTF16", name := "checkIndex", desc := "(I[B)V" } : Jvm.MethodName)) ∈ lw_all := lw_g (lw_at lw_m4 207 rfl) rfl
theorem q1046 : (Jvm.Cond.code ({ cls := "java/lang/StringUTF16", name := "checkIndex", desc := "(I[B)V" } : Jvm.MethodName) prog_36_method_91_code (2 : Nat) (Option.none : Option Jvm.ClassFile.FieldType)) ∈ lw_all := lw_g (lw_at lw_m4 208 rfl) rfl
theorem q1047 : (Jvm.Cond.methodLink "java/lang/StringUTF16" (48 : Nat) ({ cls := "java/lang/StringUTF16", name := "length", desc := "([B)I" } : Jvm.MethodName)) ∈ lw_all := lw_g (lw_at lw_m4 209 rfl) rfl
theorem q1048 : (Jvm.Cond.static ({ cls := "java/lang/StringUTF16", name := "length", desc := "([B)I" } : Jvm.MethodName)) ∈ lw_all := lw_g (lw_at lw_m4 210 rfl) rfl
theorem q1049 : (Jvm.Cond.code ({ cls := "java/lang/StringUTF16", name := "length", desc := "([B)I" } : Jvm.MethodName) prog_36_method_6_code (1 : Nat) (Option.some Jvm.ClassFile.FieldType.int)) ∈ lw_all := lw_g (lw_at lw_m4 211 rfl) rfl
theorem q1050 : (Jvm.Cond.methodLink "java/lang/StringUTF16" (414 : Nat) ({ cls := "java/lang/String", name := "checkIndex", desc := "(II)V" } : Jvm.MethodName)) ∈ lw_all := lw_g (lw_at lw_m4 212 rfl) rfl
theorem q1051 : (Jvm.Cond.methodLink "java/lang/StringUTF16" (71 : Nat) ({ cls := "java/lang/StringUTF16", name := "getChar", desc := "([BI)C" } : Jvm.MethodName)) ∈ lw_all := lw_g (lw_at lw_m4 213 rfl) rfl
theorem q1052 : (Jvm.Cond.static ({ cls := "java/lang/StringUTF16", name := "getChar", desc := "([BI)C" } : Jvm.MethodName)) ∈ lw_all := lw_g (lw_at lw_m4 214 rfl) rfl
theorem q1053 : (Jvm.Cond.code ({ cls := "java/lang/StringUTF16", name := "getChar", desc := "([BI)C" } : Jvm.MethodName) prog_36_method_5_code (2 : Nat) (Option.some Jvm.ClassFile.FieldType.char)) ∈ lw_all := lw_g (lw_at lw_m4 215 rfl) rfl
theorem q1054 : (Jvm.Cond.fieldLink "java/lang/StringUTF16" (44 : Nat) "java/lang/StringUTF16" "$assertionsDisabled" "Z") ∈ lw_all := lw_g (lw_at lw_m4 216 rfl) rfl
theorem q1055 : (Jvm.Cond.laysStatic "java/lang/StringUTF16" "$assertionsDisabled" "Z") ∈ lw_tbl := lw_at lw_m4 217 rfl
theorem q1056 : (Jvm.Cond.fieldLink "java/lang/StringUTF16" (59 : Nat) "java/lang/StringUTF16" "HI_BYTE_SHIFT" "I") ∈ lw_all := lw_g (lw_at lw_m4 218 rfl) rfl
theorem q1057 : (Jvm.Cond.laysStatic "java/lang/StringUTF16" "HI_BYTE_SHIFT" "I") ∈ lw_tbl := lw_at lw_m4 219 rfl
theorem q1058 : (Jvm.Cond.fieldLink "java/lang/StringUTF16" (63 : Nat) "java/lang/StringUTF16" "LO_BYTE_SHIFT" "I") ∈ lw_all := lw_g (lw_at lw_m4 220 rfl) rfl
theorem q1059 : (Jvm.Cond.laysStatic "java/lang/StringUTF16" "LO_BYTE_SHIFT" "I") ∈ lw_tbl := lw_at lw_m4 221 rfl
theorem q152 : (Jvm.Cond.initialized "java/lang/Integer") ∈ lw_all := lw_g (lw_at lw_m1 34 rfl) rfl
theorem q1388 : (Jvm.Cond.static ({ cls := "java/lang/Integer", name := "bitCount", desc := "(I)I" } : Jvm.MethodName)) ∈ lw_all := lw_g (lw_at lw_m6 70 rfl) rfl
theorem q1389 : (Jvm.Cond.code ({ cls := "java/lang/Integer", name := "bitCount", desc := "(I)I" } : Jvm.MethodName) prog_31_method_49_code (1 : Nat) (Option.some Jvm.ClassFile.FieldType.int)) ∈ lw_all := lw_g (lw_at lw_m6 71 rfl) rfl
theorem q1390 : (Jvm.Cond.constant "java/lang/Integer" (265 : Nat) (1431655765 : Int32)) ∈ lw_all := lw_g (lw_at lw_m6 72 rfl) rfl
theorem q1391 : (Jvm.Cond.constant "java/lang/Integer" (266 : Nat) (858993459 : Int32)) ∈ lw_all := lw_g (lw_at lw_m6 73 rfl) rfl
theorem q1392 : (Jvm.Cond.constant "java/lang/Integer" (267 : Nat) (252645135 : Int32)) ∈ lw_all := lw_g (lw_at lw_m6 74 rfl) rfl
theorem q171 : (Jvm.Cond.instanceMethod ({ cls := "java/lang/Object", name := "<init>", desc := "()V" } : Jvm.MethodName)) ∈ lw_all := lw_g (lw_at lw_m1 53 rfl) rfl
theorem q172 : (Jvm.Cond.code ({ cls := "java/lang/Object", name := "<init>", desc := "()V" } : Jvm.MethodName) object_method_1_code (1 : Nat) (Option.none : Option Jvm.ClassFile.FieldType)) ∈ lw_all := lw_g (lw_at lw_m1 54 rfl) rfl
theorem q539 : (Jvm.Cond.instanceMethod ({ cls := "java/lang/Object", name := "getClass", desc := "()Ljava/lang/Class;" } : Jvm.MethodName)) ∈ lw_all := lw_g (lw_at lw_m2 181 rfl) rfl
theorem q540 : (Jvm.Cond.sameMethod "java/lang/Object" "java/lang/Object" "getClass" "()Ljava/lang/Class;") ∈ lw_all := lw_g (lw_at lw_m2 182 rfl) rfl
theorem q564 : (Jvm.Cond.native ({ cls := "java/lang/Object", name := "getClass", desc := "()Ljava/lang/Class;" } : Jvm.MethodName)) ∈ lw_all := lw_g (lw_at lw_m2 206 rfl) rfl
theorem q2227 : (Jvm.Cond.initialized "java/lang/Object") ∈ lw_all := lw_g (lw_at lw_m9 189 rfl) rfl
theorem q2267 : (Jvm.Cond.declares ({ cls := "java/lang/Object", name := "getClass", desc := "()Ljava/lang/Class;" } : Jvm.MethodName)) ∈ lw_tbl := lw_at lw_m9 229 rfl
theorem q123 : (Jvm.Cond.initialized "java/util/ArrayList") ∈ lw_all := lw_g (lw_at lw_m1 5 rfl) rfl
theorem q182 : (Jvm.Cond.instantiable "java/util/ArrayList" (3 : Nat)) ∈ lw_all := lw_g (lw_at lw_m1 64 rfl) rfl
theorem q184 : (Jvm.Cond.instanceMethod ({ cls := "java/util/ArrayList", name := "<init>", desc := "(I)V" } : Jvm.MethodName)) ∈ lw_all := lw_g (lw_at lw_m1 66 rfl) rfl
theorem q185 : (Jvm.Cond.code ({ cls := "java/util/ArrayList", name := "<init>", desc := "(I)V" } : Jvm.MethodName) prog_42_method_1_code (2 : Nat) (Option.none : Option Jvm.ClassFile.FieldType)) ∈ lw_all := lw_g (lw_at lw_m1 67 rfl) rfl
theorem q186 : (Jvm.Cond.methodLink "java/util/ArrayList" (1 : Nat) ({ cls := "java/util/AbstractList", name := "<init>", desc := "()V" } : Jvm.MethodName)) ∈ lw_all := lw_g (lw_at lw_m1 68 rfl) rfl
theorem q193 : (Jvm.Cond.classLink "java/util/ArrayList" (7 : Nat) "java/lang/Object") ∈ lw_all := lw_g (lw_at lw_m1 75 rfl) rfl
theorem q195 : (Jvm.Cond.fieldLink "java/util/ArrayList" (15 : Nat) "java/util/ArrayList" "EMPTY_ELEMENTDATA" "[Ljava/lang/Object;") ∈ lw_all := lw_g (lw_at lw_m1 77 rfl) rfl
theorem q196 : (Jvm.Cond.laysStatic "java/util/ArrayList" "EMPTY_ELEMENTDATA" "[Ljava/lang/Object;") ∈ lw_tbl := lw_at lw_m1 78 rfl
theorem q197 : (Jvm.Cond.fieldLink "java/util/ArrayList" (9 : Nat) "java/util/ArrayList" "elementData" "[Ljava/lang/Object;") ∈ lw_all := lw_g (lw_at lw_m1 79 rfl) rfl
theorem q198 : (Jvm.Cond.fieldLink "java/util/ArrayList" (48 : Nat) "java/util/ArrayList" "size" "I") ∈ lw_all := lw_g (lw_at lw_m1 80 rfl) rfl
theorem q200 : (Jvm.Cond.fieldLink "java/util/ArrayList" (63 : Nat) "java/util/ArrayList" "modCount" "I") ∈ lw_all := lw_g (lw_at lw_m1 82 rfl) rfl
theorem q201 : (Jvm.Cond.sameField "java/util/ArrayList" "java/util/AbstractList" "modCount" "I") ∈ lw_all := lw_g (lw_at lw_m1 83 rfl) rfl
theorem q202 : (Jvm.Cond.lays "java/util/ArrayList" "java/util/ArrayList" "elementData" "[Ljava/lang/Object;") ∈ lw_all := lw_g (lw_at lw_m1 84 rfl) rfl
theorem q203 : (Jvm.Cond.soleField "java/util/ArrayList" "elementData") ∈ lw_all := lw_g (lw_at lw_m1 85 rfl) rfl
theorem q204 : (Jvm.Cond.lays "java/util/ArrayList" "java/util/ArrayList" "size" "I") ∈ lw_all := lw_g (lw_at lw_m1 86 rfl) rfl
theorem q205 : (Jvm.Cond.soleField "java/util/ArrayList" "size") ∈ lw_all := lw_g (lw_at lw_m1 87 rfl) rfl
theorem q206 : (Jvm.Cond.lays "java/util/ArrayList" "java/util/AbstractList" "modCount" "I") ∈ lw_all := lw_g (lw_at lw_m1 88 rfl) rfl
theorem q208 : (Jvm.Cond.superclass "java/util/ArrayList" "java/util/AbstractList") ∈ lw_all := lw_g (lw_at lw_m1 90 rfl) rfl
theorem q443 : (Jvm.Cond.instanceMethod ({ cls := "java/util/ArrayList", name := "clear", desc := "()V" } : Jvm.MethodName)) ∈ lw_all := lw_g (lw_at lw_m2 85 rfl) rfl
theorem q444 : (Jvm.Cond.selects "java/util/ArrayList" ({ cls := "java/util/ArrayList", name := "clear", desc := "()V" } : Jvm.MethodName) ({ cls := "java/util/ArrayList", name := "clear", desc := "()V" } : Jvm.MethodName)) ∈ lw_all := lw_g (lw_at lw_m2 86 rfl) rfl
theorem q445 : (Jvm.Cond.code ({ cls := "java/util/ArrayList", name := "clear", desc := "()V" } : Jvm.MethodName) prog_42_method_40_code (4 : Nat) (Option.none : Option Jvm.ClassFile.FieldType)) ∈ lw_all := lw_g (lw_at lw_m2 87 rfl) rfl
theorem q482 : (Jvm.Cond.instanceMethod ({ cls := "java/util/ArrayList", name := "size", desc := "()I" } : Jvm.MethodName)) ∈ lw_all := lw_g (lw_at lw_m2 124 rfl) rfl
theorem q483 : (Jvm.Cond.selects "java/util/ArrayList" ({ cls := "java/util/ArrayList", name := "size", desc := "()I" } : Jvm.MethodName) ({ cls := "java/util/ArrayList", name := "size", desc := "()I" } : Jvm.MethodName)) ∈ lw_all := lw_g (lw_at lw_m2 125 rfl) rfl
theorem q484 : (Jvm.Cond.code ({ cls := "java/util/ArrayList", name := "size", desc := "()I" } : Jvm.MethodName) prog_42_method_8_code (1 : Nat) (Option.some Jvm.ClassFile.FieldType.int)) ∈ lw_all := lw_g (lw_at lw_m2 126 rfl) rfl
theorem q508 : (Jvm.Cond.instanceMethod ({ cls := "java/util/ArrayList", name := "add", desc := "(Ljava/lang/Object;)Z" } : Jvm.MethodName)) ∈ lw_all := lw_g (lw_at lw_m2 150 rfl) rfl
theorem q509 : (Jvm.Cond.selects "java/util/ArrayList" ({ cls := "java/util/ArrayList", name := "add", desc := "(Ljava/lang/Object;)Z" } : Jvm.MethodName) ({ cls := "java/util/ArrayList", name := "add", desc := "(Ljava/lang/Object;)Z" } : Jvm.MethodName)) ∈ lw_all := lw_g (lw_at lw_m2 151 rfl) rfl
theorem q510 : (Jvm.Cond.code ({ cls := "java/util/ArrayList", name := "add", desc := "(Ljava/lang/Object;)Z" } : Jvm.MethodName) prog_42_method_25_code (2 : Nat) (Option.some Jvm.ClassFile.FieldType.boolean)) ∈ lw_all := lw_g (lw_at lw_m2 152 rfl) rfl
theorem q511 : (Jvm.Cond.methodLink "java/util/ArrayList" (131 : Nat) ({ cls := "java/util/ArrayList", name := "add", desc := "(Ljava/lang/Object;[Ljava/lang/Object;I)V" } : Jvm.MethodName)) ∈ lw_all := lw_g (lw_at lw_m2 153 rfl) rfl
theorem q512 : (Jvm.Cond.privateMethod ({ cls := "java/util/ArrayList", name := "add", desc := "(Ljava/lang/Object;[Ljava/lang/Object;I)V" } : Jvm.MethodName)) ∈ lw_tbl := lw_at lw_m2 154 rfl
theorem q513 : (Jvm.Cond.instanceMethod ({ cls := "java/util/ArrayList", name := "add", desc := "(Ljava/lang/Object;[Ljava/lang/Object;I)V" } : Jvm.MethodName)) ∈ lw_all := lw_g (lw_at lw_m2 155 rfl) rfl
theorem q514 : (Jvm.Cond.code ({ cls := "java/util/ArrayList", name := "add", desc := "(Ljava/lang/Object;[Ljava/lang/Object;I)V" } : Jvm.MethodName) prog_42_method_24_code (4 : Nat) (Option.none : Option Jvm.ClassFile.FieldType)) ∈ lw_all := lw_g (lw_at lw_m2 156 rfl) rfl
theorem q515 : (Jvm.Cond.methodLink "java/util/ArrayList" (129 : Nat) ({ cls := "java/util/ArrayList", name := "grow", desc := "()[Ljava/lang/Object;" } : Jvm.MethodName)) ∈ lw_all := lw_g (lw_at lw_m2 157 rfl) rfl
theorem q516 : (Jvm.Cond.privateMethod ({ cls := "java/util/ArrayList", name := "grow", desc := "()[Ljava/lang/Object;" } : Jvm.MethodName)) ∈ lw_tbl := lw_at lw_m2 158 rfl
theorem q517 : (Jvm.Cond.instanceMethod ({ cls := "java/util/ArrayList", name := "grow", desc := "()[Ljava/lang/Object;" } : Jvm.MethodName)) ∈ lw_all := lw_g (lw_at lw_m2 159 rfl) rfl
theorem q518 : (Jvm.Cond.code ({ cls := "java/util/ArrayList", name := "grow", desc := "()[Ljava/lang/Object;" } : Jvm.MethodName) prog_42_method_7_code (1 : Nat) (Option.some (Jvm.ClassFile.FieldType.array (Jvm.ClassFile.FieldType.object "java/lang/Object")))) ∈ lw_all := lw_g (lw_at lw_m2 160 rfl) rfl
theorem q519 : (Jvm.Cond.methodLink "java/util/ArrayList" (69 : Nat) ({ cls := "java/util/ArrayList", name := "grow", desc := "(I)[Ljava/lang/Object;" } : Jvm.MethodName)) ∈ lw_all := lw_g (lw_at lw_m2 161 rfl) rfl
theorem q520 : (Jvm.Cond.privateMethod ({ cls := "java/util/ArrayList", name := "grow", desc := "(I)[Ljava/lang/Object;" } : Jvm.MethodName)) ∈ lw_tbl := lw_at lw_m2 162 rfl
theorem q521 : (Jvm.Cond.instanceMethod ({ cls := "java/util/ArrayList", name := "grow", desc := "(I)[Ljava/lang/Object;" } : Jvm.MethodName)) ∈ lw_all := lw_g (lw_at lw_m2 163 rfl) rfl
theorem q522 : (Jvm.Cond.code ({ cls := "java/util/ArrayList", name := "grow", desc := "(I)[Ljava/lang/Object;" } : Jvm.MethodName) prog_42_method_6_code (4 : Nat) (Option.some (Jvm.ClassFile.FieldType.array (Jvm.ClassFile.FieldType.object "java/lang/Object")))) ∈ lw_all := lw_g (lw_at lw_m2 164 rfl) rfl
theorem q523 : (Jvm.Cond.fieldLink "java/util/ArrayList" (39 : Nat) "java/util/ArrayList" "DEFAULTCAPACITY_EMPTY_ELEMENTDATA" "[Ljava/lang/Object;") ∈ lw_all := lw_g (lw_at lw_m2 165 rfl) rfl
theorem q524 : (Jvm.Cond.laysStatic "java/util/ArrayList" "DEFAULTCAPACITY_EMPTY_ELEMENTDATA" "[Ljava/lang/Object;") ∈ lw_tbl := lw_at lw_m2 166 rfl
theorem q525 : (Jvm.Cond.methodLink "java/util/ArrayList" (73 : Nat) ({ cls := "jdk/internal/util/ArraysSupport", name := "newLength", desc := "(III)I" } : Jvm.MethodName)) ∈ lw_all := lw_g (lw_at lw_m2 167 rfl) rfl
theorem q535 : (Jvm.Cond.methodLink "java/util/ArrayList" (66 : Nat) ({ cls := "java/util/Arrays", name := "copyOf", desc := "([Ljava/lang/Object;I)[Ljava/lang/Object;" } : Jvm.MethodName)) ∈ lw_all := lw_g (lw_at lw_m2 177 rfl) rfl
theorem q563 : (Jvm.Cond.selects "java/util/ArrayList" ({ cls := "java/lang/Object", name := "getClass", desc := "()Ljava/lang/Class;" } : Jvm.MethodName) ({ cls := "java/lang/Object", name := "getClass", desc := "()Ljava/lang/Class;" } : Jvm.MethodName)) ∈ lw_all := lw_g (lw_at lw_m2 205 rfl) rfl
theorem q576 : (Jvm.Cond.methodLink "java/util/ArrayList" (79 : Nat) ({ cls := "java/lang/Math", name := "max", desc := "(II)I" } : Jvm.MethodName)) ∈ lw_all := lw_g (lw_at lw_m2 218 rfl) rfl
theorem q607 : (Jvm.Cond.instanceMethod ({ cls := "java/util/ArrayList", name := "get", desc := "(I)Ljava/lang/Object;" } : Jvm.MethodName)) ∈ lw_all := lw_g (lw_at lw_m3 9 rfl) rfl
theorem q608 : (Jvm.Cond.selects "java/util/ArrayList" ({ cls := "java/util/ArrayList", name := "get", desc := "(I)Ljava/lang/Object;" } : Jvm.MethodName) ({ cls := "java/util/ArrayList", name := "get", desc := "(I)Ljava/lang/Object;" } : Jvm.MethodName)) ∈ lw_all := lw_g (lw_at lw_m3 10 rfl) rfl
theorem q609 : (Jvm.Cond.code ({ cls := "java/util/ArrayList", name := "get", desc := "(I)Ljava/lang/Object;" } : Jvm.MethodName) prog_42_method_20_code (2 : Nat) (Option.some (Jvm.ClassFile.FieldType.object "java/lang/Object"))) ∈ lw_all := lw_g (lw_at lw_m3 11 rfl) rfl
theorem q610 : (Jvm.Cond.methodLink "java/util/ArrayList" (118 : Nat) ({ cls := "java/util/Objects", name := "checkIndex", desc := "(II)I" } : Jvm.MethodName)) ∈ lw_all := lw_g (lw_at lw_m3 12 rfl) rfl
theorem q616 : (Jvm.Cond.methodLink "java/util/ArrayList" (123 : Nat) ({ cls := "java/util/ArrayList", name := "elementData", desc := "(I)Ljava/lang/Object;" } : Jvm.MethodName)) ∈ lw_all := lw_g (lw_at lw_m3 18 rfl) rfl
theorem q617 : (Jvm.Cond.instanceMethod ({ cls := "java/util/ArrayList", name := "elementData", desc := "(I)Ljava/lang/Object;" } : Jvm.MethodName)) ∈ lw_all := lw_g (lw_at lw_m3 19 rfl) rfl
theorem q618 : (Jvm.Cond.selects "java/util/ArrayList" ({ cls := "java/util/ArrayList", name := "elementData", desc := "(I)Ljava/lang/Object;" } : Jvm.MethodName) ({ cls := "java/util/ArrayList", name := "elementData", desc := "(I)Ljava/lang/Object;" } : Jvm.MethodName)) ∈ lw_all := lw_g (lw_at lw_m3 20 rfl) rfl
theorem q619 : (Jvm.Cond.code ({ cls := "java/util/ArrayList", name := "elementData", desc := "(I)Ljava/lang/Object;" } : Jvm.MethodName) prog_42_method_18_code (2 : Nat) (Option.some (Jvm.ClassFile.FieldType.object "java/lang/Object"))) ∈ lw_all := lw_g (lw_at lw_m3 21 rfl) rfl
theorem q2243 : (Jvm.Cond.castable "java/util/ArrayList" "java/lang/Object") ∈ lw_tbl := lw_at lw_m9 205 rfl
theorem q128 : (Jvm.Cond.initialized "jdk/internal/util/ArraysSupport") ∈ lw_all := lw_g (lw_at lw_m1 10 rfl) rfl
theorem q526 : (Jvm.Cond.static ({ cls := "jdk/internal/util/ArraysSupport", name := "newLength", desc := "(III)I" } : Jvm.MethodName)) ∈ lw_all := lw_g (lw_at lw_m2 168 rfl) rfl
theorem q527 : (Jvm.Cond.code ({ cls := "jdk/internal/util/ArraysSupport", name := "newLength", desc := "(III)I" } : Jvm.MethodName) prog_49_method_27_code (4 : Nat) (Option.some Jvm.ClassFile.FieldType.int)) ∈ lw_all := lw_g (lw_at lw_m2 169 rfl) rfl
theorem q528 : (Jvm.Cond.methodLink "jdk/internal/util/ArraysSupport" (194 : Nat) ({ cls := "java/lang/Math", name := "max", desc := "(II)I" } : Jvm.MethodName)) ∈ lw_all := lw_g (lw_at lw_m2 170 rfl) rfl
theorem q531 : (Jvm.Cond.constant "jdk/internal/util/ArraysSupport" (200 : Nat) (2147483639 : Int32)) ∈ lw_all := lw_g (lw_at lw_m2 173 rfl) rfl
theorem q532 : (Jvm.Cond.methodLink "jdk/internal/util/ArraysSupport" (201 : Nat) ({ cls := "jdk/internal/util/ArraysSupport", name := "hugeLength", desc := "(II)I" } : Jvm.MethodName)) ∈ lw_all := lw_g (lw_at lw_m2 174 rfl) rfl
theorem q533 : (Jvm.Cond.static ({ cls := "jdk/internal/util/ArraysSupport", name := "hugeLength", desc := "(II)I" } : Jvm.MethodName)) ∈ lw_all := lw_g (lw_at lw_m2 175 rfl) rfl
theorem q534 : (Jvm.Cond.code ({ cls := "jdk/internal/util/ArraysSupport", name := "hugeLength", desc := "(II)I" } : Jvm.MethodName) prog_49_method_28_code (3 : Nat) (Option.some Jvm.ClassFile.FieldType.int)) ∈ lw_all := lw_g (lw_at lw_m2 176 rfl) rfl
theorem q129 : (Jvm.Cond.initialized "java/lang/Math") ∈ lw_all := lw_g (lw_at lw_m1 11 rfl) rfl
theorem q529 : (Jvm.Cond.static ({ cls := "java/lang/Math", name := "max", desc := "(II)I" } : Jvm.MethodName)) ∈ lw_all := lw_g (lw_at lw_m2 171 rfl) rfl
theorem q530 : (Jvm.Cond.code ({ cls := "java/lang/Math", name := "max", desc := "(II)I" } : Jvm.MethodName) prog_33_method_65_code (2 : Nat) (Option.some Jvm.ClassFile.FieldType.int)) ∈ lw_all := lw_g (lw_at lw_m2 172 rfl) rfl
theorem q571 : (Jvm.Cond.static ({ cls := "java/lang/Math", name := "min", desc := "(II)I" } : Jvm.MethodName)) ∈ lw_all := lw_g (lw_at lw_m2 213 rfl) rfl
theorem q572 : (Jvm.Cond.code ({ cls := "java/lang/Math", name := "min", desc := "(II)I" } : Jvm.MethodName) prog_33_method_69_code (2 : Nat) (Option.some Jvm.ClassFile.FieldType.int)) ∈ lw_all := lw_g (lw_at lw_m2 214 rfl) rfl
theorem q130 : (Jvm.Cond.initialized "java/util/Arrays") ∈ lw_all := lw_g (lw_at lw_m1 12 rfl) rfl
theorem q536 : (Jvm.Cond.static ({ cls := "java/util/Arrays", name := "copyOf", desc := "([Ljava/lang/Object;I)[Ljava/lang/Object;" } : Jvm.MethodName)) ∈ lw_all := lw_g (lw_at lw_m2 178 rfl) rfl
theorem q537 : (Jvm.Cond.code ({ cls := "java/util/Arrays", name := "copyOf", desc := "([Ljava/lang/Object;I)[Ljava/lang/Object;" } : Jvm.MethodName) prog_43_method_119_code (2 : Nat) (Option.some (Jvm.ClassFile.FieldType.array (Jvm.ClassFile.FieldType.object "java/lang/Object")))) ∈ lw_all := lw_g (lw_at lw_m2 179 rfl) rfl
theorem q538 : (Jvm.Cond.methodLink "java/util/Arrays" (86 : Nat) ({ cls := "java/lang/Object", name := "getClass", desc := "()Ljava/lang/Class;" } : Jvm.MethodName)) ∈ lw_all := lw_g (lw_at lw_m2 180 rfl) rfl
theorem q565 : (Jvm.Cond.methodLink "java/util/Arrays" (300 : Nat) ({ cls := "java/util/Arrays", name := "copyOf", desc := "([Ljava/lang/Object;ILjava/lang/Class;)[Ljava/lang/Object;" } : Jvm.MethodName)) ∈ lw_all := lw_g (lw_at lw_m2 207 rfl) rfl
theorem q566 : (Jvm.Cond.static ({ cls := "java/util/Arrays", name := "copyOf", desc := "([Ljava/lang/Object;ILjava/lang/Class;)[Ljava/lang/Object;" } : Jvm.MethodName)) ∈ lw_all := lw_g (lw_at lw_m2 208 rfl) rfl
theorem q567 : (Jvm.Cond.code ({ cls := "java/util/Arrays", name := "copyOf", desc := "([Ljava/lang/Object;ILjava/lang/Class;)[Ljava/lang/Object;" } : Jvm.MethodName) prog_43_method_120_code (4 : Nat) (Option.some (Jvm.ClassFile.FieldType.array (Jvm.ClassFile.FieldType.object "java/lang/Object")))) ∈ lw_all := lw_g (lw_at lw_m2 209 rfl) rfl
theorem q568 : (Jvm.Cond.classLink "java/util/Arrays" (110 : Nat) "[Ljava/lang/Object;") ∈ lw_all := lw_g (lw_at lw_m2 210 rfl) rfl
theorem q569 : (Jvm.Cond.classLink "java/util/Arrays" (2 : Nat) "java/lang/Object") ∈ lw_all := lw_g (lw_at lw_m2 211 rfl) rfl
theorem q570 : (Jvm.Cond.methodLink "java/util/Arrays" (304 : Nat) ({ cls := "java/lang/Math", name := "min", desc := "(II)I" } : Jvm.MethodName)) ∈ lw_all := lw_g (lw_at lw_m2 212 rfl) rfl
theorem q573 : (Jvm.Cond.methodLink "java/util/Arrays" (150 : Nat) ({ cls := "java/lang/System", name := "arraycopy", desc := "(Ljava/lang/Object;ILjava/lang/Object;II)V" } : Jvm.MethodName)) ∈ lw_all := lw_g (lw_at lw_m2 215 rfl) rfl
theorem q132 : (Jvm.Cond.initialized "java/util/Objects") ∈ lw_all := lw_g (lw_at lw_m1 14 rfl) rfl
theorem q611 : (Jvm.Cond.static ({ cls := "java/util/Objects", name := "checkIndex", desc := "(II)I" } : Jvm.MethodName)) ∈ lw_all := lw_g (lw_at lw_m3 13 rfl) rfl
theorem q612 : (Jvm.Cond.code ({ cls := "java/util/Objects", name := "checkIndex", desc := "(II)I" } : Jvm.MethodName) prog_46_method_17_code (2 : Nat) (Option.some Jvm.ClassFile.FieldType.int)) ∈ lw_all := lw_g (lw_at lw_m3 14 rfl) rfl
theorem q613 : (Jvm.Cond.methodLink "java/util/Objects" (105 : Nat) ({ cls := "jdk/internal/util/Preconditions", name := "checkIndex", desc := "(IILjava/util/function/BiFunction;)I" } : Jvm.MethodName)) ∈ lw_all := lw_g (lw_at lw_m3 15 rfl) rfl
theorem q133 : (Jvm.Cond.initialized "jdk/internal/util/Preconditions") ∈ lw_all := lw_g (lw_at lw_m1 15 rfl) rfl
theorem q614 : (Jvm.Cond.static ({ cls := "jdk/internal/util/Preconditions", name := "checkIndex", desc := "(IILjava/util/function/BiFunction;)I" } : Jvm.MethodName)) ∈ lw_all := lw_g (lw_at lw_m3 16 rfl) rfl
theorem q615 : (Jvm.Cond.code ({ cls := "jdk/internal/util/Preconditions", name := "checkIndex", desc := "(IILjava/util/function/BiFunction;)I" } : Jvm.MethodName) prog_50_method_11_code (3 : Nat) (Option.some Jvm.ClassFile.FieldType.int)) ∈ lw_all := lw_g (lw_at lw_m3 17 rfl) rfl
theorem q1039 : (Jvm.Cond.laysStatic "jdk/internal/util/Preconditions" "SIOOBE_FORMATTER" "Ljava/util/function/BiFunction;") ∈ lw_tbl := lw_at lw_m4 201 rfl
theorem q136 : (Jvm.Cond.initialized "java/lang/String") ∈ lw_all := lw_g (lw_at lw_m1 18 rfl) rfl
theorem q1015 : (Jvm.Cond.instanceMethod ({ cls := "java/lang/String", name := "length", desc := "()I" } : Jvm.MethodName)) ∈ lw_all := lw_g (lw_at lw_m4 177 rfl) rfl
theorem q1016 : (Jvm.Cond.selects "java/lang/String" ({ cls := "java/lang/String", name := "length", desc := "()I" } : Jvm.MethodName) ({ cls := "java/lang/String", name := "length", desc := "()I" } : Jvm.MethodName)) ∈ lw_all := lw_g (lw_at lw_m4 178 rfl) rfl
theorem q1017 : (Jvm.Cond.code ({ cls := "java/lang/String", name := "length", desc := "()I" } : Jvm.MethodName) prog_34_method_54_code (1 : Nat) (Option.some Jvm.ClassFile.FieldType.int)) ∈ lw_all := lw_g (lw_at lw_m4 179 rfl) rfl
theorem q1018 : (Jvm.Cond.methodLink "java/lang/String" (335 : Nat) ({ cls := "java/lang/String", name := "coder", desc := "()B" } : Jvm.MethodName)) ∈ lw_all := lw_g (lw_at lw_m4 180 rfl) rfl
theorem q1019 : (Jvm.Cond.instanceMethod ({ cls := "java/lang/String", name := "coder", desc := "()B" } : Jvm.MethodName)) ∈ lw_all := lw_g (lw_at lw_m4 181 rfl) rfl
theorem q1020 : (Jvm.Cond.selects "java/lang/String" ({ cls := "java/lang/String", name := "coder", desc := "()B" } : Jvm.MethodName) ({ cls := "java/lang/String", name := "coder", desc := "()B" } : Jvm.MethodName)) ∈ lw_all := lw_g (lw_at lw_m4 182 rfl) rfl
theorem q1021 : (Jvm.Cond.code ({ cls := "java/lang/String", name := "coder", desc := "()B" } : Jvm.MethodName) prog_34_method_152_code (1 : Nat) (Option.some Jvm.ClassFile.FieldType.byte)) ∈ lw_all := lw_g (lw_at lw_m4 183 rfl) rfl
theorem q1022 : (Jvm.Cond.fieldLink "java/lang/String" (38 : Nat) "java/lang/String" "COMPACT_STRINGS" "Z") ∈ lw_all := lw_g (lw_at lw_m4 184 rfl) rfl
theorem q1023 : (Jvm.Cond.laysStatic "java/lang/String" "COMPACT_STRINGS" "Z") ∈ lw_tbl := lw_at lw_m4 185 rfl
theorem q1025 : (Jvm.Cond.instanceMethod ({ cls := "java/lang/String", name := "charAt", desc := "(I)C" } : Jvm.MethodName)) ∈ lw_all := lw_g (lw_at lw_m4 187 rfl) rfl
theorem q1026 : (Jvm.Cond.selects "java/lang/String" ({ cls := "java/lang/String", name := "charAt", desc := "(I)C" } : Jvm.MethodName) ({ cls := "java/lang/String", name := "charAt", desc := "(I)C" } : Jvm.MethodName)) ∈ lw_all := lw_g (lw_at lw_m4 188 rfl) rfl
theorem q1027 : (Jvm.Cond.code ({ cls := "java/lang/String", name := "charAt", desc := "(I)C" } : Jvm.MethodName) prog_34_method_56_code (2 : Nat) (Option.some Jvm.ClassFile.FieldType.char)) ∈ lw_all := lw_g (lw_at lw_m4 189 rfl) rfl
theorem q1028 : (Jvm.Cond.methodLink "java/lang/String" (492 : Nat) ({ cls := "java/lang/String", name := "isLatin1", desc := "()Z" } : Jvm.MethodName)) ∈ lw_all := lw_g (lw_at lw_m4 190 rfl) rfl
theorem q1029 : (Jvm.Cond.instanceMethod ({ cls := "java/lang/String", name := "isLatin1", desc := "()Z" } : Jvm.MethodName)) ∈ lw_all := lw_g (lw_at lw_m4 191 rfl) rfl
theorem q1030 : (Jvm.Cond.selects "java/lang/String" ({ cls := "java/lang/String", name := "isLatin1", desc := "()Z" } : Jvm.MethodName) ({ cls := "java/lang/String", name := "isLatin1", desc := "()Z" } : Jvm.MethodName)) ∈ lw_all := lw_g (lw_at lw_m4 192 rfl) rfl
theorem q1031 : (Jvm.Cond.code ({ cls := "java/lang/String", name := "isLatin1", desc := "()Z" } : Jvm.MethodName) prog_34_method_154_code (1 : Nat) (Option.some Jvm.ClassFile.FieldType.boolean)) ∈ lw_all := lw_g (lw_at lw_m4 193 rfl) rfl
theorem q1032 : (Jvm.Cond.methodLink "java/lang/String" (495 : Nat) ({ cls := "java/lang/StringLatin1", name := "charAt", desc := "([BI)C" } : Jvm.MethodName)) ∈ lw_all := lw_g (lw_at lw_m4 194 rfl) rfl
theorem q1036 : (Jvm.Cond.static ({ cls := "java/lang/String", name := "checkIndex", desc := "(II)V" } : Jvm.MethodName)) ∈ lw_all := lw_g (lw_at lw_m4 198 rfl) rfl
theorem q1037 : (Jvm.Cond.code ({ cls := "java/lang/String", name := "checkIndex", desc := "(II)V" } : Jvm.MethodName) prog_34_method_155_code (2 : Nat) (Option.none : Option Jvm.ClassFile.FieldType)) ∈ lw_all := lw_g (lw_at lw_m4 199 rfl) rfl
theorem q1038 : (Jvm.Cond.fieldLink "java/lang/String" (1053 : Nat) "jdk/internal/util/Preconditions" "SIOOBE_FORMATTER" "Ljava/util/function/BiFunction;") ∈ lw_all := lw_g (lw_at lw_m4 200 rfl) rfl
theorem q1040 : (Jvm.Cond.methodLink "java/lang/String" (1059 : Nat) ({ cls := "jdk/internal/util/Preconditions", name := "checkIndex", desc := "(IILjava/util/function/BiFunction;)I" } : Jvm.MethodName)) ∈ lw_all := lw_g (lw_at lw_m4 202 rfl) rfl
theorem q1041 : (Jvm.Cond.methodLink "java/lang/String" (498 : Nat) ({ cls := "java/lang/StringUTF16", name := "charAt", desc := "([BI)C" } : Jvm.MethodName)) ∈ lw_all := lw_g (lw_at lw_m4 203 rfl) rfl
theorem q2264 : (Jvm.Cond.castable "java/lang/String" "java/lang/Object") ∈ lw_tbl := lw_at lw_m9 226 rfl
theorem q2277 : (Jvm.Cond.fieldLink "java/lang/String" (9 : Nat) "java/lang/String" "value" "[B") ∈ lw_all := lw_g (lw_at lw_m9 239 rfl) rfl
theorem q2278 : (Jvm.Cond.fieldLink "java/lang/String" (15 : Nat) "java/lang/String" "coder" "B") ∈ lw_all := lw_g (lw_at lw_m10 0 rfl) rfl
theorem q137 : (Jvm.Cond.initialized "java/lang/StringLatin1") ∈ lw_all := lw_g (lw_at lw_m1 19 rfl) rfl
theorem q1033 : (Jvm.Cond.static ({ cls := "java/lang/StringLatin1", name := "charAt", desc := "([BI)C" } : Jvm.MethodName)) ∈ lw_all := lw_g (lw_at lw_m4 195 rfl) rfl
theorem q1034 : (Jvm.Cond.code ({ cls := "java/lang/StringLatin1", name := "charAt", desc := "([BI)C" } : Jvm.MethodName) prog_35_method_2_code (2 : Nat) (Option.some Jvm.ClassFile.FieldType.char)) ∈ lw_all := lw_g (lw_at lw_m4 196 rfl) rfl
theorem q1035 : (Jvm.Cond.methodLink "java/lang/StringLatin1" (9 : Nat) ({ cls := "java/lang/String", name := "checkIndex", desc := "(II)V" } : Jvm.MethodName)) ∈ lw_all := lw_g (lw_at lw_m4 197 rfl) rfl
theorem q119 : (Jvm.Cond.initialized "RapTable") ∈ lw_all := lw_g (lw_at lw_m1 1 rfl) rfl
theorem q158 : (Jvm.Cond.instanceMethod ({ cls := "RapTable", name := "status", desc := "(I)I" } : Jvm.MethodName)) ∈ lw_all := lw_g (lw_at lw_m1 40 rfl) rfl
theorem q159 : (Jvm.Cond.selects "RapTable" ({ cls := "RapTable", name := "status", desc := "(I)I" } : Jvm.MethodName) ({ cls := "RapTable", name := "status", desc := "(I)I" } : Jvm.MethodName)) ∈ lw_all := lw_g (lw_at lw_m1 41 rfl) rfl
theorem q160 : (Jvm.Cond.code ({ cls := "RapTable", name := "status", desc := "(I)I" } : Jvm.MethodName) prog_1_method_6_code (2 : Nat) (Option.some Jvm.ClassFile.FieldType.int)) ∈ lw_all := lw_g (lw_at lw_m1 42 rfl) rfl
theorem q161 : (Jvm.Cond.constantLong "RapTable" (17 : Nat) (5 : Int64)) ∈ lw_all := lw_g (lw_at lw_m1 43 rfl) rfl
theorem q162 : (Jvm.Cond.methodLink "RapTable" (5 : Nat) ({ cls := "RapTable", name := "in", desc := "(JJJ)Z" } : Jvm.MethodName)) ∈ lw_all := lw_g (lw_at lw_m1 44 rfl) rfl
theorem q163 : (Jvm.Cond.static ({ cls := "RapTable", name := "in", desc := "(JJJ)Z" } : Jvm.MethodName)) ∈ lw_all := lw_g (lw_at lw_m1 45 rfl) rfl
theorem q164 : (Jvm.Cond.code ({ cls := "RapTable", name := "in", desc := "(JJJ)Z" } : Jvm.MethodName) prog_1_method_1_code (6 : Nat) (Option.some Jvm.ClassFile.FieldType.boolean)) ∈ lw_all := lw_g (lw_at lw_m1 46 rfl) rfl
theorem q166 : (Jvm.Cond.instantiable "RapTable" (20 : Nat)) ∈ lw_all := lw_g (lw_at lw_m1 48 rfl) rfl
theorem q168 : (Jvm.Cond.instanceMethod ({ cls := "RapTable", name := "<init>", desc := "()V" } : Jvm.MethodName)) ∈ lw_all := lw_g (lw_at lw_m1 50 rfl) rfl
theorem q169 : (Jvm.Cond.code ({ cls := "RapTable", name := "<init>", desc := "()V" } : Jvm.MethodName) prog_1_method_7_code (1 : Nat) (Option.none : Option Jvm.ClassFile.FieldType)) ∈ lw_all := lw_g (lw_at lw_m1 51 rfl) rfl
theorem q170 : (Jvm.Cond.methodLink "RapTable" (19 : Nat) ({ cls := "java/lang/Object", name := "<init>", desc := "()V" } : Jvm.MethodName)) ∈ lw_all := lw_g (lw_at lw_m1 52 rfl) rfl
theorem q173 : (Jvm.Cond.classLink "RapTable" (29 : Nat) "RapTable$Sitting") ∈ lw_all := lw_g (lw_at lw_m1 55 rfl) rfl
theorem q175 : (Jvm.Cond.methodLink "RapTable" (31 : Nat) ({ cls := "RapTable$Sitting", name := "<init>", desc := "()V" } : Jvm.MethodName)) ∈ lw_all := lw_g (lw_at lw_m1 57 rfl) rfl
theorem q211 : (Jvm.Cond.fieldLinkNest "RapTable" (120 : Nat) "RapTable$Sitting" "light" "[I" "RapTable") ∈ lw_tbl := lw_at lw_m1 93 rfl
theorem q214 : (Jvm.Cond.fieldLinkNest "RapTable" (111 : Nat) "RapTable$Sitting" "need" "[I" "RapTable") ∈ lw_tbl := lw_at lw_m1 96 rfl
theorem q217 : (Jvm.Cond.fieldLinkNest "RapTable" (114 : Nat) "RapTable$Sitting" "firm" "[I" "RapTable") ∈ lw_tbl := lw_at lw_m1 99 rfl
theorem q219 : (Jvm.Cond.fieldLinkNest "RapTable" (126 : Nat) "RapTable$Sitting" "eyes" "[[I" "RapTable") ∈ lw_tbl := lw_at lw_m1 101 rfl
theorem q222 : (Jvm.Cond.fieldLinkNest "RapTable" (153 : Nat) "RapTable$Sitting" "seems" "[[I" "RapTable") ∈ lw_tbl := lw_at lw_m1 104 rfl
theorem q226 : (Jvm.Cond.fieldLinkNest "RapTable" (156 : Nat) "RapTable$Sitting" "truly" "[[I" "RapTable") ∈ lw_tbl := lw_at lw_m1 108 rfl
theorem q228 : (Jvm.Cond.fieldLinkNest "RapTable" (134 : Nat) "RapTable$Sitting" "leads" "Ljava/util/ArrayList;" "RapTable") ∈ lw_tbl := lw_at lw_m1 110 rfl
theorem q231 : (Jvm.Cond.fieldLinkNest "RapTable" (159 : Nat) "RapTable$Sitting" "moves" "Ljava/util/ArrayList;" "RapTable") ∈ lw_tbl := lw_at lw_m1 113 rfl
theorem q233 : (Jvm.Cond.fieldLinkNest "RapTable" (162 : Nat) "RapTable$Sitting" "spots" "[I" "RapTable") ∈ lw_tbl := lw_at lw_m1 115 rfl
theorem q235 : (Jvm.Cond.fieldLinkNest "RapTable" (88 : Nat) "RapTable$Sitting" "things" "I" "RapTable") ∈ lw_tbl := lw_at lw_m1 117 rfl
theorem q258 : (Jvm.Cond.classLink "RapTable" (40 : Nat) "java/util/ArrayList") ∈ lw_all := lw_g (lw_at lw_m1 140 rfl) rfl
theorem q259 : (Jvm.Cond.methodLink "RapTable" (42 : Nat) ({ cls := "java/util/ArrayList", name := "<init>", desc := "(I)V" } : Jvm.MethodName)) ∈ lw_all := lw_g (lw_at lw_m1 141 rfl) rfl
theorem q260 : (Jvm.Cond.classLink "RapTable" (52 : Nat) "RapTable$Run") ∈ lw_all := lw_g (lw_at lw_m1 142 rfl) rfl
theorem q262 : (Jvm.Cond.methodLinkNest "RapTable" (54 : Nat) ({ cls := "RapTable$Run", name := "<init>", desc := "(LRapTable;)V" } : Jvm.MethodName) "RapTable") ∈ lw_tbl := lw_at lw_m1 144 rfl
theorem q268 : (Jvm.Cond.fieldLinkNest "RapTable" (289 : Nat) "RapTable$Run" "person" "I" "RapTable") ∈ lw_tbl := lw_at lw_m1 150 rfl
theorem q270 : (Jvm.Cond.fieldLinkNest "RapTable" (307 : Nat) "RapTable$Run" "friends" "I" "RapTable") ∈ lw_tbl := lw_at lw_m1 152 rfl
theorem q271 : (Jvm.Cond.fieldLinkNest "RapTable" (267 : Nat) "RapTable$Run" "thing" "I" "RapTable") ∈ lw_tbl := lw_at lw_m1 153 rfl
theorem q273 : (Jvm.Cond.fieldLinkNest "RapTable" (270 : Nat) "RapTable$Run" "from" "I" "RapTable") ∈ lw_tbl := lw_at lw_m1 155 rfl
theorem q275 : (Jvm.Cond.fieldLinkNest "RapTable" (271 : Nat) "RapTable$Run" "to" "I" "RapTable") ∈ lw_tbl := lw_at lw_m1 157 rfl
theorem q277 : (Jvm.Cond.fieldLinkNest "RapTable" (272 : Nat) "RapTable$Run" "first" "I" "RapTable") ∈ lw_tbl := lw_at lw_m1 159 rfl
theorem q279 : (Jvm.Cond.fieldLinkNest "RapTable" (286 : Nat) "RapTable$Run" "last" "I" "RapTable") ∈ lw_tbl := lw_at lw_m1 161 rfl
theorem q282 : (Jvm.Cond.fieldLinkNest "RapTable" (275 : Nat) "RapTable$Run" "swapped" "I" "RapTable") ∈ lw_tbl := lw_at lw_m1 164 rfl
theorem q285 : (Jvm.Cond.fieldLinkNest "RapTable" (278 : Nat) "RapTable$Run" "pull" "I" "RapTable") ∈ lw_tbl := lw_at lw_m1 167 rfl
theorem q308 : (Jvm.Cond.classLink "RapTable" (71 : Nat) "RapTable$Pass") ∈ lw_all := lw_g (lw_at lw_m1 190 rfl) rfl
theorem q310 : (Jvm.Cond.methodLinkNest "RapTable" (73 : Nat) ({ cls := "RapTable$Pass", name := "<init>", desc := "(LRapTable;)V" } : Jvm.MethodName) "RapTable") ∈ lw_tbl := lw_at lw_m1 192 rfl
theorem q330 : (Jvm.Cond.fieldLinkNest "RapTable" (433 : Nat) "RapTable$Pass" "row" "[I" "RapTable") ∈ lw_tbl := lw_at lw_m1 212 rfl
theorem q361 : (Jvm.Cond.fieldLink "RapTable" (13 : Nat) "RapTable" "refusals" "[I") ∈ lw_all := lw_g (lw_at lw_m2 3 rfl) rfl
theorem q365 : (Jvm.Cond.fieldLink "RapTable" (25 : Nat) "RapTable" "seats" "I") ∈ lw_all := lw_g (lw_at lw_m2 7 rfl) rfl
theorem q369 : (Jvm.Cond.fieldLink "RapTable" (32 : Nat) "RapTable" "sitting" "LRapTable$Sitting;") ∈ lw_all := lw_g (lw_at lw_m2 11 rfl) rfl
theorem q370 : (Jvm.Cond.fieldLink "RapTable" (36 : Nat) "RapTable" "images" "[LRapTable$Sitting;") ∈ lw_all := lw_g (lw_at lw_m2 12 rfl) rfl
theorem q371 : (Jvm.Cond.fieldLink "RapTable" (45 : Nat) "RapTable" "controls" "Ljava/util/ArrayList;") ∈ lw_all := lw_g (lw_at lw_m2 13 rfl) rfl
theorem q372 : (Jvm.Cond.fieldLink "RapTable" (196 : Nat) "RapTable" "force" "I") ∈ lw_all := lw_g (lw_at lw_m2 14 rfl) rfl
theorem q373 : (Jvm.Cond.fieldLink "RapTable" (49 : Nat) "RapTable" "ways" "Ljava/util/ArrayList;") ∈ lw_all := lw_g (lw_at lw_m2 15 rfl) rfl
theorem q375 : (Jvm.Cond.fieldLink "RapTable" (357 : Nat) "RapTable" "loss" "I") ∈ lw_all := lw_g (lw_at lw_m2 17 rfl) rfl
theorem q377 : (Jvm.Cond.fieldLink "RapTable" (363 : Nat) "RapTable" "smooth" "I") ∈ lw_all := lw_g (lw_at lw_m2 19 rfl) rfl
theorem q378 : (Jvm.Cond.fieldLink "RapTable" (57 : Nat) "RapTable" "run" "LRapTable$Run;") ∈ lw_all := lw_g (lw_at lw_m2 20 rfl) rfl
theorem q380 : (Jvm.Cond.fieldLink "RapTable" (61 : Nat) "RapTable" "tape" "[B") ∈ lw_all := lw_g (lw_at lw_m2 22 rfl) rfl
theorem q381 : (Jvm.Cond.fieldLink "RapTable" (328 : Nat) "RapTable" "taped" "I") ∈ lw_all := lw_g (lw_at lw_m2 23 rfl) rfl
theorem q382 : (Jvm.Cond.fieldLink "RapTable" (345 : Nat) "RapTable" "faultKind" "I") ∈ lw_all := lw_g (lw_at lw_m2 24 rfl) rfl
theorem q383 : (Jvm.Cond.fieldLink "RapTable" (65 : Nat) "RapTable" "faultPlace" "I") ∈ lw_all := lw_g (lw_at lw_m2 25 rfl) rfl
theorem q384 : (Jvm.Cond.fieldLink "RapTable" (68 : Nat) "RapTable" "reports" "Ljava/util/ArrayList;") ∈ lw_all := lw_g (lw_at lw_m2 26 rfl) rfl
theorem q385 : (Jvm.Cond.fieldLink "RapTable" (74 : Nat) "RapTable" "passing" "LRapTable$Pass;") ∈ lw_all := lw_g (lw_at lw_m2 27 rfl) rfl
theorem q386 : (Jvm.Cond.fieldLink "RapTable" (78 : Nat) "RapTable" "answers" "[I") ∈ lw_all := lw_g (lw_at lw_m2 28 rfl) rfl
theorem q387 : (Jvm.Cond.fieldLink "RapTable" (81 : Nat) "RapTable" "hits" "[I") ∈ lw_all := lw_g (lw_at lw_m2 29 rfl) rfl
theorem q388 : (Jvm.Cond.fieldLink "RapTable" (105 : Nat) "RapTable" "trials" "I") ∈ lw_all := lw_g (lw_at lw_m2 30 rfl) rfl
theorem q389 : (Jvm.Cond.fieldLink "RapTable" (84 : Nat) "RapTable" "exact" "[J") ∈ lw_all := lw_g (lw_at lw_m2 31 rfl) rfl
theorem q390 : (Jvm.Cond.laysFinal "RapTable" "RapTable" "refusals" "[I") ∈ lw_all := lw_g (lw_at lw_m2 32 rfl) rfl
theorem q391 : (Jvm.Cond.soleField "RapTable" "refusals") ∈ lw_all := lw_g (lw_at lw_m2 33 rfl) rfl
theorem q392 : (Jvm.Cond.lays "RapTable" "RapTable" "seats" "I") ∈ lw_all := lw_g (lw_at lw_m2 34 rfl) rfl
theorem q393 : (Jvm.Cond.soleField "RapTable" "seats") ∈ lw_all := lw_g (lw_at lw_m2 35 rfl) rfl
theorem q394 : (Jvm.Cond.lays "RapTable" "RapTable" "sitting" "LRapTable$Sitting;") ∈ lw_all := lw_g (lw_at lw_m2 36 rfl) rfl
theorem q395 : (Jvm.Cond.soleField "RapTable" "sitting") ∈ lw_all := lw_g (lw_at lw_m2 37 rfl) rfl
theorem q396 : (Jvm.Cond.laysFinal "RapTable" "RapTable" "images" "[LRapTable$Sitting;") ∈ lw_all := lw_g (lw_at lw_m2 38 rfl) rfl
theorem q397 : (Jvm.Cond.soleField "RapTable" "images") ∈ lw_all := lw_g (lw_at lw_m2 39 rfl) rfl
theorem q398 : (Jvm.Cond.laysFinal "RapTable" "RapTable" "controls" "Ljava/util/ArrayList;") ∈ lw_all := lw_g (lw_at lw_m2 40 rfl) rfl
theorem q399 : (Jvm.Cond.soleField "RapTable" "controls") ∈ lw_all := lw_g (lw_at lw_m2 41 rfl) rfl
theorem q400 : (Jvm.Cond.lays "RapTable" "RapTable" "force" "I") ∈ lw_all := lw_g (lw_at lw_m2 42 rfl) rfl
theorem q401 : (Jvm.Cond.soleField "RapTable" "force") ∈ lw_all := lw_g (lw_at lw_m2 43 rfl) rfl
theorem q402 : (Jvm.Cond.lays "RapTable" "RapTable" "ways" "Ljava/util/ArrayList;") ∈ lw_all := lw_g (lw_at lw_m2 44 rfl) rfl
theorem q403 : (Jvm.Cond.soleField "RapTable" "ways") ∈ lw_all := lw_g (lw_at lw_m2 45 rfl) rfl
theorem q404 : (Jvm.Cond.lays "RapTable" "RapTable" "loss" "I") ∈ lw_all := lw_g (lw_at lw_m2 46 rfl) rfl
theorem q405 : (Jvm.Cond.soleField "RapTable" "loss") ∈ lw_all := lw_g (lw_at lw_m2 47 rfl) rfl
theorem q406 : (Jvm.Cond.lays "RapTable" "RapTable" "smooth" "I") ∈ lw_all := lw_g (lw_at lw_m2 48 rfl) rfl
theorem q407 : (Jvm.Cond.soleField "RapTable" "smooth") ∈ lw_all := lw_g (lw_at lw_m2 49 rfl) rfl
theorem q408 : (Jvm.Cond.laysFinal "RapTable" "RapTable" "run" "LRapTable$Run;") ∈ lw_all := lw_g (lw_at lw_m2 50 rfl) rfl
theorem q409 : (Jvm.Cond.soleField "RapTable" "run") ∈ lw_all := lw_g (lw_at lw_m2 51 rfl) rfl
theorem q410 : (Jvm.Cond.laysFinal "RapTable" "RapTable" "tape" "[B") ∈ lw_all := lw_g (lw_at lw_m2 52 rfl) rfl
theorem q411 : (Jvm.Cond.soleField "RapTable" "tape") ∈ lw_all := lw_g (lw_at lw_m2 53 rfl) rfl
theorem q412 : (Jvm.Cond.lays "RapTable" "RapTable" "taped" "I") ∈ lw_all := lw_g (lw_at lw_m2 54 rfl) rfl
theorem q413 : (Jvm.Cond.soleField "RapTable" "taped") ∈ lw_all := lw_g (lw_at lw_m2 55 rfl) rfl
theorem q414 : (Jvm.Cond.lays "RapTable" "RapTable" "faultKind" "I") ∈ lw_all := lw_g (lw_at lw_m2 56 rfl) rfl
theorem q415 : (Jvm.Cond.soleField "RapTable" "faultKind") ∈ lw_all := lw_g (lw_at lw_m2 57 rfl) rfl
theorem q416 : (Jvm.Cond.lays "RapTable" "RapTable" "faultPlace" "I") ∈ lw_all := lw_g (lw_at lw_m2 58 rfl) rfl
theorem q417 : (Jvm.Cond.soleField "RapTable" "faultPlace") ∈ lw_all := lw_g (lw_at lw_m2 59 rfl) rfl
theorem q418 : (Jvm.Cond.laysFinal "RapTable" "RapTable" "reports" "Ljava/util/ArrayList;") ∈ lw_all := lw_g (lw_at lw_m2 60 rfl) rfl
theorem q419 : (Jvm.Cond.soleField "RapTable" "reports") ∈ lw_all := lw_g (lw_at lw_m2 61 rfl) rfl
theorem q420 : (Jvm.Cond.laysFinal "RapTable" "RapTable" "passing" "LRapTable$Pass;") ∈ lw_all := lw_g (lw_at lw_m2 62 rfl) rfl
theorem q421 : (Jvm.Cond.soleField "RapTable" "passing") ∈ lw_all := lw_g (lw_at lw_m2 63 rfl) rfl
theorem q422 : (Jvm.Cond.laysFinal "RapTable" "RapTable" "answers" "[I") ∈ lw_all := lw_g (lw_at lw_m2 64 rfl) rfl
theorem q423 : (Jvm.Cond.soleField "RapTable" "answers") ∈ lw_all := lw_g (lw_at lw_m2 65 rfl) rfl
theorem q424 : (Jvm.Cond.laysFinal "RapTable" "RapTable" "hits" "[I") ∈ lw_all := lw_g (lw_at lw_m2 66 rfl) rfl
theorem q425 : (Jvm.Cond.soleField "RapTable" "hits") ∈ lw_all := lw_g (lw_at lw_m2 67 rfl) rfl
theorem q426 : (Jvm.Cond.lays "RapTable" "RapTable" "trials" "I") ∈ lw_all := lw_g (lw_at lw_m2 68 rfl) rfl
theorem q427 : (Jvm.Cond.soleField "RapTable" "trials") ∈ lw_all := lw_g (lw_at lw_m2 69 rfl) rfl
theorem q428 : (Jvm.Cond.laysFinal "RapTable" "RapTable" "exact" "[J") ∈ lw_all := lw_g (lw_at lw_m2 70 rfl) rfl
theorem q429 : (Jvm.Cond.soleField "RapTable" "exact") ∈ lw_all := lw_g (lw_at lw_m2 71 rfl) rfl
theorem q430 : (Jvm.Cond.superclass "RapTable" "java/lang/Object") ∈ lw_all := lw_g (lw_at lw_m2 72 rfl) rfl
theorem q433 : (Jvm.Cond.instanceMethod ({ cls := "RapTable", name := "room", desc := "(I)Z" } : Jvm.MethodName)) ∈ lw_all := lw_g (lw_at lw_m2 75 rfl) rfl
theorem q434 : (Jvm.Cond.selects "RapTable" ({ cls := "RapTable", name := "room", desc := "(I)Z" } : Jvm.MethodName) ({ cls := "RapTable", name := "room", desc := "(I)Z" } : Jvm.MethodName)) ∈ lw_all := lw_g (lw_at lw_m2 76 rfl) rfl
theorem q435 : (Jvm.Cond.code ({ cls := "RapTable", name := "room", desc := "(I)Z" } : Jvm.MethodName) prog_1_method_15_code (3 : Nat) (Option.some Jvm.ClassFile.FieldType.boolean)) ∈ lw_all := lw_g (lw_at lw_m2 77 rfl) rfl
theorem q436 : (Jvm.Cond.constantLong "RapTable" (95 : Nat) (3 : Int64)) ∈ lw_all := lw_g (lw_at lw_m2 78 rfl) rfl
theorem q437 : (Jvm.Cond.constantLong "RapTable" (97 : Nat) (9 : Int64)) ∈ lw_all := lw_g (lw_at lw_m2 79 rfl) rfl
theorem q438 : (Jvm.Cond.methodLink "RapTable" (99 : Nat) ({ cls := "RapTable", name := "may", desc := "(I)Z" } : Jvm.MethodName)) ∈ lw_all := lw_g (lw_at lw_m2 80 rfl) rfl
theorem q439 : (Jvm.Cond.privateMethod ({ cls := "RapTable", name := "may", desc := "(I)Z" } : Jvm.MethodName)) ∈ lw_tbl := lw_at lw_m2 81 rfl
theorem q440 : (Jvm.Cond.instanceMethod ({ cls := "RapTable", name := "may", desc := "(I)Z" } : Jvm.MethodName)) ∈ lw_all := lw_g (lw_at lw_m2 82 rfl) rfl
theorem q441 : (Jvm.Cond.code ({ cls := "RapTable", name := "may", desc := "(I)Z" } : Jvm.MethodName) prog_1_method_5_code (2 : Nat) (Option.some Jvm.ClassFile.FieldType.boolean)) ∈ lw_all := lw_g (lw_at lw_m2 83 rfl) rfl
theorem q442 : (Jvm.Cond.methodLink "RapTable" (102 : Nat) ({ cls := "java/util/ArrayList", name := "clear", desc := "()V" } : Jvm.MethodName)) ∈ lw_all := lw_g (lw_at lw_m2 84 rfl) rfl
theorem q447 : (Jvm.Cond.instanceMethod ({ cls := "RapTable", name := "person", desc := "(III)Z" } : Jvm.MethodName)) ∈ lw_all := lw_g (lw_at lw_m2 89 rfl) rfl
theorem q448 : (Jvm.Cond.selects "RapTable" ({ cls := "RapTable", name := "person", desc := "(III)Z" } : Jvm.MethodName) ({ cls := "RapTable", name := "person", desc := "(III)Z" } : Jvm.MethodName)) ∈ lw_all := lw_g (lw_at lw_m2 90 rfl) rfl
theorem q449 : (Jvm.Cond.code ({ cls := "RapTable", name := "person", desc := "(III)Z" } : Jvm.MethodName) prog_1_method_16_code (4 : Nat) (Option.some Jvm.ClassFile.FieldType.boolean)) ∈ lw_all := lw_g (lw_at lw_m2 91 rfl) rfl
theorem q450 : (Jvm.Cond.methodLink "RapTable" (108 : Nat) ({ cls := "RapTable", name := "isPerson", desc := "(I)Z" } : Jvm.MethodName)) ∈ lw_all := lw_g (lw_at lw_m2 92 rfl) rfl
theorem q451 : (Jvm.Cond.privateMethod ({ cls := "RapTable", name := "isPerson", desc := "(I)Z" } : Jvm.MethodName)) ∈ lw_tbl := lw_at lw_m2 93 rfl
theorem q452 : (Jvm.Cond.instanceMethod ({ cls := "RapTable", name := "isPerson", desc := "(I)Z" } : Jvm.MethodName)) ∈ lw_all := lw_g (lw_at lw_m2 94 rfl) rfl
theorem q453 : (Jvm.Cond.code ({ cls := "RapTable", name := "isPerson", desc := "(I)Z" } : Jvm.MethodName) prog_1_method_8_code (2 : Nat) (Option.some Jvm.ClassFile.FieldType.boolean)) ∈ lw_all := lw_g (lw_at lw_m2 95 rfl) rfl
theorem q455 : (Jvm.Cond.instanceMethod ({ cls := "RapTable", name := "light", desc := "(III)Z" } : Jvm.MethodName)) ∈ lw_all := lw_g (lw_at lw_m2 97 rfl) rfl
theorem q456 : (Jvm.Cond.selects "RapTable" ({ cls := "RapTable", name := "light", desc := "(III)Z" } : Jvm.MethodName) ({ cls := "RapTable", name := "light", desc := "(III)Z" } : Jvm.MethodName)) ∈ lw_all := lw_g (lw_at lw_m2 98 rfl) rfl
theorem q457 : (Jvm.Cond.code ({ cls := "RapTable", name := "light", desc := "(III)Z" } : Jvm.MethodName) prog_1_method_17_code (5 : Nat) (Option.some Jvm.ClassFile.FieldType.boolean)) ∈ lw_all := lw_g (lw_at lw_m2 99 rfl) rfl
theorem q458 : (Jvm.Cond.methodLink "RapTable" (117 : Nat) ({ cls := "RapTable", name := "areSeconds", desc := "(II)Z" } : Jvm.MethodName)) ∈ lw_all := lw_g (lw_at lw_m2 100 rfl) rfl
theorem q459 : (Jvm.Cond.static ({ cls := "RapTable", name := "areSeconds", desc := "(II)Z" } : Jvm.MethodName)) ∈ lw_all := lw_g (lw_at lw_m2 101 rfl) rfl
theorem q460 : (Jvm.Cond.code ({ cls := "RapTable", name := "areSeconds", desc := "(II)Z" } : Jvm.MethodName) prog_1_method_3_code (2 : Nat) (Option.some Jvm.ClassFile.FieldType.boolean)) ∈ lw_all := lw_g (lw_at lw_m2 102 rfl) rfl
theorem q461 : (Jvm.Cond.methodLink "RapTable" (9 : Nat) ({ cls := "RapTable", name := "isSecond", desc := "(I)Z" } : Jvm.MethodName)) ∈ lw_all := lw_g (lw_at lw_m2 103 rfl) rfl
theorem q462 : (Jvm.Cond.static ({ cls := "RapTable", name := "isSecond", desc := "(I)Z" } : Jvm.MethodName)) ∈ lw_all := lw_g (lw_at lw_m2 104 rfl) rfl
theorem q463 : (Jvm.Cond.code ({ cls := "RapTable", name := "isSecond", desc := "(I)Z" } : Jvm.MethodName) prog_1_method_2_code (1 : Nat) (Option.some Jvm.ClassFile.FieldType.boolean)) ∈ lw_all := lw_g (lw_at lw_m2 105 rfl) rfl
theorem q464 : (Jvm.Cond.constantLong "RapTable" (3 : Nat) (99 : Int64)) ∈ lw_all := lw_g (lw_at lw_m2 106 rfl) rfl
theorem q466 : (Jvm.Cond.instanceMethod ({ cls := "RapTable", name := "attend", desc := "(IIII)Z" } : Jvm.MethodName)) ∈ lw_all := lw_g (lw_at lw_m2 108 rfl) rfl
theorem q467 : (Jvm.Cond.selects "RapTable" ({ cls := "RapTable", name := "attend", desc := "(IIII)Z" } : Jvm.MethodName) ({ cls := "RapTable", name := "attend", desc := "(IIII)Z" } : Jvm.MethodName)) ∈ lw_all := lw_g (lw_at lw_m2 109 rfl) rfl
theorem q468 : (Jvm.Cond.code ({ cls := "RapTable", name := "attend", desc := "(IIII)Z" } : Jvm.MethodName) prog_1_method_18_code (6 : Nat) (Option.some Jvm.ClassFile.FieldType.boolean)) ∈ lw_all := lw_g (lw_at lw_m2 110 rfl) rfl
theorem q469 : (Jvm.Cond.methodLink "RapTable" (123 : Nat) ({ cls := "RapTable", name := "isSpot", desc := "(I)Z" } : Jvm.MethodName)) ∈ lw_all := lw_g (lw_at lw_m2 111 rfl) rfl
theorem q470 : (Jvm.Cond.privateMethod ({ cls := "RapTable", name := "isSpot", desc := "(I)Z" } : Jvm.MethodName)) ∈ lw_tbl := lw_at lw_m2 112 rfl
theorem q471 : (Jvm.Cond.instanceMethod ({ cls := "RapTable", name := "isSpot", desc := "(I)Z" } : Jvm.MethodName)) ∈ lw_all := lw_g (lw_at lw_m2 113 rfl) rfl
theorem q472 : (Jvm.Cond.code ({ cls := "RapTable", name := "isSpot", desc := "(I)Z" } : Jvm.MethodName) prog_1_method_9_code (2 : Nat) (Option.some Jvm.ClassFile.FieldType.boolean)) ∈ lw_all := lw_g (lw_at lw_m2 114 rfl) rfl
theorem q474 : (Jvm.Cond.instanceMethod ({ cls := "RapTable", name := "lead", desc := "(IIII)I" } : Jvm.MethodName)) ∈ lw_all := lw_g (lw_at lw_m2 116 rfl) rfl
theorem q475 : (Jvm.Cond.selects "RapTable" ({ cls := "RapTable", name := "lead", desc := "(IIII)I" } : Jvm.MethodName) ({ cls := "RapTable", name := "lead", desc := "(IIII)I" } : Jvm.MethodName)) ∈ lw_all := lw_g (lw_at lw_m2 117 rfl) rfl
theorem q476 : (Jvm.Cond.code ({ cls := "RapTable", name := "lead", desc := "(IIII)I" } : Jvm.MethodName) prog_1_method_19_code (5 : Nat) (Option.some Jvm.ClassFile.FieldType.int)) ∈ lw_all := lw_g (lw_at lw_m2 118 rfl) rfl
theorem q477 : (Jvm.Cond.methodLink "RapTable" (130 : Nat) ({ cls := "RapTable", name := "refused", desc := "(I)I" } : Jvm.MethodName)) ∈ lw_all := lw_g (lw_at lw_m2 119 rfl) rfl
theorem q478 : (Jvm.Cond.privateMethod ({ cls := "RapTable", name := "refused", desc := "(I)I" } : Jvm.MethodName)) ∈ lw_tbl := lw_at lw_m2 120 rfl
theorem q479 : (Jvm.Cond.instanceMethod ({ cls := "RapTable", name := "refused", desc := "(I)I" } : Jvm.MethodName)) ∈ lw_all := lw_g (lw_at lw_m2 121 rfl) rfl
theorem q480 : (Jvm.Cond.code ({ cls := "RapTable", name := "refused", desc := "(I)I" } : Jvm.MethodName) prog_1_method_4_code (2 : Nat) (Option.some Jvm.ClassFile.FieldType.int)) ∈ lw_all := lw_g (lw_at lw_m2 122 rfl) rfl
theorem q481 : (Jvm.Cond.methodLink "RapTable" (137 : Nat) ({ cls := "java/util/ArrayList", name := "size", desc := "()I" } : Jvm.MethodName)) ∈ lw_all := lw_g (lw_at lw_m2 123 rfl) rfl
theorem q485 : (Jvm.Cond.classLink "RapTable" (141 : Nat) "RapTable$Lead") ∈ lw_all := lw_g (lw_at lw_m2 127 rfl) rfl
theorem q487 : (Jvm.Cond.methodLink "RapTable" (143 : Nat) ({ cls := "RapTable$Lead", name := "<init>", desc := "(IIII)V" } : Jvm.MethodName)) ∈ lw_all := lw_g (lw_at lw_m2 129 rfl) rfl
theorem q492 : (Jvm.Cond.fieldLinkNest "RapTable" (225 : Nat) "RapTable$Lead" "spot" "I" "RapTable") ∈ lw_tbl := lw_at lw_m2 134 rfl
theorem q507 : (Jvm.Cond.methodLink "RapTable" (146 : Nat) ({ cls := "java/util/ArrayList", name := "add", desc := "(Ljava/lang/Object;)Z" } : Jvm.MethodName)) ∈ lw_all := lw_g (lw_at lw_m2 149 rfl) rfl
theorem q541 : (Jvm.Cond.selects "RapTable" ({ cls := "java/lang/Object", name := "getClass", desc := "()Ljava/lang/Class;" } : Jvm.MethodName) ({ cls := "java/lang/Object", name := "getClass", desc := "()Ljava/lang/Class;" } : Jvm.MethodName)) ∈ lw_all := lw_g (lw_at lw_m2 183 rfl) rfl
theorem q578 : (Jvm.Cond.instanceMethod ({ cls := "RapTable", name := "hold", desc := "(IIIII)Z" } : Jvm.MethodName)) ∈ lw_all := lw_g (lw_at lw_m2 220 rfl) rfl
theorem q579 : (Jvm.Cond.selects "RapTable" ({ cls := "RapTable", name := "hold", desc := "(IIIII)Z" } : Jvm.MethodName) ({ cls := "RapTable", name := "hold", desc := "(IIIII)Z" } : Jvm.MethodName)) ∈ lw_all := lw_g (lw_at lw_m2 221 rfl) rfl
theorem q580 : (Jvm.Cond.code ({ cls := "RapTable", name := "hold", desc := "(IIIII)Z" } : Jvm.MethodName) prog_1_method_20_code (8 : Nat) (Option.some Jvm.ClassFile.FieldType.boolean)) ∈ lw_all := lw_g (lw_at lw_m2 222 rfl) rfl
theorem q581 : (Jvm.Cond.methodLink "RapTable" (150 : Nat) ({ cls := "RapTable", name := "isHand", desc := "(I)Z" } : Jvm.MethodName)) ∈ lw_all := lw_g (lw_at lw_m2 223 rfl) rfl
theorem q582 : (Jvm.Cond.privateMethod ({ cls := "RapTable", name := "isHand", desc := "(I)Z" } : Jvm.MethodName)) ∈ lw_tbl := lw_at lw_m2 224 rfl
theorem q583 : (Jvm.Cond.instanceMethod ({ cls := "RapTable", name := "isHand", desc := "(I)Z" } : Jvm.MethodName)) ∈ lw_all := lw_g (lw_at lw_m2 225 rfl) rfl
theorem q584 : (Jvm.Cond.code ({ cls := "RapTable", name := "isHand", desc := "(I)Z" } : Jvm.MethodName) prog_1_method_10_code (2 : Nat) (Option.some Jvm.ClassFile.FieldType.boolean)) ∈ lw_all := lw_g (lw_at lw_m2 226 rfl) rfl
theorem q585 : (Jvm.Cond.methodLink "RapTable" (91 : Nat) ({ cls := "RapTable", name := "areBeside", desc := "(II)Z" } : Jvm.MethodName)) ∈ lw_all := lw_g (lw_at lw_m2 227 rfl) rfl
theorem q586 : (Jvm.Cond.privateMethod ({ cls := "RapTable", name := "areBeside", desc := "(II)Z" } : Jvm.MethodName)) ∈ lw_tbl := lw_at lw_m2 228 rfl
theorem q587 : (Jvm.Cond.instanceMethod ({ cls := "RapTable", name := "areBeside", desc := "(II)Z" } : Jvm.MethodName)) ∈ lw_all := lw_g (lw_at lw_m2 229 rfl) rfl
theorem q588 : (Jvm.Cond.code ({ cls := "RapTable", name := "areBeside", desc := "(II)Z" } : Jvm.MethodName) prog_1_method_12_code (3 : Nat) (Option.some Jvm.ClassFile.FieldType.boolean)) ∈ lw_all := lw_g (lw_at lw_m2 230 rfl) rfl
theorem q590 : (Jvm.Cond.instanceMethod ({ cls := "RapTable", name := "thing", desc := "(I)I" } : Jvm.MethodName)) ∈ lw_all := lw_g (lw_at lw_m2 232 rfl) rfl
theorem q591 : (Jvm.Cond.selects "RapTable" ({ cls := "RapTable", name := "thing", desc := "(I)I" } : Jvm.MethodName) ({ cls := "RapTable", name := "thing", desc := "(I)I" } : Jvm.MethodName)) ∈ lw_all := lw_g (lw_at lw_m2 233 rfl) rfl
theorem q592 : (Jvm.Cond.code ({ cls := "RapTable", name := "thing", desc := "(I)I" } : Jvm.MethodName) prog_1_method_21_code (2 : Nat) (Option.some Jvm.ClassFile.FieldType.int)) ∈ lw_all := lw_g (lw_at lw_m2 234 rfl) rfl
theorem q594 : (Jvm.Cond.instanceMethod ({ cls := "RapTable", name := "move", desc := "(IIII)I" } : Jvm.MethodName)) ∈ lw_all := lw_g (lw_at lw_m2 236 rfl) rfl
theorem q595 : (Jvm.Cond.selects "RapTable" ({ cls := "RapTable", name := "move", desc := "(IIII)I" } : Jvm.MethodName) ({ cls := "RapTable", name := "move", desc := "(IIII)I" } : Jvm.MethodName)) ∈ lw_all := lw_g (lw_at lw_m2 237 rfl) rfl
theorem q596 : (Jvm.Cond.code ({ cls := "RapTable", name := "move", desc := "(IIII)I" } : Jvm.MethodName) prog_1_method_22_code (8 : Nat) (Option.some Jvm.ClassFile.FieldType.int)) ∈ lw_all := lw_g (lw_at lw_m2 238 rfl) rfl
theorem q597 : (Jvm.Cond.methodLink "RapTable" (165 : Nat) ({ cls := "RapTable", name := "isThing", desc := "(I)Z" } : Jvm.MethodName)) ∈ lw_all := lw_g (lw_at lw_m2 239 rfl) rfl
theorem q598 : (Jvm.Cond.privateMethod ({ cls := "RapTable", name := "isThing", desc := "(I)Z" } : Jvm.MethodName)) ∈ lw_tbl := lw_at lw_m3 0 rfl
theorem q599 : (Jvm.Cond.instanceMethod ({ cls := "RapTable", name := "isThing", desc := "(I)Z" } : Jvm.MethodName)) ∈ lw_all := lw_g (lw_at lw_m3 1 rfl) rfl
theorem q600 : (Jvm.Cond.code ({ cls := "RapTable", name := "isThing", desc := "(I)Z" } : Jvm.MethodName) prog_1_method_11_code (2 : Nat) (Option.some Jvm.ClassFile.FieldType.boolean)) ∈ lw_all := lw_g (lw_at lw_m3 2 rfl) rfl
theorem q601 : (Jvm.Cond.methodLink "RapTable" (168 : Nat) ({ cls := "RapTable$Sitting", name := "where", desc := "(II)I" } : Jvm.MethodName)) ∈ lw_all := lw_g (lw_at lw_m3 3 rfl) rfl
theorem q621 : (Jvm.Cond.methodLink "RapTable" (172 : Nat) ({ cls := "java/util/ArrayList", name := "get", desc := "(I)Ljava/lang/Object;" } : Jvm.MethodName)) ∈ lw_all := lw_g (lw_at lw_m3 23 rfl) rfl
theorem q622 : (Jvm.Cond.classLink "RapTable" (176 : Nat) "RapTable$Move") ∈ lw_all := lw_g (lw_at lw_m3 24 rfl) rfl
theorem q623 : (Jvm.Cond.methodLink "RapTable" (181 : Nat) ({ cls := "RapTable", name := "reaches", desc := "(II)Z" } : Jvm.MethodName)) ∈ lw_all := lw_g (lw_at lw_m3 25 rfl) rfl
theorem q624 : (Jvm.Cond.privateMethod ({ cls := "RapTable", name := "reaches", desc := "(II)Z" } : Jvm.MethodName)) ∈ lw_tbl := lw_at lw_m3 26 rfl
theorem q625 : (Jvm.Cond.instanceMethod ({ cls := "RapTable", name := "reaches", desc := "(II)Z" } : Jvm.MethodName)) ∈ lw_all := lw_g (lw_at lw_m3 27 rfl) rfl
theorem q626 : (Jvm.Cond.code ({ cls := "RapTable", name := "reaches", desc := "(II)Z" } : Jvm.MethodName) prog_1_method_13_code (3 : Nat) (Option.some Jvm.ClassFile.FieldType.boolean)) ∈ lw_all := lw_g (lw_at lw_m3 28 rfl) rfl
theorem q627 : (Jvm.Cond.methodLink "RapTable" (184 : Nat) ({ cls := "RapTable", name := "isFree", desc := "(II)Z" } : Jvm.MethodName)) ∈ lw_all := lw_g (lw_at lw_m3 29 rfl) rfl
theorem q628 : (Jvm.Cond.privateMethod ({ cls := "RapTable", name := "isFree", desc := "(II)Z" } : Jvm.MethodName)) ∈ lw_tbl := lw_at lw_m3 30 rfl
theorem q629 : (Jvm.Cond.instanceMethod ({ cls := "RapTable", name := "isFree", desc := "(II)Z" } : Jvm.MethodName)) ∈ lw_all := lw_g (lw_at lw_m3 31 rfl) rfl
theorem q630 : (Jvm.Cond.code ({ cls := "RapTable", name := "isFree", desc := "(II)Z" } : Jvm.MethodName) prog_1_method_31_code (4 : Nat) (Option.some Jvm.ClassFile.FieldType.boolean)) ∈ lw_all := lw_g (lw_at lw_m3 32 rfl) rfl
theorem q631 : (Jvm.Cond.methodLink "RapTable" (234 : Nat) ({ cls := "RapTable", name := "isTied", desc := "(II)Z" } : Jvm.MethodName)) ∈ lw_all := lw_g (lw_at lw_m3 33 rfl) rfl
theorem q632 : (Jvm.Cond.privateMethod ({ cls := "RapTable", name := "isTied", desc := "(II)Z" } : Jvm.MethodName)) ∈ lw_tbl := lw_at lw_m3 34 rfl
theorem q633 : (Jvm.Cond.instanceMethod ({ cls := "RapTable", name := "isTied", desc := "(II)Z" } : Jvm.MethodName)) ∈ lw_all := lw_g (lw_at lw_m3 35 rfl) rfl
theorem q634 : (Jvm.Cond.code ({ cls := "RapTable", name := "isTied", desc := "(II)Z" } : Jvm.MethodName) prog_1_method_32_code (4 : Nat) (Option.some Jvm.ClassFile.FieldType.boolean)) ∈ lw_all := lw_g (lw_at lw_m3 36 rfl) rfl
theorem q635 : (Jvm.Cond.methodLink "RapTable" (204 : Nat) ({ cls := "RapTable", name := "isInForce", desc := "(II)Z" } : Jvm.MethodName)) ∈ lw_all := lw_g (lw_at lw_m3 37 rfl) rfl
theorem q636 : (Jvm.Cond.privateMethod ({ cls := "RapTable", name := "isInForce", desc := "(II)Z" } : Jvm.MethodName)) ∈ lw_tbl := lw_at lw_m3 38 rfl
theorem q637 : (Jvm.Cond.instanceMethod ({ cls := "RapTable", name := "isInForce", desc := "(II)Z" } : Jvm.MethodName)) ∈ lw_all := lw_g (lw_at lw_m3 39 rfl) rfl
theorem q638 : (Jvm.Cond.code ({ cls := "RapTable", name := "isInForce", desc := "(II)Z" } : Jvm.MethodName) prog_1_method_26_code (3 : Nat) (Option.some Jvm.ClassFile.FieldType.boolean)) ∈ lw_all := lw_g (lw_at lw_m3 40 rfl) rfl
theorem q639 : (Jvm.Cond.classLink "RapTable" (199 : Nat) "RapTable$Control") ∈ lw_all := lw_g (lw_at lw_m3 41 rfl) rfl
theorem q640 : (Jvm.Cond.methodLink "RapTable" (201 : Nat) ({ cls := "RapTable$Control", name := "holds", desc := "(I)Z" } : Jvm.MethodName)) ∈ lw_all := lw_g (lw_at lw_m3 42 rfl) rfl
theorem q647 : (Jvm.Cond.methodLink "RapTable" (237 : Nat) ({ cls := "RapTable$Control", name := "ties", desc := "(I)Z" } : Jvm.MethodName)) ∈ lw_all := lw_g (lw_at lw_m3 49 rfl) rfl
theorem q657 : (Jvm.Cond.methodLink "RapTable" (187 : Nat) ({ cls := "RapTable$Move", name := "<init>", desc := "(IIIII)V" } : Jvm.MethodName)) ∈ lw_all := lw_g (lw_at lw_m3 59 rfl) rfl
theorem q662 : (Jvm.Cond.fieldLinkNest "RapTable" (254 : Nat) "RapTable$Move" "hand" "I" "RapTable") ∈ lw_tbl := lw_at lw_m3 64 rfl
theorem q667 : (Jvm.Cond.fieldLinkNest "RapTable" (257 : Nat) "RapTable$Move" "from" "I" "RapTable") ∈ lw_tbl := lw_at lw_m3 69 rfl
theorem q671 : (Jvm.Cond.fieldLinkNest "RapTable" (260 : Nat) "RapTable$Move" "to" "I" "RapTable") ∈ lw_tbl := lw_at lw_m3 73 rfl
theorem q675 : (Jvm.Cond.fieldLinkNest "RapTable" (178 : Nat) "RapTable$Move" "second" "I" "RapTable") ∈ lw_tbl := lw_at lw_m3 77 rfl
theorem q688 : (Jvm.Cond.instanceMethod ({ cls := "RapTable", name := "where", desc := "(II)I" } : Jvm.MethodName)) ∈ lw_all := lw_g (lw_at lw_m3 90 rfl) rfl
theorem q689 : (Jvm.Cond.selects "RapTable" ({ cls := "RapTable", name := "where", desc := "(II)I" } : Jvm.MethodName) ({ cls := "RapTable", name := "where", desc := "(II)I" } : Jvm.MethodName)) ∈ lw_all := lw_g (lw_at lw_m3 91 rfl) rfl
theorem q690 : (Jvm.Cond.code ({ cls := "RapTable", name := "where", desc := "(II)I" } : Jvm.MethodName) prog_1_method_23_code (3 : Nat) (Option.some Jvm.ClassFile.FieldType.int)) ∈ lw_all := lw_g (lw_at lw_m3 92 rfl) rfl
theorem q692 : (Jvm.Cond.instanceMethod ({ cls := "RapTable", name := "image", desc := "(I)Z" } : Jvm.MethodName)) ∈ lw_all := lw_g (lw_at lw_m3 94 rfl) rfl
theorem q693 : (Jvm.Cond.selects "RapTable" ({ cls := "RapTable", name := "image", desc := "(I)Z" } : Jvm.MethodName) ({ cls := "RapTable", name := "image", desc := "(I)Z" } : Jvm.MethodName)) ∈ lw_all := lw_g (lw_at lw_m3 95 rfl) rfl
theorem q694 : (Jvm.Cond.code ({ cls := "RapTable", name := "image", desc := "(I)Z" } : Jvm.MethodName) prog_1_method_24_code (2 : Nat) (Option.some Jvm.ClassFile.FieldType.boolean)) ∈ lw_all := lw_g (lw_at lw_m3 96 rfl) rfl
theorem q695 : (Jvm.Cond.constantLong "RapTable" (190 : Nat) (2 : Int64)) ∈ lw_all := lw_g (lw_at lw_m3 97 rfl) rfl
theorem q696 : (Jvm.Cond.methodLink "RapTable" (192 : Nat) ({ cls := "RapTable$Sitting", name := "copy", desc := "()LRapTable$Sitting;" } : Jvm.MethodName)) ∈ lw_all := lw_g (lw_at lw_m3 98 rfl) rfl
theorem q706 : (Jvm.Cond.instanceMethod ({ cls := "RapTable", name := "restore", desc := "(I)Z" } : Jvm.MethodName)) ∈ lw_all := lw_g (lw_at lw_m3 108 rfl) rfl
theorem q707 : (Jvm.Cond.selects "RapTable" ({ cls := "RapTable", name := "restore", desc := "(I)Z" } : Jvm.MethodName) ({ cls := "RapTable", name := "restore", desc := "(I)Z" } : Jvm.MethodName)) ∈ lw_all := lw_g (lw_at lw_m3 109 rfl) rfl
theorem q708 : (Jvm.Cond.code ({ cls := "RapTable", name := "restore", desc := "(I)Z" } : Jvm.MethodName) prog_1_method_25_code (2 : Nat) (Option.some Jvm.ClassFile.FieldType.boolean)) ∈ lw_all := lw_g (lw_at lw_m3 110 rfl) rfl
theorem q710 : (Jvm.Cond.instanceMethod ({ cls := "RapTable", name := "at", desc := "(III)I" } : Jvm.MethodName)) ∈ lw_all := lw_g (lw_at lw_m3 112 rfl) rfl
theorem q711 : (Jvm.Cond.selects "RapTable" ({ cls := "RapTable", name := "at", desc := "(III)I" } : Jvm.MethodName) ({ cls := "RapTable", name := "at", desc := "(III)I" } : Jvm.MethodName)) ∈ lw_all := lw_g (lw_at lw_m3 113 rfl) rfl
theorem q712 : (Jvm.Cond.code ({ cls := "RapTable", name := "at", desc := "(III)I" } : Jvm.MethodName) prog_1_method_35_code (4 : Nat) (Option.some Jvm.ClassFile.FieldType.int)) ∈ lw_all := lw_g (lw_at lw_m3 114 rfl) rfl
theorem q713 : (Jvm.Cond.constantLong "RapTable" (248 : Nat) (4 : Int64)) ∈ lw_all := lw_g (lw_at lw_m3 115 rfl) rfl
theorem q714 : (Jvm.Cond.methodLink "RapTable" (231 : Nat) ({ cls := "RapTable", name := "lightAt", desc := "(I)I" } : Jvm.MethodName)) ∈ lw_all := lw_g (lw_at lw_m3 116 rfl) rfl
theorem q715 : (Jvm.Cond.privateMethod ({ cls := "RapTable", name := "lightAt", desc := "(I)I" } : Jvm.MethodName)) ∈ lw_tbl := lw_at lw_m3 117 rfl
theorem q716 : (Jvm.Cond.instanceMethod ({ cls := "RapTable", name := "lightAt", desc := "(I)I" } : Jvm.MethodName)) ∈ lw_all := lw_g (lw_at lw_m3 118 rfl) rfl
theorem q717 : (Jvm.Cond.code ({ cls := "RapTable", name := "lightAt", desc := "(I)I" } : Jvm.MethodName) prog_1_method_27_code (4 : Nat) (Option.some Jvm.ClassFile.FieldType.int)) ∈ lw_all := lw_g (lw_at lw_m3 119 rfl) rfl
theorem q718 : (Jvm.Cond.methodLink "RapTable" (207 : Nat) ({ cls := "RapTable$Control", name := "lights", desc := "()I" } : Jvm.MethodName)) ∈ lw_all := lw_g (lw_at lw_m3 120 rfl) rfl
theorem q727 : (Jvm.Cond.methodLink "RapTable" (210 : Nat) ({ cls := "java/lang/Math", name := "max", desc := "(II)I" } : Jvm.MethodName)) ∈ lw_all := lw_g (lw_at lw_m3 129 rfl) rfl
theorem q728 : (Jvm.Cond.methodLink "RapTable" (228 : Nat) ({ cls := "RapTable", name := "eyesOf", desc := "(II)I" } : Jvm.MethodName)) ∈ lw_all := lw_g (lw_at lw_m3 130 rfl) rfl
theorem q729 : (Jvm.Cond.privateMethod ({ cls := "RapTable", name := "eyesOf", desc := "(II)I" } : Jvm.MethodName)) ∈ lw_tbl := lw_at lw_m3 131 rfl
theorem q730 : (Jvm.Cond.instanceMethod ({ cls := "RapTable", name := "eyesOf", desc := "(II)I" } : Jvm.MethodName)) ∈ lw_all := lw_g (lw_at lw_m3 132 rfl) rfl
theorem q731 : (Jvm.Cond.code ({ cls := "RapTable", name := "eyesOf", desc := "(II)I" } : Jvm.MethodName) prog_1_method_29_code (5 : Nat) (Option.some Jvm.ClassFile.FieldType.int)) ∈ lw_all := lw_g (lw_at lw_m3 133 rfl) rfl
theorem q732 : (Jvm.Cond.methodLink "RapTable" (218 : Nat) ({ cls := "RapTable", name := "ordered", desc := "(II)I" } : Jvm.MethodName)) ∈ lw_all := lw_g (lw_at lw_m3 134 rfl) rfl
theorem q733 : (Jvm.Cond.privateMethod ({ cls := "RapTable", name := "ordered", desc := "(II)I" } : Jvm.MethodName)) ∈ lw_tbl := lw_at lw_m3 135 rfl
theorem q734 : (Jvm.Cond.instanceMethod ({ cls := "RapTable", name := "ordered", desc := "(II)I" } : Jvm.MethodName)) ∈ lw_all := lw_g (lw_at lw_m3 136 rfl) rfl
theorem q735 : (Jvm.Cond.code ({ cls := "RapTable", name := "ordered", desc := "(II)I" } : Jvm.MethodName) prog_1_method_28_code (4 : Nat) (Option.some Jvm.ClassFile.FieldType.int)) ∈ lw_all := lw_g (lw_at lw_m3 137 rfl) rfl
theorem q736 : (Jvm.Cond.methodLink "RapTable" (215 : Nat) ({ cls := "RapTable$Control", name := "watched", desc := "(I)I" } : Jvm.MethodName)) ∈ lw_all := lw_g (lw_at lw_m3 138 rfl) rfl
theorem q745 : (Jvm.Cond.methodLink "RapTable" (221 : Nat) ({ cls := "RapTable$Sitting", name := "led", desc := "(II)LRapTable$Lead;" } : Jvm.MethodName)) ∈ lw_all := lw_g (lw_at lw_m3 147 rfl) rfl
theorem q754 : (Jvm.Cond.instanceMethod ({ cls := "RapTable", name := "vouch", desc := "(IIZ)I" } : Jvm.MethodName)) ∈ lw_all := lw_g (lw_at lw_m3 156 rfl) rfl
theorem q755 : (Jvm.Cond.selects "RapTable" ({ cls := "RapTable", name := "vouch", desc := "(IIZ)I" } : Jvm.MethodName) ({ cls := "RapTable", name := "vouch", desc := "(IIZ)I" } : Jvm.MethodName)) ∈ lw_all := lw_g (lw_at lw_m3 157 rfl) rfl
theorem q756 : (Jvm.Cond.code ({ cls := "RapTable", name := "vouch", desc := "(IIZ)I" } : Jvm.MethodName) prog_1_method_36_code (4 : Nat) (Option.some Jvm.ClassFile.FieldType.int)) ∈ lw_all := lw_g (lw_at lw_m3 158 rfl) rfl
theorem q757 : (Jvm.Cond.methodLink "RapTable" (250 : Nat) ({ cls := "RapTable", name := "vouchers", desc := "(IIZ)I" } : Jvm.MethodName)) ∈ lw_all := lw_g (lw_at lw_m3 159 rfl) rfl
theorem q758 : (Jvm.Cond.privateMethod ({ cls := "RapTable", name := "vouchers", desc := "(IIZ)I" } : Jvm.MethodName)) ∈ lw_tbl := lw_at lw_m3 160 rfl
theorem q759 : (Jvm.Cond.instanceMethod ({ cls := "RapTable", name := "vouchers", desc := "(IIZ)I" } : Jvm.MethodName)) ∈ lw_all := lw_g (lw_at lw_m3 161 rfl) rfl
theorem q760 : (Jvm.Cond.code ({ cls := "RapTable", name := "vouchers", desc := "(IIZ)I" } : Jvm.MethodName) prog_1_method_34_code (6 : Nat) (Option.some Jvm.ClassFile.FieldType.int)) ∈ lw_all := lw_g (lw_at lw_m3 162 rfl) rfl
theorem q761 : (Jvm.Cond.methodLink "RapTable" (244 : Nat) ({ cls := "RapTable", name := "vouches", desc := "(IIIZ)Z" } : Jvm.MethodName)) ∈ lw_all := lw_g (lw_at lw_m3 163 rfl) rfl
theorem q762 : (Jvm.Cond.privateMethod ({ cls := "RapTable", name := "vouches", desc := "(IIIZ)Z" } : Jvm.MethodName)) ∈ lw_tbl := lw_at lw_m3 164 rfl
theorem q763 : (Jvm.Cond.instanceMethod ({ cls := "RapTable", name := "vouches", desc := "(IIIZ)Z" } : Jvm.MethodName)) ∈ lw_all := lw_g (lw_at lw_m3 165 rfl) rfl
theorem q764 : (Jvm.Cond.code ({ cls := "RapTable", name := "vouches", desc := "(IIIZ)Z" } : Jvm.MethodName) prog_1_method_33_code (6 : Nat) (Option.some Jvm.ClassFile.FieldType.boolean)) ∈ lw_all := lw_g (lw_at lw_m3 166 rfl) rfl
theorem q765 : (Jvm.Cond.methodLink "RapTable" (240 : Nat) ({ cls := "RapTable", name := "sees", desc := "(III)Z" } : Jvm.MethodName)) ∈ lw_all := lw_g (lw_at lw_m3 167 rfl) rfl
theorem q766 : (Jvm.Cond.privateMethod ({ cls := "RapTable", name := "sees", desc := "(III)Z" } : Jvm.MethodName)) ∈ lw_tbl := lw_at lw_m3 168 rfl
theorem q767 : (Jvm.Cond.instanceMethod ({ cls := "RapTable", name := "sees", desc := "(III)Z" } : Jvm.MethodName)) ∈ lw_all := lw_g (lw_at lw_m3 169 rfl) rfl
theorem q768 : (Jvm.Cond.code ({ cls := "RapTable", name := "sees", desc := "(III)Z" } : Jvm.MethodName) prog_1_method_30_code (4 : Nat) (Option.some Jvm.ClassFile.FieldType.boolean)) ∈ lw_all := lw_g (lw_at lw_m3 170 rfl) rfl
theorem q770 : (Jvm.Cond.instanceMethod ({ cls := "RapTable", name := "gap", desc := "(IZI)I" } : Jvm.MethodName)) ∈ lw_all := lw_g (lw_at lw_m3 172 rfl) rfl
theorem q771 : (Jvm.Cond.selects "RapTable" ({ cls := "RapTable", name := "gap", desc := "(IZI)I" } : Jvm.MethodName) ({ cls := "RapTable", name := "gap", desc := "(IZI)I" } : Jvm.MethodName)) ∈ lw_all := lw_g (lw_at lw_m3 173 rfl) rfl
theorem q772 : (Jvm.Cond.code ({ cls := "RapTable", name := "gap", desc := "(IZI)I" } : Jvm.MethodName) prog_1_method_37_code (11 : Nat) (Option.some Jvm.ClassFile.FieldType.int)) ∈ lw_all := lw_g (lw_at lw_m3 174 rfl) rfl
theorem q774 : (Jvm.Cond.instanceMethod ({ cls := "RapTable", name := "saw", desc := "(II)I" } : Jvm.MethodName)) ∈ lw_all := lw_g (lw_at lw_m3 176 rfl) rfl
theorem q775 : (Jvm.Cond.selects "RapTable" ({ cls := "RapTable", name := "saw", desc := "(II)I" } : Jvm.MethodName) ({ cls := "RapTable", name := "saw", desc := "(II)I" } : Jvm.MethodName)) ∈ lw_all := lw_g (lw_at lw_m3 177 rfl) rfl
theorem q776 : (Jvm.Cond.code ({ cls := "RapTable", name := "saw", desc := "(II)I" } : Jvm.MethodName) prog_1_method_39_code (4 : Nat) (Option.some Jvm.ClassFile.FieldType.int)) ∈ lw_all := lw_g (lw_at lw_m3 178 rfl) rfl
theorem q777 : (Jvm.Cond.methodLink "RapTable" (263 : Nat) ({ cls := "RapTable", name := "sawIt", desc := "(ILRapTable$Move;)Z" } : Jvm.MethodName)) ∈ lw_all := lw_g (lw_at lw_m3 179 rfl) rfl
theorem q778 : (Jvm.Cond.privateMethod ({ cls := "RapTable", name := "sawIt", desc := "(ILRapTable$Move;)Z" } : Jvm.MethodName)) ∈ lw_tbl := lw_at lw_m3 180 rfl
theorem q779 : (Jvm.Cond.instanceMethod ({ cls := "RapTable", name := "sawIt", desc := "(ILRapTable$Move;)Z" } : Jvm.MethodName)) ∈ lw_all := lw_g (lw_at lw_m3 181 rfl) rfl
theorem q780 : (Jvm.Cond.code ({ cls := "RapTable", name := "sawIt", desc := "(ILRapTable$Move;)Z" } : Jvm.MethodName) prog_1_method_38_code (3 : Nat) (Option.some Jvm.ClassFile.FieldType.boolean)) ∈ lw_all := lw_g (lw_at lw_m3 182 rfl) rfl
theorem q782 : (Jvm.Cond.instanceMethod ({ cls := "RapTable", name := "way", desc := "(II)I" } : Jvm.MethodName)) ∈ lw_all := lw_g (lw_at lw_m3 184 rfl) rfl
theorem q783 : (Jvm.Cond.selects "RapTable" ({ cls := "RapTable", name := "way", desc := "(II)I" } : Jvm.MethodName) ({ cls := "RapTable", name := "way", desc := "(II)I" } : Jvm.MethodName)) ∈ lw_all := lw_g (lw_at lw_m3 185 rfl) rfl
theorem q784 : (Jvm.Cond.code ({ cls := "RapTable", name := "way", desc := "(II)I" } : Jvm.MethodName) prog_1_method_44_code (3 : Nat) (Option.some Jvm.ClassFile.FieldType.int)) ∈ lw_all := lw_g (lw_at lw_m3 186 rfl) rfl
theorem q785 : (Jvm.Cond.methodLink "RapTable" (314 : Nat) ({ cls := "RapTable", name := "isWay", desc := "(I)Z" } : Jvm.MethodName)) ∈ lw_all := lw_g (lw_at lw_m3 187 rfl) rfl
theorem q786 : (Jvm.Cond.privateMethod ({ cls := "RapTable", name := "isWay", desc := "(I)Z" } : Jvm.MethodName)) ∈ lw_tbl := lw_at lw_m3 188 rfl
theorem q787 : (Jvm.Cond.instanceMethod ({ cls := "RapTable", name := "isWay", desc := "(I)Z" } : Jvm.MethodName)) ∈ lw_all := lw_g (lw_at lw_m3 189 rfl) rfl
theorem q788 : (Jvm.Cond.code ({ cls := "RapTable", name := "isWay", desc := "(I)Z" } : Jvm.MethodName) prog_1_method_43_code (2 : Nat) (Option.some Jvm.ClassFile.FieldType.boolean)) ∈ lw_all := lw_g (lw_at lw_m3 190 rfl) rfl
theorem q789 : (Jvm.Cond.classLink "RapTable" (282 : Nat) "RapTable$Way") ∈ lw_all := lw_g (lw_at lw_m3 191 rfl) rfl
theorem q791 : (Jvm.Cond.instanceMethod ({ cls := "RapTable", name := "fits", desc := "(IIIIIII)I" } : Jvm.MethodName)) ∈ lw_all := lw_g (lw_at lw_m3 193 rfl) rfl
theorem q792 : (Jvm.Cond.selects "RapTable" ({ cls := "RapTable", name := "fits", desc := "(IIIIIII)I" } : Jvm.MethodName) ({ cls := "RapTable", name := "fits", desc := "(IIIIIII)I" } : Jvm.MethodName)) ∈ lw_all := lw_g (lw_at lw_m3 194 rfl) rfl
theorem q793 : (Jvm.Cond.code ({ cls := "RapTable", name := "fits", desc := "(IIIIIII)I" } : Jvm.MethodName) prog_1_method_45_code (8 : Nat) (Option.some Jvm.ClassFile.FieldType.int)) ∈ lw_all := lw_g (lw_at lw_m3 195 rfl) rfl
theorem q794 : (Jvm.Cond.methodLink "RapTable" (317 : Nat) ({ cls := "RapTable", name := "isSet", desc := "(I)Z" } : Jvm.MethodName)) ∈ lw_all := lw_g (lw_at lw_m3 196 rfl) rfl
theorem q795 : (Jvm.Cond.privateMethod ({ cls := "RapTable", name := "isSet", desc := "(I)Z" } : Jvm.MethodName)) ∈ lw_tbl := lw_at lw_m3 197 rfl
theorem q796 : (Jvm.Cond.instanceMethod ({ cls := "RapTable", name := "isSet", desc := "(I)Z" } : Jvm.MethodName)) ∈ lw_all := lw_g (lw_at lw_m3 198 rfl) rfl
theorem q797 : (Jvm.Cond.code ({ cls := "RapTable", name := "isSet", desc := "(I)Z" } : Jvm.MethodName) prog_1_method_14_code (2 : Nat) (Option.some Jvm.ClassFile.FieldType.boolean)) ∈ lw_all := lw_g (lw_at lw_m3 199 rfl) rfl
theorem q798 : (Jvm.Cond.methodLink "RapTable" (320 : Nat) ({ cls := "RapTable", name := "isTask", desc := "(IIII)Z" } : Jvm.MethodName)) ∈ lw_all := lw_g (lw_at lw_m3 200 rfl) rfl
theorem q799 : (Jvm.Cond.privateMethod ({ cls := "RapTable", name := "isTask", desc := "(IIII)Z" } : Jvm.MethodName)) ∈ lw_tbl := lw_at lw_m3 201 rfl
theorem q800 : (Jvm.Cond.instanceMethod ({ cls := "RapTable", name := "isTask", desc := "(IIII)Z" } : Jvm.MethodName)) ∈ lw_all := lw_g (lw_at lw_m3 202 rfl) rfl
theorem q801 : (Jvm.Cond.code ({ cls := "RapTable", name := "isTask", desc := "(IIII)Z" } : Jvm.MethodName) prog_1_method_42_code (5 : Nat) (Option.some Jvm.ClassFile.FieldType.boolean)) ∈ lw_all := lw_g (lw_at lw_m3 203 rfl) rfl
theorem q802 : (Jvm.Cond.methodLink "RapTable" (324 : Nat) ({ cls := "RapTable", name := "fit", desc := "(LRapTable$Way;IIIIII)I" } : Jvm.MethodName)) ∈ lw_all := lw_g (lw_at lw_m3 204 rfl) rfl
theorem q803 : (Jvm.Cond.privateMethod ({ cls := "RapTable", name := "fit", desc := "(LRapTable$Way;IIIIII)I" } : Jvm.MethodName)) ∈ lw_tbl := lw_at lw_m3 205 rfl
theorem q804 : (Jvm.Cond.instanceMethod ({ cls := "RapTable", name := "fit", desc := "(LRapTable$Way;IIIIII)I" } : Jvm.MethodName)) ∈ lw_all := lw_g (lw_at lw_m3 206 rfl) rfl
theorem q805 : (Jvm.Cond.code ({ cls := "RapTable", name := "fit", desc := "(LRapTable$Way;IIIIII)I" } : Jvm.MethodName) prog_1_method_41_code (9 : Nat) (Option.some Jvm.ClassFile.FieldType.int)) ∈ lw_all := lw_g (lw_at lw_m3 207 rfl) rfl
theorem q806 : (Jvm.Cond.methodLink "RapTable" (310 : Nat) ({ cls := "RapTable", name := "runs", desc := "(LRapTable$Way;II)Z" } : Jvm.MethodName)) ∈ lw_all := lw_g (lw_at lw_m3 208 rfl) rfl
theorem q807 : (Jvm.Cond.privateMethod ({ cls := "RapTable", name := "runs", desc := "(LRapTable$Way;II)Z" } : Jvm.MethodName)) ∈ lw_tbl := lw_at lw_m3 209 rfl
theorem q808 : (Jvm.Cond.instanceMethod ({ cls := "RapTable", name := "runs", desc := "(LRapTable$Way;II)Z" } : Jvm.MethodName)) ∈ lw_all := lw_g (lw_at lw_m3 210 rfl) rfl
theorem q809 : (Jvm.Cond.code ({ cls := "RapTable", name := "runs", desc := "(LRapTable$Way;II)Z" } : Jvm.MethodName) prog_1_method_40_code (7 : Nat) (Option.some Jvm.ClassFile.FieldType.boolean)) ∈ lw_all := lw_g (lw_at lw_m3 211 rfl) rfl
theorem q810 : (Jvm.Cond.classLink "RapTable" (295 : Nat) "RapTable$Step") ∈ lw_all := lw_g (lw_at lw_m3 212 rfl) rfl
theorem q811 : (Jvm.Cond.methodLink "RapTable" (297 : Nat) ({ cls := "RapTable$Step", name := "asks", desc := "()Z" } : Jvm.MethodName)) ∈ lw_all := lw_g (lw_at lw_m3 213 rfl) rfl
theorem q827 : (Jvm.Cond.methodLink "RapTable" (301 : Nat) ({ cls := "RapTable$Step", name := "goes", desc := "(LRapTable;LRapTable$Run;I)Z" } : Jvm.MethodName)) ∈ lw_all := lw_g (lw_at lw_m3 229 rfl) rfl
theorem q913 : (Jvm.Cond.methodLink "RapTable" (305 : Nat) ({ cls := "RapTable$Step", name := "seconds", desc := "()I" } : Jvm.MethodName)) ∈ lw_all := lw_g (lw_at lw_m4 75 rfl) rfl
theorem q926 : (Jvm.Cond.instanceMethod ({ cls := "RapTable", name := "feed", desc := "(IIIII)I" } : Jvm.MethodName)) ∈ lw_all := lw_g (lw_at lw_m4 88 rfl) rfl
theorem q927 : (Jvm.Cond.selects "RapTable" ({ cls := "RapTable", name := "feed", desc := "(IIIII)I" } : Jvm.MethodName) ({ cls := "RapTable", name := "feed", desc := "(IIIII)I" } : Jvm.MethodName)) ∈ lw_all := lw_g (lw_at lw_m4 89 rfl) rfl
theorem q928 : (Jvm.Cond.code ({ cls := "RapTable", name := "feed", desc := "(IIIII)I" } : Jvm.MethodName) prog_1_method_46_code (6 : Nat) (Option.some Jvm.ClassFile.FieldType.int)) ∈ lw_all := lw_g (lw_at lw_m4 90 rfl) rfl
theorem q929 : (Jvm.Cond.methodLink "RapTable" (331 : Nat) ({ cls := "RapTable", name := "bytes", desc := "(I)V" } : Jvm.MethodName)) ∈ lw_all := lw_g (lw_at lw_m4 91 rfl) rfl
theorem q930 : (Jvm.Cond.privateMethod ({ cls := "RapTable", name := "bytes", desc := "(I)V" } : Jvm.MethodName)) ∈ lw_tbl := lw_at lw_m4 92 rfl
theorem q931 : (Jvm.Cond.instanceMethod ({ cls := "RapTable", name := "bytes", desc := "(I)V" } : Jvm.MethodName)) ∈ lw_all := lw_g (lw_at lw_m4 93 rfl) rfl
theorem q932 : (Jvm.Cond.code ({ cls := "RapTable", name := "bytes", desc := "(I)V" } : Jvm.MethodName) prog_1_method_47_code (3 : Nat) (Option.none : Option Jvm.ClassFile.FieldType)) ∈ lw_all := lw_g (lw_at lw_m4 94 rfl) rfl
theorem q934 : (Jvm.Cond.instanceMethod ({ cls := "RapTable", name := "text", desc := "(I)I" } : Jvm.MethodName)) ∈ lw_all := lw_g (lw_at lw_m4 96 rfl) rfl
theorem q935 : (Jvm.Cond.selects "RapTable" ({ cls := "RapTable", name := "text", desc := "(I)I" } : Jvm.MethodName) ({ cls := "RapTable", name := "text", desc := "(I)I" } : Jvm.MethodName)) ∈ lw_all := lw_g (lw_at lw_m4 97 rfl) rfl
theorem q936 : (Jvm.Cond.code ({ cls := "RapTable", name := "text", desc := "(I)I" } : Jvm.MethodName) prog_1_method_48_code (3 : Nat) (Option.some Jvm.ClassFile.FieldType.int)) ∈ lw_all := lw_g (lw_at lw_m4 98 rfl) rfl
theorem q937 : (Jvm.Cond.classLink "RapTable" (334 : Nat) "RapTable$Reader") ∈ lw_all := lw_g (lw_at lw_m4 99 rfl) rfl
theorem q939 : (Jvm.Cond.methodLink "RapTable" (336 : Nat) ({ cls := "RapTable$Reader", name := "<init>", desc := "(LRapTable;I)V" } : Jvm.MethodName)) ∈ lw_all := lw_g (lw_at lw_m4 101 rfl) rfl
theorem q947 : (Jvm.Cond.fieldLinkNest "RapTable" (351 : Nat) "RapTable$Reader" "read" "Ljava/util/ArrayList;" "RapTable") ∈ lw_tbl := lw_at lw_m4 109 rfl
theorem q953 : (Jvm.Cond.fieldLinkNest "RapTable" (342 : Nat) "RapTable$Reader" "fault" "I" "RapTable") ∈ lw_tbl := lw_at lw_m4 115 rfl
theorem q955 : (Jvm.Cond.fieldLinkNest "RapTable" (348 : Nat) "RapTable$Reader" "place" "I" "RapTable") ∈ lw_tbl := lw_at lw_m4 117 rfl
theorem q957 : (Jvm.Cond.fieldLinkNest "RapTable" (354 : Nat) "RapTable$Reader" "readLoss" "I" "RapTable") ∈ lw_tbl := lw_at lw_m4 119 rfl
theorem q959 : (Jvm.Cond.fieldLinkNest "RapTable" (360 : Nat) "RapTable$Reader" "readSmooth" "I" "RapTable") ∈ lw_tbl := lw_at lw_m4 121 rfl
theorem q984 : (Jvm.Cond.methodLink "RapTable" (339 : Nat) ({ cls := "RapTable$Reader", name := "all", desc := "()V" } : Jvm.MethodName)) ∈ lw_all := lw_g (lw_at lw_m4 146 rfl) rfl
theorem q1104 : (Jvm.Cond.fieldLinkNest "RapTable" (292 : Nat) "RapTable$Way" "steps" "Ljava/util/ArrayList;" "RapTable") ∈ lw_tbl := lw_at lw_m5 26 rfl
theorem q1106 : (Jvm.Cond.fieldLinkNest "RapTable" (281 : Nat) "RapTable$Way" "seconds" "I" "RapTable") ∈ lw_tbl := lw_at lw_m5 28 rfl
theorem q1227 : (Jvm.Cond.instanceMethod ({ cls := "RapTable", name := "fault", desc := "(I)I" } : Jvm.MethodName)) ∈ lw_all := lw_g (lw_at lw_m5 149 rfl) rfl
theorem q1228 : (Jvm.Cond.selects "RapTable" ({ cls := "RapTable", name := "fault", desc := "(I)I" } : Jvm.MethodName) ({ cls := "RapTable", name := "fault", desc := "(I)I" } : Jvm.MethodName)) ∈ lw_all := lw_g (lw_at lw_m5 150 rfl) rfl
theorem q1229 : (Jvm.Cond.code ({ cls := "RapTable", name := "fault", desc := "(I)I" } : Jvm.MethodName) prog_1_method_49_code (2 : Nat) (Option.some Jvm.ClassFile.FieldType.int)) ∈ lw_all := lw_g (lw_at lw_m5 151 rfl) rfl
theorem q1231 : (Jvm.Cond.instanceMethod ({ cls := "RapTable", name := "report", desc := "(IIIIIII)I" } : Jvm.MethodName)) ∈ lw_all := lw_g (lw_at lw_m5 153 rfl) rfl
theorem q1232 : (Jvm.Cond.selects "RapTable" ({ cls := "RapTable", name := "report", desc := "(IIIIIII)I" } : Jvm.MethodName) ({ cls := "RapTable", name := "report", desc := "(IIIIIII)I" } : Jvm.MethodName)) ∈ lw_all := lw_g (lw_at lw_m5 154 rfl) rfl
theorem q1233 : (Jvm.Cond.code ({ cls := "RapTable", name := "report", desc := "(IIIIIII)I" } : Jvm.MethodName) prog_1_method_52_code (9 : Nat) (Option.some Jvm.ClassFile.FieldType.int)) ∈ lw_all := lw_g (lw_at lw_m5 155 rfl) rfl
theorem q1234 : (Jvm.Cond.constantLong "RapTable" (374 : Nat) (30 : Int64)) ∈ lw_all := lw_g (lw_at lw_m5 156 rfl) rfl
theorem q1235 : (Jvm.Cond.classLink "RapTable" (372 : Nat) "RapTable$Came") ∈ lw_all := lw_g (lw_at lw_m5 157 rfl) rfl
theorem q1237 : (Jvm.Cond.methodLink "RapTable" (376 : Nat) ({ cls := "RapTable$Came", name := "<init>", desc := "(LRapTable;IIIIII)V" } : Jvm.MethodName)) ∈ lw_all := lw_g (lw_at lw_m5 159 rfl) rfl
theorem q1245 : (Jvm.Cond.fieldLinkNest "RapTable" (402 : Nat) "RapTable$Came" "thing" "I" "RapTable") ∈ lw_tbl := lw_at lw_m5 167 rfl
theorem q1247 : (Jvm.Cond.fieldLinkNest "RapTable" (413 : Nat) "RapTable$Came" "spot" "I" "RapTable") ∈ lw_tbl := lw_at lw_m5 169 rfl
theorem q1254 : (Jvm.Cond.fieldLink "RapTable" (419 : Nat) "RapTable$Report" "person" "I") ∈ lw_all := lw_g (lw_at lw_m5 176 rfl) rfl
theorem q1261 : (Jvm.Cond.fieldLink "RapTable" (407 : Nat) "RapTable$Came" "a" "I") ∈ lw_all := lw_g (lw_at lw_m5 183 rfl) rfl
theorem q1268 : (Jvm.Cond.fieldLink "RapTable" (410 : Nat) "RapTable$Came" "b" "I") ∈ lw_all := lw_g (lw_at lw_m5 190 rfl) rfl
theorem q1292 : (Jvm.Cond.classLink "RapTable" (379 : Nat) "RapTable$Held") ∈ lw_all := lw_g (lw_at lw_m5 214 rfl) rfl
theorem q1294 : (Jvm.Cond.methodLink "RapTable" (381 : Nat) ({ cls := "RapTable$Held", name := "<init>", desc := "(LRapTable;IIIII)V" } : Jvm.MethodName)) ∈ lw_all := lw_g (lw_at lw_m5 216 rfl) rfl
theorem q1311 : (Jvm.Cond.instanceMethod ({ cls := "RapTable", name := "right", desc := "(I)I" } : Jvm.MethodName)) ∈ lw_all := lw_g (lw_at lw_m5 233 rfl) rfl
theorem q1312 : (Jvm.Cond.selects "RapTable" ({ cls := "RapTable", name := "right", desc := "(I)I" } : Jvm.MethodName) ({ cls := "RapTable", name := "right", desc := "(I)I" } : Jvm.MethodName)) ∈ lw_all := lw_g (lw_at lw_m5 234 rfl) rfl
theorem q1313 : (Jvm.Cond.code ({ cls := "RapTable", name := "right", desc := "(I)I" } : Jvm.MethodName) prog_1_method_53_code (2 : Nat) (Option.some Jvm.ClassFile.FieldType.int)) ∈ lw_all := lw_g (lw_at lw_m5 235 rfl) rfl
theorem q1314 : (Jvm.Cond.methodLink "RapTable" (368 : Nat) ({ cls := "RapTable", name := "report", desc := "(I)LRapTable$Report;" } : Jvm.MethodName)) ∈ lw_all := lw_g (lw_at lw_m5 236 rfl) rfl
theorem q1315 : (Jvm.Cond.privateMethod ({ cls := "RapTable", name := "report", desc := "(I)LRapTable$Report;" } : Jvm.MethodName)) ∈ lw_tbl := lw_at lw_m5 237 rfl
theorem q1316 : (Jvm.Cond.instanceMethod ({ cls := "RapTable", name := "report", desc := "(I)LRapTable$Report;" } : Jvm.MethodName)) ∈ lw_all := lw_g (lw_at lw_m5 238 rfl) rfl
theorem q1317 : (Jvm.Cond.code ({ cls := "RapTable", name := "report", desc := "(I)LRapTable$Report;" } : Jvm.MethodName) prog_1_method_50_code (2 : Nat) (Option.some (Jvm.ClassFile.FieldType.object "RapTable$Report"))) ∈ lw_all := lw_g (lw_at lw_m5 239 rfl) rfl
theorem q1318 : (Jvm.Cond.classLink "RapTable" (366 : Nat) "RapTable$Report") ∈ lw_all := lw_g (lw_at lw_m6 0 rfl) rfl
theorem q1319 : (Jvm.Cond.methodLink "RapTable" (384 : Nat) ({ cls := "RapTable$Report", name := "isRight", desc := "()Z" } : Jvm.MethodName)) ∈ lw_all := lw_g (lw_at lw_m6 1 rfl) rfl
theorem q1340 : (Jvm.Cond.instanceMethod ({ cls := "RapTable", name := "honest", desc := "(I)I" } : Jvm.MethodName)) ∈ lw_all := lw_g (lw_at lw_m6 22 rfl) rfl
theorem q1341 : (Jvm.Cond.selects "RapTable" ({ cls := "RapTable", name := "honest", desc := "(I)I" } : Jvm.MethodName) ({ cls := "RapTable", name := "honest", desc := "(I)I" } : Jvm.MethodName)) ∈ lw_all := lw_g (lw_at lw_m6 23 rfl) rfl
theorem q1342 : (Jvm.Cond.code ({ cls := "RapTable", name := "honest", desc := "(I)I" } : Jvm.MethodName) prog_1_method_54_code (2 : Nat) (Option.some Jvm.ClassFile.FieldType.int)) ∈ lw_all := lw_g (lw_at lw_m6 24 rfl) rfl
theorem q1343 : (Jvm.Cond.methodLink "RapTable" (387 : Nat) ({ cls := "RapTable$Report", name := "isHonest", desc := "()Z" } : Jvm.MethodName)) ∈ lw_all := lw_g (lw_at lw_m6 25 rfl) rfl
theorem q1354 : (Jvm.Cond.instanceMethod ({ cls := "RapTable", name := "agree", desc := "(II)I" } : Jvm.MethodName)) ∈ lw_all := lw_g (lw_at lw_m6 36 rfl) rfl
theorem q1355 : (Jvm.Cond.selects "RapTable" ({ cls := "RapTable", name := "agree", desc := "(II)I" } : Jvm.MethodName) ({ cls := "RapTable", name := "agree", desc := "(II)I" } : Jvm.MethodName)) ∈ lw_all := lw_g (lw_at lw_m6 37 rfl) rfl
theorem q1356 : (Jvm.Cond.code ({ cls := "RapTable", name := "agree", desc := "(II)I" } : Jvm.MethodName) prog_1_method_55_code (3 : Nat) (Option.some Jvm.ClassFile.FieldType.int)) ∈ lw_all := lw_g (lw_at lw_m6 38 rfl) rfl
theorem q1357 : (Jvm.Cond.methodLink "RapTable" (390 : Nat) ({ cls := "RapTable$Report", name := "agrees", desc := "(LRapTable$Report;)Z" } : Jvm.MethodName)) ∈ lw_all := lw_g (lw_at lw_m6 39 rfl) rfl
theorem q1369 : (Jvm.Cond.instanceMethod ({ cls := "RapTable", name := "stories", desc := "(IZI)I" } : Jvm.MethodName)) ∈ lw_all := lw_g (lw_at lw_m6 51 rfl) rfl
theorem q1370 : (Jvm.Cond.selects "RapTable" ({ cls := "RapTable", name := "stories", desc := "(IZI)I" } : Jvm.MethodName) ({ cls := "RapTable", name := "stories", desc := "(IZI)I" } : Jvm.MethodName)) ∈ lw_all := lw_g (lw_at lw_m6 52 rfl) rfl
theorem q1371 : (Jvm.Cond.code ({ cls := "RapTable", name := "stories", desc := "(IZI)I" } : Jvm.MethodName) prog_1_method_56_code (10 : Nat) (Option.some Jvm.ClassFile.FieldType.int)) ∈ lw_all := lw_g (lw_at lw_m6 53 rfl) rfl
theorem q1372 : (Jvm.Cond.methodLink "RapTable" (394 : Nat) ({ cls := "RapTable", name := "came", desc := "(I)LRapTable$Came;" } : Jvm.MethodName)) ∈ lw_all := lw_g (lw_at lw_m6 54 rfl) rfl
theorem q1373 : (Jvm.Cond.privateMethod ({ cls := "RapTable", name := "came", desc := "(I)LRapTable$Came;" } : Jvm.MethodName)) ∈ lw_tbl := lw_at lw_m6 55 rfl
theorem q1374 : (Jvm.Cond.instanceMethod ({ cls := "RapTable", name := "came", desc := "(I)LRapTable$Came;" } : Jvm.MethodName)) ∈ lw_all := lw_g (lw_at lw_m6 56 rfl) rfl
theorem q1375 : (Jvm.Cond.code ({ cls := "RapTable", name := "came", desc := "(I)LRapTable$Came;" } : Jvm.MethodName) prog_1_method_51_code (2 : Nat) (Option.some (Jvm.ClassFile.FieldType.object "RapTable$Came"))) ∈ lw_all := lw_g (lw_at lw_m6 57 rfl) rfl
theorem q1376 : (Jvm.Cond.methodLink "RapTable" (398 : Nat) ({ cls := "RapTable$Came", name := "isStory", desc := "(LRapTable$Way;IZ)Z" } : Jvm.MethodName)) ∈ lw_all := lw_g (lw_at lw_m6 58 rfl) rfl
theorem q1383 : (Jvm.Cond.instanceMethod ({ cls := "RapTable", name := "least", desc := "(II)I" } : Jvm.MethodName)) ∈ lw_all := lw_g (lw_at lw_m6 65 rfl) rfl
theorem q1384 : (Jvm.Cond.selects "RapTable" ({ cls := "RapTable", name := "least", desc := "(II)I" } : Jvm.MethodName) ({ cls := "RapTable", name := "least", desc := "(II)I" } : Jvm.MethodName)) ∈ lw_all := lw_g (lw_at lw_m6 66 rfl) rfl
theorem q1385 : (Jvm.Cond.code ({ cls := "RapTable", name := "least", desc := "(II)I" } : Jvm.MethodName) prog_1_method_57_code (11 : Nat) (Option.some Jvm.ClassFile.FieldType.int)) ∈ lw_all := lw_g (lw_at lw_m6 67 rfl) rfl
theorem q1386 : (Jvm.Cond.methodLink "RapTable" (403 : Nat) ({ cls := "RapTable", name := "stories", desc := "(IZI)I" } : Jvm.MethodName)) ∈ lw_all := lw_g (lw_at lw_m6 68 rfl) rfl
theorem q1387 : (Jvm.Cond.methodLink "RapTable" (414 : Nat) ({ cls := "java/lang/Integer", name := "bitCount", desc := "(I)I" } : Jvm.MethodName)) ∈ lw_all := lw_g (lw_at lw_m6 69 rfl) rfl
theorem q1394 : (Jvm.Cond.instanceMethod ({ cls := "RapTable", name := "record", desc := "(II)I" } : Jvm.MethodName)) ∈ lw_all := lw_g (lw_at lw_m6 76 rfl) rfl
theorem q1395 : (Jvm.Cond.selects "RapTable" ({ cls := "RapTable", name := "record", desc := "(II)I" } : Jvm.MethodName) ({ cls := "RapTable", name := "record", desc := "(II)I" } : Jvm.MethodName)) ∈ lw_all := lw_g (lw_at lw_m6 77 rfl) rfl
theorem q1396 : (Jvm.Cond.code ({ cls := "RapTable", name := "record", desc := "(II)I" } : Jvm.MethodName) prog_1_method_58_code (8 : Nat) (Option.some Jvm.ClassFile.FieldType.int)) ∈ lw_all := lw_g (lw_at lw_m6 78 rfl) rfl
theorem q1398 : (Jvm.Cond.instanceMethod ({ cls := "RapTable", name := "pass", desc := "(IIIIII)I" } : Jvm.MethodName)) ∈ lw_all := lw_g (lw_at lw_m6 80 rfl) rfl
theorem q1399 : (Jvm.Cond.selects "RapTable" ({ cls := "RapTable", name := "pass", desc := "(IIIIII)I" } : Jvm.MethodName) ({ cls := "RapTable", name := "pass", desc := "(IIIIII)I" } : Jvm.MethodName)) ∈ lw_all := lw_g (lw_at lw_m6 81 rfl) rfl
theorem q1400 : (Jvm.Cond.code ({ cls := "RapTable", name := "pass", desc := "(IIIIII)I" } : Jvm.MethodName) prog_1_method_59_code (9 : Nat) (Option.some Jvm.ClassFile.FieldType.int)) ∈ lw_all := lw_g (lw_at lw_m6 82 rfl) rfl
theorem q1401 : (Jvm.Cond.methodLink "RapTable" (420 : Nat) ({ cls := "RapTable$Pass", name := "look", desc := "()V" } : Jvm.MethodName)) ∈ lw_all := lw_g (lw_at lw_m6 83 rfl) rfl
theorem q1408 : (Jvm.Cond.methodLink "RapTable" (423 : Nat) ({ cls := "RapTable$Pass", name := "gather", desc := "(I)V" } : Jvm.MethodName)) ∈ lw_all := lw_g (lw_at lw_m6 90 rfl) rfl
theorem q1417 : (Jvm.Cond.methodLink "RapTable" (426 : Nat) ({ cls := "RapTable$Pass", name := "seek", desc := "(IIII)I" } : Jvm.MethodName)) ∈ lw_all := lw_g (lw_at lw_m6 99 rfl) rfl
theorem q1429 : (Jvm.Cond.methodLink "RapTable" (430 : Nat) ({ cls := "RapTable$Pass", name := "lay", desc := "(I)V" } : Jvm.MethodName)) ∈ lw_all := lw_g (lw_at lw_m6 111 rfl) rfl
theorem q1438 : (Jvm.Cond.instanceMethod ({ cls := "RapTable", name := "culprits", desc := "(I)I" } : Jvm.MethodName)) ∈ lw_all := lw_g (lw_at lw_m6 120 rfl) rfl
theorem q1439 : (Jvm.Cond.selects "RapTable" ({ cls := "RapTable", name := "culprits", desc := "(I)I" } : Jvm.MethodName) ({ cls := "RapTable", name := "culprits", desc := "(I)I" } : Jvm.MethodName)) ∈ lw_all := lw_g (lw_at lw_m6 121 rfl) rfl
theorem q1440 : (Jvm.Cond.code ({ cls := "RapTable", name := "culprits", desc := "(I)I" } : Jvm.MethodName) prog_1_method_61_code (6 : Nat) (Option.some Jvm.ClassFile.FieldType.int)) ∈ lw_all := lw_g (lw_at lw_m6 122 rfl) rfl
theorem q1441 : (Jvm.Cond.methodLink "RapTable" (436 : Nat) ({ cls := "RapTable", name := "isExplained", desc := "(LRapTable$Came;)Z" } : Jvm.MethodName)) ∈ lw_all := lw_g (lw_at lw_m6 123 rfl) rfl
theorem q1442 : (Jvm.Cond.privateMethod ({ cls := "RapTable", name := "isExplained", desc := "(LRapTable$Came;)Z" } : Jvm.MethodName)) ∈ lw_tbl := lw_at lw_m6 124 rfl
theorem q1443 : (Jvm.Cond.instanceMethod ({ cls := "RapTable", name := "isExplained", desc := "(LRapTable$Came;)Z" } : Jvm.MethodName)) ∈ lw_all := lw_g (lw_at lw_m6 125 rfl) rfl
theorem q1444 : (Jvm.Cond.code ({ cls := "RapTable", name := "isExplained", desc := "(LRapTable$Came;)Z" } : Jvm.MethodName) prog_1_method_60_code (2 : Nat) (Option.some Jvm.ClassFile.FieldType.boolean)) ∈ lw_all := lw_g (lw_at lw_m6 126 rfl) rfl
theorem q1446 : (Jvm.Cond.instanceMethod ({ cls := "RapTable", name := "control", desc := "(IIIIII)I" } : Jvm.MethodName)) ∈ lw_all := lw_g (lw_at lw_m6 128 rfl) rfl
theorem q1447 : (Jvm.Cond.selects "RapTable" ({ cls := "RapTable", name := "control", desc := "(IIIIII)I" } : Jvm.MethodName) ({ cls := "RapTable", name := "control", desc := "(IIIIII)I" } : Jvm.MethodName)) ∈ lw_all := lw_g (lw_at lw_m6 129 rfl) rfl
theorem q1448 : (Jvm.Cond.code ({ cls := "RapTable", name := "control", desc := "(IIIIII)I" } : Jvm.MethodName) prog_1_method_62_code (8 : Nat) (Option.some Jvm.ClassFile.FieldType.int)) ∈ lw_all := lw_g (lw_at lw_m6 130 rfl) rfl
theorem q1449 : (Jvm.Cond.constantLong "RapTable" (440 : Nat) (1000 : Int64)) ∈ lw_all := lw_g (lw_at lw_m6 131 rfl) rfl
theorem q1450 : (Jvm.Cond.classLink "RapTable" (442 : Nat) "RapTable$Tie") ∈ lw_all := lw_g (lw_at lw_m6 132 rfl) rfl
theorem q1452 : (Jvm.Cond.methodLink "RapTable" (444 : Nat) ({ cls := "RapTable$Tie", name := "<init>", desc := "(LRapTable;IIII)V" } : Jvm.MethodName)) ∈ lw_all := lw_g (lw_at lw_m6 134 rfl) rfl
theorem q1464 : (Jvm.Cond.fieldLink "RapTable" (464 : Nat) "RapTable$Control" "cost" "I") ∈ lw_all := lw_g (lw_at lw_m6 146 rfl) rfl
theorem q1479 : (Jvm.Cond.classLink "RapTable" (447 : Nat) "RapTable$Lamp") ∈ lw_all := lw_g (lw_at lw_m6 161 rfl) rfl
theorem q1481 : (Jvm.Cond.methodLink "RapTable" (449 : Nat) ({ cls := "RapTable$Lamp", name := "<init>", desc := "(LRapTable;IIII)V" } : Jvm.MethodName)) ∈ lw_all := lw_g (lw_at lw_m6 163 rfl) rfl
theorem q1496 : (Jvm.Cond.classLink "RapTable" (450 : Nat) "RapTable$Watch") ∈ lw_all := lw_g (lw_at lw_m6 178 rfl) rfl
theorem q1498 : (Jvm.Cond.methodLink "RapTable" (452 : Nat) ({ cls := "RapTable$Watch", name := "<init>", desc := "(LRapTable;IIIII)V" } : Jvm.MethodName)) ∈ lw_all := lw_g (lw_at lw_m6 180 rfl) rfl
theorem q1517 : (Jvm.Cond.instanceMethod ({ cls := "RapTable", name := "closes", desc := "(IIIII)I" } : Jvm.MethodName)) ∈ lw_all := lw_g (lw_at lw_m6 199 rfl) rfl
theorem q1518 : (Jvm.Cond.selects "RapTable" ({ cls := "RapTable", name := "closes", desc := "(IIIII)I" } : Jvm.MethodName) ({ cls := "RapTable", name := "closes", desc := "(IIIII)I" } : Jvm.MethodName)) ∈ lw_all := lw_g (lw_at lw_m6 200 rfl) rfl
theorem q1519 : (Jvm.Cond.code ({ cls := "RapTable", name := "closes", desc := "(IIIII)I" } : Jvm.MethodName) prog_1_method_66_code (6 : Nat) (Option.some Jvm.ClassFile.FieldType.int)) ∈ lw_all := lw_g (lw_at lw_m6 201 rfl) rfl
theorem q1520 : (Jvm.Cond.methodLink "RapTable" (457 : Nat) ({ cls := "RapTable", name := "areControls", desc := "(I)Z" } : Jvm.MethodName)) ∈ lw_all := lw_g (lw_at lw_m6 202 rfl) rfl
theorem q1521 : (Jvm.Cond.privateMethod ({ cls := "RapTable", name := "areControls", desc := "(I)Z" } : Jvm.MethodName)) ∈ lw_tbl := lw_at lw_m6 203 rfl
theorem q1522 : (Jvm.Cond.instanceMethod ({ cls := "RapTable", name := "areControls", desc := "(I)Z" } : Jvm.MethodName)) ∈ lw_all := lw_g (lw_at lw_m6 204 rfl) rfl
theorem q1523 : (Jvm.Cond.code ({ cls := "RapTable", name := "areControls", desc := "(I)Z" } : Jvm.MethodName) prog_1_method_63_code (2 : Nat) (Option.some Jvm.ClassFile.FieldType.boolean)) ∈ lw_all := lw_g (lw_at lw_m6 205 rfl) rfl
theorem q1524 : (Jvm.Cond.methodLink "RapTable" (460 : Nat) ({ cls := "RapTable", name := "isClosed", desc := "(IIIII)Z" } : Jvm.MethodName)) ∈ lw_all := lw_g (lw_at lw_m6 206 rfl) rfl
theorem q1525 : (Jvm.Cond.privateMethod ({ cls := "RapTable", name := "isClosed", desc := "(IIIII)Z" } : Jvm.MethodName)) ∈ lw_tbl := lw_at lw_m6 207 rfl
theorem q1526 : (Jvm.Cond.instanceMethod ({ cls := "RapTable", name := "isClosed", desc := "(IIIII)Z" } : Jvm.MethodName)) ∈ lw_all := lw_g (lw_at lw_m6 208 rfl) rfl
theorem q1527 : (Jvm.Cond.code ({ cls := "RapTable", name := "isClosed", desc := "(IIIII)Z" } : Jvm.MethodName) prog_1_method_65_code (8 : Nat) (Option.some Jvm.ClassFile.FieldType.boolean)) ∈ lw_all := lw_g (lw_at lw_m6 209 rfl) rfl
theorem q1528 : (Jvm.Cond.methodLink "RapTable" (453 : Nat) ({ cls := "RapTable", name := "fitsUnder", desc := "(ILRapTable$Way;IIIII)Z" } : Jvm.MethodName)) ∈ lw_all := lw_g (lw_at lw_m6 210 rfl) rfl
theorem q1529 : (Jvm.Cond.privateMethod ({ cls := "RapTable", name := "fitsUnder", desc := "(ILRapTable$Way;IIIII)Z" } : Jvm.MethodName)) ∈ lw_tbl := lw_at lw_m6 211 rfl
theorem q1530 : (Jvm.Cond.instanceMethod ({ cls := "RapTable", name := "fitsUnder", desc := "(ILRapTable$Way;IIIII)Z" } : Jvm.MethodName)) ∈ lw_all := lw_g (lw_at lw_m6 212 rfl) rfl
theorem q1531 : (Jvm.Cond.code ({ cls := "RapTable", name := "fitsUnder", desc := "(ILRapTable$Way;IIIII)Z" } : Jvm.MethodName) prog_1_method_64_code (9 : Nat) (Option.some Jvm.ClassFile.FieldType.boolean)) ∈ lw_all := lw_g (lw_at lw_m6 213 rfl) rfl
theorem q1533 : (Jvm.Cond.instanceMethod ({ cls := "RapTable", name := "cheapest", desc := "(IIIII)I" } : Jvm.MethodName)) ∈ lw_all := lw_g (lw_at lw_m6 215 rfl) rfl
theorem q1534 : (Jvm.Cond.selects "RapTable" ({ cls := "RapTable", name := "cheapest", desc := "(IIIII)I" } : Jvm.MethodName) ({ cls := "RapTable", name := "cheapest", desc := "(IIIII)I" } : Jvm.MethodName)) ∈ lw_all := lw_g (lw_at lw_m6 216 rfl) rfl
theorem q1535 : (Jvm.Cond.code ({ cls := "RapTable", name := "cheapest", desc := "(IIIII)I" } : Jvm.MethodName) prog_1_method_68_code (8 : Nat) (Option.some Jvm.ClassFile.FieldType.int)) ∈ lw_all := lw_g (lw_at lw_m6 217 rfl) rfl
theorem q1536 : (Jvm.Cond.methodLink "RapTable" (467 : Nat) ({ cls := "RapTable", name := "costOf", desc := "(I)I" } : Jvm.MethodName)) ∈ lw_all := lw_g (lw_at lw_m6 218 rfl) rfl
theorem q1537 : (Jvm.Cond.privateMethod ({ cls := "RapTable", name := "costOf", desc := "(I)I" } : Jvm.MethodName)) ∈ lw_tbl := lw_at lw_m6 219 rfl
theorem q1538 : (Jvm.Cond.instanceMethod ({ cls := "RapTable", name := "costOf", desc := "(I)I" } : Jvm.MethodName)) ∈ lw_all := lw_g (lw_at lw_m6 220 rfl) rfl
theorem q1539 : (Jvm.Cond.code ({ cls := "RapTable", name := "costOf", desc := "(I)I" } : Jvm.MethodName) prog_1_method_67_code (4 : Nat) (Option.some Jvm.ClassFile.FieldType.int)) ∈ lw_all := lw_g (lw_at lw_m6 221 rfl) rfl
theorem q1541 : (Jvm.Cond.instanceMethod ({ cls := "RapTable", name := "opens", desc := "(IIIII)I" } : Jvm.MethodName)) ∈ lw_all := lw_g (lw_at lw_m6 223 rfl) rfl
theorem q1542 : (Jvm.Cond.selects "RapTable" ({ cls := "RapTable", name := "opens", desc := "(IIIII)I" } : Jvm.MethodName) ({ cls := "RapTable", name := "opens", desc := "(IIIII)I" } : Jvm.MethodName)) ∈ lw_all := lw_g (lw_at lw_m6 224 rfl) rfl
theorem q1543 : (Jvm.Cond.code ({ cls := "RapTable", name := "opens", desc := "(IIIII)I" } : Jvm.MethodName) prog_1_method_69_code (9 : Nat) (Option.some Jvm.ClassFile.FieldType.int)) ∈ lw_all := lw_g (lw_at lw_m6 225 rfl) rfl
theorem q1545 : (Jvm.Cond.instanceMethod ({ cls := "RapTable", name := "next", desc := "(II)I" } : Jvm.MethodName)) ∈ lw_all := lw_g (lw_at lw_m6 227 rfl) rfl
theorem q1546 : (Jvm.Cond.selects "RapTable" ({ cls := "RapTable", name := "next", desc := "(II)I" } : Jvm.MethodName) ({ cls := "RapTable", name := "next", desc := "(II)I" } : Jvm.MethodName)) ∈ lw_all := lw_g (lw_at lw_m6 228 rfl) rfl
theorem q1547 : (Jvm.Cond.code ({ cls := "RapTable", name := "next", desc := "(II)I" } : Jvm.MethodName) prog_1_method_70_code (11 : Nat) (Option.some Jvm.ClassFile.FieldType.int)) ∈ lw_all := lw_g (lw_at lw_m6 229 rfl) rfl
theorem q1548 : (Jvm.Cond.methodLink "RapTable" (470 : Nat) ({ cls := "java/lang/Math", name := "min", desc := "(II)I" } : Jvm.MethodName)) ∈ lw_all := lw_g (lw_at lw_m6 230 rfl) rfl
theorem q1550 : (Jvm.Cond.instanceMethod ({ cls := "RapTable", name := "trial", desc := "(II)I" } : Jvm.MethodName)) ∈ lw_all := lw_g (lw_at lw_m6 232 rfl) rfl
theorem q1551 : (Jvm.Cond.selects "RapTable" ({ cls := "RapTable", name := "trial", desc := "(II)I" } : Jvm.MethodName) ({ cls := "RapTable", name := "trial", desc := "(II)I" } : Jvm.MethodName)) ∈ lw_all := lw_g (lw_at lw_m6 233 rfl) rfl
theorem q1552 : (Jvm.Cond.code ({ cls := "RapTable", name := "trial", desc := "(II)I" } : Jvm.MethodName) prog_1_method_71_code (3 : Nat) (Option.some Jvm.ClassFile.FieldType.int)) ∈ lw_all := lw_g (lw_at lw_m6 234 rfl) rfl
theorem q1553 : (Jvm.Cond.constantLong "RapTable" (473 : Nat) (20 : Int64)) ∈ lw_all := lw_g (lw_at lw_m6 235 rfl) rfl
theorem q1555 : (Jvm.Cond.instanceMethod ({ cls := "RapTable", name := "luck", desc := "(I)J" } : Jvm.MethodName)) ∈ lw_all := lw_g (lw_at lw_m6 237 rfl) rfl
theorem q1556 : (Jvm.Cond.selects "RapTable" ({ cls := "RapTable", name := "luck", desc := "(I)J" } : Jvm.MethodName) ({ cls := "RapTable", name := "luck", desc := "(I)J" } : Jvm.MethodName)) ∈ lw_all := lw_g (lw_at lw_m6 238 rfl) rfl
theorem q1557 : (Jvm.Cond.code ({ cls := "RapTable", name := "luck", desc := "(I)J" } : Jvm.MethodName) prog_1_method_72_code (5 : Nat) (Option.some Jvm.ClassFile.FieldType.long)) ∈ lw_all := lw_g (lw_at lw_m6 239 rfl) rfl
theorem q1558 : (Jvm.Cond.constantLong "RapTable" (475 : Nat) (-1 : Int64)) ∈ lw_all := lw_g (lw_at lw_m7 0 rfl) rfl
theorem q1560 : (Jvm.Cond.instanceMethod ({ cls := "RapTable", name := "chance", desc := "(II)I" } : Jvm.MethodName)) ∈ lw_all := lw_g (lw_at lw_m7 2 rfl) rfl
theorem q1561 : (Jvm.Cond.selects "RapTable" ({ cls := "RapTable", name := "chance", desc := "(II)I" } : Jvm.MethodName) ({ cls := "RapTable", name := "chance", desc := "(II)I" } : Jvm.MethodName)) ∈ lw_all := lw_g (lw_at lw_m7 3 rfl) rfl
theorem q1562 : (Jvm.Cond.code ({ cls := "RapTable", name := "chance", desc := "(II)I" } : Jvm.MethodName) prog_1_method_74_code (8 : Nat) (Option.some Jvm.ClassFile.FieldType.int)) ∈ lw_all := lw_g (lw_at lw_m7 4 rfl) rfl
theorem q1563 : (Jvm.Cond.constantLong "RapTable" (483 : Nat) (100 : Int64)) ∈ lw_all := lw_g (lw_at lw_m7 5 rfl) rfl
theorem q1564 : (Jvm.Cond.constantLong "RapTable" (477 : Nat) (1000000 : Int64)) ∈ lw_all := lw_g (lw_at lw_m7 6 rfl) rfl
theorem q1565 : (Jvm.Cond.constant "RapTable" (485 : Nat) (1000000 : Int32)) ∈ lw_all := lw_g (lw_at lw_m7 7 rfl) rfl
theorem q1566 : (Jvm.Cond.methodLink "RapTable" (486 : Nat) ({ cls := "RapTable", name := "chanceOf", desc := "(I)I" } : Jvm.MethodName)) ∈ lw_all := lw_g (lw_at lw_m7 8 rfl) rfl
theorem q1567 : (Jvm.Cond.privateMethod ({ cls := "RapTable", name := "chanceOf", desc := "(I)I" } : Jvm.MethodName)) ∈ lw_tbl := lw_at lw_m7 9 rfl
theorem q1568 : (Jvm.Cond.instanceMethod ({ cls := "RapTable", name := "chanceOf", desc := "(I)I" } : Jvm.MethodName)) ∈ lw_all := lw_g (lw_at lw_m7 10 rfl) rfl
theorem q1569 : (Jvm.Cond.code ({ cls := "RapTable", name := "chanceOf", desc := "(I)I" } : Jvm.MethodName) prog_1_method_73_code (2 : Nat) (Option.some Jvm.ClassFile.FieldType.int)) ∈ lw_all := lw_g (lw_at lw_m7 11 rfl) rfl
theorem q1570 : (Jvm.Cond.methodLink "RapTable" (479 : Nat) ({ cls := "RapTable", name := "luck", desc := "(I)J" } : Jvm.MethodName)) ∈ lw_all := lw_g (lw_at lw_m7 12 rfl) rfl
theorem q1572 : (Jvm.Cond.instanceMethod ({ cls := "RapTable", name := "ease", desc := "(II)I" } : Jvm.MethodName)) ∈ lw_all := lw_g (lw_at lw_m7 14 rfl) rfl
theorem q1573 : (Jvm.Cond.selects "RapTable" ({ cls := "RapTable", name := "ease", desc := "(II)I" } : Jvm.MethodName) ({ cls := "RapTable", name := "ease", desc := "(II)I" } : Jvm.MethodName)) ∈ lw_all := lw_g (lw_at lw_m7 15 rfl) rfl
theorem q1574 : (Jvm.Cond.code ({ cls := "RapTable", name := "ease", desc := "(II)I" } : Jvm.MethodName) prog_1_method_76_code (5 : Nat) (Option.some Jvm.ClassFile.FieldType.int)) ∈ lw_all := lw_g (lw_at lw_m7 16 rfl) rfl
theorem q1575 : (Jvm.Cond.methodLink "RapTable" (489 : Nat) ({ cls := "RapTable", name := "isEase", desc := "(II)Z" } : Jvm.MethodName)) ∈ lw_all := lw_g (lw_at lw_m7 17 rfl) rfl
theorem q1576 : (Jvm.Cond.privateMethod ({ cls := "RapTable", name := "isEase", desc := "(II)Z" } : Jvm.MethodName)) ∈ lw_tbl := lw_at lw_m7 18 rfl
theorem q1577 : (Jvm.Cond.instanceMethod ({ cls := "RapTable", name := "isEase", desc := "(II)Z" } : Jvm.MethodName)) ∈ lw_all := lw_g (lw_at lw_m7 19 rfl) rfl
theorem q1578 : (Jvm.Cond.code ({ cls := "RapTable", name := "isEase", desc := "(II)Z" } : Jvm.MethodName) prog_1_method_75_code (5 : Nat) (Option.some Jvm.ClassFile.FieldType.boolean)) ∈ lw_all := lw_g (lw_at lw_m7 20 rfl) rfl
theorem q1580 : (Jvm.Cond.instanceMethod ({ cls := "RapTable", name := "fair", desc := "(IIIIIII)I" } : Jvm.MethodName)) ∈ lw_all := lw_g (lw_at lw_m7 22 rfl) rfl
theorem q1581 : (Jvm.Cond.selects "RapTable" ({ cls := "RapTable", name := "fair", desc := "(IIIIIII)I" } : Jvm.MethodName) ({ cls := "RapTable", name := "fair", desc := "(IIIIIII)I" } : Jvm.MethodName)) ∈ lw_all := lw_g (lw_at lw_m7 23 rfl) rfl
theorem q1582 : (Jvm.Cond.code ({ cls := "RapTable", name := "fair", desc := "(IIIIIII)I" } : Jvm.MethodName) prog_1_method_77_code (8 : Nat) (Option.some Jvm.ClassFile.FieldType.int)) ∈ lw_all := lw_g (lw_at lw_m7 24 rfl) rfl
theorem q1584 : (Jvm.Cond.instanceMethod ({ cls := "RapTable", name := "count", desc := "(I)I" } : Jvm.MethodName)) ∈ lw_all := lw_g (lw_at lw_m7 26 rfl) rfl
theorem q1585 : (Jvm.Cond.selects "RapTable" ({ cls := "RapTable", name := "count", desc := "(I)I" } : Jvm.MethodName) ({ cls := "RapTable", name := "count", desc := "(I)I" } : Jvm.MethodName)) ∈ lw_all := lw_g (lw_at lw_m7 27 rfl) rfl
theorem q1586 : (Jvm.Cond.code ({ cls := "RapTable", name := "count", desc := "(I)I" } : Jvm.MethodName) prog_1_method_78_code (2 : Nat) (Option.some Jvm.ClassFile.FieldType.int)) ∈ lw_all := lw_g (lw_at lw_m7 28 rfl) rfl
theorem q2242 : (Jvm.Cond.castable "RapTable" "java/lang/Object") ∈ lw_tbl := lw_at lw_m9 204 rfl
theorem q120 : (Jvm.Cond.initialized "RapTable$Sitting") ∈ lw_all := lw_g (lw_at lw_m1 2 rfl) rfl
theorem q174 : (Jvm.Cond.instantiable "RapTable$Sitting" (10 : Nat)) ∈ lw_all := lw_g (lw_at lw_m1 56 rfl) rfl
theorem q176 : (Jvm.Cond.instanceMethod ({ cls := "RapTable$Sitting", name := "<init>", desc := "()V" } : Jvm.MethodName)) ∈ lw_all := lw_g (lw_at lw_m1 58 rfl) rfl
theorem q177 : (Jvm.Cond.code ({ cls := "RapTable$Sitting", name := "<init>", desc := "()V" } : Jvm.MethodName) prog_18_method_1_code (3 : Nat) (Option.none : Option Jvm.ClassFile.FieldType)) ∈ lw_all := lw_g (lw_at lw_m1 59 rfl) rfl
theorem q178 : (Jvm.Cond.methodLink "RapTable$Sitting" (3 : Nat) ({ cls := "java/lang/Object", name := "<init>", desc := "()V" } : Jvm.MethodName)) ∈ lw_all := lw_g (lw_at lw_m1 60 rfl) rfl
theorem q179 : (Jvm.Cond.classLink "RapTable$Sitting" (21 : Nat) "[[I") ∈ lw_all := lw_g (lw_at lw_m1 61 rfl) rfl
theorem q181 : (Jvm.Cond.classLink "RapTable$Sitting" (32 : Nat) "java/util/ArrayList") ∈ lw_all := lw_g (lw_at lw_m1 63 rfl) rfl
theorem q183 : (Jvm.Cond.methodLink "RapTable$Sitting" (34 : Nat) ({ cls := "java/util/ArrayList", name := "<init>", desc := "(I)V" } : Jvm.MethodName)) ∈ lw_all := lw_g (lw_at lw_m1 65 rfl) rfl
theorem q210 : (Jvm.Cond.fieldLink "RapTable$Sitting" (9 : Nat) "RapTable$Sitting" "light" "[I") ∈ lw_all := lw_g (lw_at lw_m1 92 rfl) rfl
theorem q212 : (Jvm.Cond.fieldLink "RapTable$Sitting" (15 : Nat) "RapTable$Sitting" "need" "[I") ∈ lw_all := lw_g (lw_at lw_m1 94 rfl) rfl
theorem q215 : (Jvm.Cond.fieldLink "RapTable$Sitting" (18 : Nat) "RapTable$Sitting" "firm" "[I") ∈ lw_all := lw_g (lw_at lw_m1 97 rfl) rfl
theorem q218 : (Jvm.Cond.fieldLink "RapTable$Sitting" (23 : Nat) "RapTable$Sitting" "eyes" "[[I") ∈ lw_all := lw_g (lw_at lw_m1 100 rfl) rfl
theorem q220 : (Jvm.Cond.fieldLink "RapTable$Sitting" (26 : Nat) "RapTable$Sitting" "seems" "[[I") ∈ lw_all := lw_g (lw_at lw_m1 102 rfl) rfl
theorem q223 : (Jvm.Cond.fieldLink "RapTable$Sitting" (29 : Nat) "RapTable$Sitting" "truly" "[[I") ∈ lw_all := lw_g (lw_at lw_m1 105 rfl) rfl
theorem q227 : (Jvm.Cond.fieldLink "RapTable$Sitting" (37 : Nat) "RapTable$Sitting" "leads" "Ljava/util/ArrayList;") ∈ lw_all := lw_g (lw_at lw_m1 109 rfl) rfl
theorem q229 : (Jvm.Cond.fieldLink "RapTable$Sitting" (41 : Nat) "RapTable$Sitting" "moves" "Ljava/util/ArrayList;") ∈ lw_all := lw_g (lw_at lw_m1 111 rfl) rfl
theorem q232 : (Jvm.Cond.fieldLink "RapTable$Sitting" (44 : Nat) "RapTable$Sitting" "spots" "[I") ∈ lw_all := lw_g (lw_at lw_m1 114 rfl) rfl
theorem q234 : (Jvm.Cond.fieldLink "RapTable$Sitting" (70 : Nat) "RapTable$Sitting" "things" "I") ∈ lw_all := lw_g (lw_at lw_m1 116 rfl) rfl
theorem q236 : (Jvm.Cond.laysFinal "RapTable$Sitting" "RapTable$Sitting" "light" "[I") ∈ lw_all := lw_g (lw_at lw_m1 118 rfl) rfl
theorem q237 : (Jvm.Cond.soleField "RapTable$Sitting" "light") ∈ lw_all := lw_g (lw_at lw_m1 119 rfl) rfl
theorem q238 : (Jvm.Cond.laysFinal "RapTable$Sitting" "RapTable$Sitting" "need" "[I") ∈ lw_all := lw_g (lw_at lw_m1 120 rfl) rfl
theorem q239 : (Jvm.Cond.soleField "RapTable$Sitting" "need") ∈ lw_all := lw_g (lw_at lw_m1 121 rfl) rfl
theorem q240 : (Jvm.Cond.laysFinal "RapTable$Sitting" "RapTable$Sitting" "firm" "[I") ∈ lw_all := lw_g (lw_at lw_m1 122 rfl) rfl
theorem q241 : (Jvm.Cond.soleField "RapTable$Sitting" "firm") ∈ lw_all := lw_g (lw_at lw_m1 123 rfl) rfl
theorem q242 : (Jvm.Cond.laysFinal "RapTable$Sitting" "RapTable$Sitting" "eyes" "[[I") ∈ lw_all := lw_g (lw_at lw_m1 124 rfl) rfl
theorem q243 : (Jvm.Cond.soleField "RapTable$Sitting" "eyes") ∈ lw_all := lw_g (lw_at lw_m1 125 rfl) rfl
theorem q244 : (Jvm.Cond.laysFinal "RapTable$Sitting" "RapTable$Sitting" "seems" "[[I") ∈ lw_all := lw_g (lw_at lw_m1 126 rfl) rfl
theorem q245 : (Jvm.Cond.soleField "RapTable$Sitting" "seems") ∈ lw_all := lw_g (lw_at lw_m1 127 rfl) rfl
theorem q246 : (Jvm.Cond.laysFinal "RapTable$Sitting" "RapTable$Sitting" "truly" "[[I") ∈ lw_all := lw_g (lw_at lw_m1 128 rfl) rfl
theorem q247 : (Jvm.Cond.soleField "RapTable$Sitting" "truly") ∈ lw_all := lw_g (lw_at lw_m1 129 rfl) rfl
theorem q248 : (Jvm.Cond.laysFinal "RapTable$Sitting" "RapTable$Sitting" "leads" "Ljava/util/ArrayList;") ∈ lw_all := lw_g (lw_at lw_m1 130 rfl) rfl
theorem q249 : (Jvm.Cond.soleField "RapTable$Sitting" "leads") ∈ lw_all := lw_g (lw_at lw_m1 131 rfl) rfl
theorem q250 : (Jvm.Cond.laysFinal "RapTable$Sitting" "RapTable$Sitting" "moves" "Ljava/util/ArrayList;") ∈ lw_all := lw_g (lw_at lw_m1 132 rfl) rfl
theorem q251 : (Jvm.Cond.soleField "RapTable$Sitting" "moves") ∈ lw_all := lw_g (lw_at lw_m1 133 rfl) rfl
theorem q252 : (Jvm.Cond.laysFinal "RapTable$Sitting" "RapTable$Sitting" "spots" "[I") ∈ lw_all := lw_g (lw_at lw_m1 134 rfl) rfl
theorem q253 : (Jvm.Cond.soleField "RapTable$Sitting" "spots") ∈ lw_all := lw_g (lw_at lw_m1 135 rfl) rfl
theorem q254 : (Jvm.Cond.lays "RapTable$Sitting" "RapTable$Sitting" "things" "I") ∈ lw_all := lw_g (lw_at lw_m1 136 rfl) rfl
theorem q255 : (Jvm.Cond.soleField "RapTable$Sitting" "things") ∈ lw_all := lw_g (lw_at lw_m1 137 rfl) rfl
theorem q256 : (Jvm.Cond.superclass "RapTable$Sitting" "java/lang/Object") ∈ lw_all := lw_g (lw_at lw_m1 138 rfl) rfl
theorem q494 : (Jvm.Cond.fieldLinkNest "RapTable$Sitting" (87 : Nat) "RapTable$Lead" "pull" "I" "RapTable") ∈ lw_tbl := lw_at lw_m2 136 rfl
theorem q496 : (Jvm.Cond.fieldLinkNest "RapTable$Sitting" (90 : Nat) "RapTable$Lead" "from" "I" "RapTable") ∈ lw_tbl := lw_at lw_m2 138 rfl
theorem q556 : (Jvm.Cond.selects "RapTable$Sitting" ({ cls := "java/lang/Object", name := "getClass", desc := "()Ljava/lang/Class;" } : Jvm.MethodName) ({ cls := "java/lang/Object", name := "getClass", desc := "()Ljava/lang/Class;" } : Jvm.MethodName)) ∈ lw_all := lw_g (lw_at lw_m2 198 rfl) rfl
theorem q602 : (Jvm.Cond.instanceMethod ({ cls := "RapTable$Sitting", name := "where", desc := "(II)I" } : Jvm.MethodName)) ∈ lw_all := lw_g (lw_at lw_m3 4 rfl) rfl
theorem q603 : (Jvm.Cond.selects "RapTable$Sitting" ({ cls := "RapTable$Sitting", name := "where", desc := "(II)I" } : Jvm.MethodName) ({ cls := "RapTable$Sitting", name := "where", desc := "(II)I" } : Jvm.MethodName)) ∈ lw_all := lw_g (lw_at lw_m3 5 rfl) rfl
theorem q604 : (Jvm.Cond.code ({ cls := "RapTable$Sitting", name := "where", desc := "(II)I" } : Jvm.MethodName) prog_18_method_3_code (5 : Nat) (Option.some Jvm.ClassFile.FieldType.int)) ∈ lw_all := lw_g (lw_at lw_m3 6 rfl) rfl
theorem q605 : (Jvm.Cond.methodLink "RapTable$Sitting" (54 : Nat) ({ cls := "java/util/ArrayList", name := "size", desc := "()I" } : Jvm.MethodName)) ∈ lw_all := lw_g (lw_at lw_m3 7 rfl) rfl
theorem q606 : (Jvm.Cond.methodLink "RapTable$Sitting" (58 : Nat) ({ cls := "java/util/ArrayList", name := "get", desc := "(I)Ljava/lang/Object;" } : Jvm.MethodName)) ∈ lw_all := lw_g (lw_at lw_m3 8 rfl) rfl
theorem q620 : (Jvm.Cond.classLink "RapTable$Sitting" (68 : Nat) "RapTable$Move") ∈ lw_all := lw_g (lw_at lw_m3 22 rfl) rfl
theorem q665 : (Jvm.Cond.fieldLinkNest "RapTable$Sitting" (74 : Nat) "RapTable$Move" "thing" "I" "RapTable") ∈ lw_tbl := lw_at lw_m3 67 rfl
theorem q670 : (Jvm.Cond.fieldLinkNest "RapTable$Sitting" (80 : Nat) "RapTable$Move" "to" "I" "RapTable") ∈ lw_tbl := lw_at lw_m3 72 rfl
theorem q674 : (Jvm.Cond.fieldLinkNest "RapTable$Sitting" (77 : Nat) "RapTable$Move" "second" "I" "RapTable") ∈ lw_tbl := lw_at lw_m3 76 rfl
theorem q697 : (Jvm.Cond.instanceMethod ({ cls := "RapTable$Sitting", name := "copy", desc := "()LRapTable$Sitting;" } : Jvm.MethodName)) ∈ lw_all := lw_g (lw_at lw_m3 99 rfl) rfl
theorem q698 : (Jvm.Cond.selects "RapTable$Sitting" ({ cls := "RapTable$Sitting", name := "copy", desc := "()LRapTable$Sitting;" } : Jvm.MethodName) ({ cls := "RapTable$Sitting", name := "copy", desc := "()LRapTable$Sitting;" } : Jvm.MethodName)) ∈ lw_all := lw_g (lw_at lw_m3 100 rfl) rfl
theorem q699 : (Jvm.Cond.code ({ cls := "RapTable$Sitting", name := "copy", desc := "()LRapTable$Sitting;" } : Jvm.MethodName) prog_18_method_2_code (3 : Nat) (Option.some (Jvm.ClassFile.FieldType.object "RapTable$Sitting"))) ∈ lw_all := lw_g (lw_at lw_m3 101 rfl) rfl
theorem q700 : (Jvm.Cond.classLink "RapTable$Sitting" (10 : Nat) "RapTable$Sitting") ∈ lw_all := lw_g (lw_at lw_m3 102 rfl) rfl
theorem q701 : (Jvm.Cond.methodLink "RapTable$Sitting" (47 : Nat) ({ cls := "RapTable$Sitting", name := "<init>", desc := "()V" } : Jvm.MethodName)) ∈ lw_all := lw_g (lw_at lw_m3 103 rfl) rfl
theorem q702 : (Jvm.Cond.methodLink "RapTable$Sitting" (48 : Nat) ({ cls := "java/lang/System", name := "arraycopy", desc := "(Ljava/lang/Object;ILjava/lang/Object;II)V" } : Jvm.MethodName)) ∈ lw_all := lw_g (lw_at lw_m3 104 rfl) rfl
theorem q703 : (Jvm.Cond.classLink "RapTable$Sitting" (62 : Nat) "RapTable$Lead") ∈ lw_all := lw_g (lw_at lw_m3 105 rfl) rfl
theorem q704 : (Jvm.Cond.methodLink "RapTable$Sitting" (64 : Nat) ({ cls := "java/util/ArrayList", name := "add", desc := "(Ljava/lang/Object;)Z" } : Jvm.MethodName)) ∈ lw_all := lw_g (lw_at lw_m3 106 rfl) rfl
theorem q746 : (Jvm.Cond.instanceMethod ({ cls := "RapTable$Sitting", name := "led", desc := "(II)LRapTable$Lead;" } : Jvm.MethodName)) ∈ lw_all := lw_g (lw_at lw_m3 148 rfl) rfl
theorem q747 : (Jvm.Cond.selects "RapTable$Sitting" ({ cls := "RapTable$Sitting", name := "led", desc := "(II)LRapTable$Lead;" } : Jvm.MethodName) ({ cls := "RapTable$Sitting", name := "led", desc := "(II)LRapTable$Lead;" } : Jvm.MethodName)) ∈ lw_all := lw_g (lw_at lw_m3 149 rfl) rfl
theorem q748 : (Jvm.Cond.code ({ cls := "RapTable$Sitting", name := "led", desc := "(II)LRapTable$Lead;" } : Jvm.MethodName) prog_18_method_4_code (6 : Nat) (Option.some (Jvm.ClassFile.FieldType.object "RapTable$Lead"))) ∈ lw_all := lw_g (lw_at lw_m3 150 rfl) rfl
theorem q749 : (Jvm.Cond.methodLink "RapTable$Sitting" (83 : Nat) ({ cls := "RapTable$Lead", name := "holds", desc := "(I)Z" } : Jvm.MethodName)) ∈ lw_all := lw_g (lw_at lw_m3 151 rfl) rfl
theorem q2241 : (Jvm.Cond.castable "RapTable$Sitting" "java/lang/Object") ∈ lw_tbl := lw_at lw_m9 203 rfl
theorem q141 : (Jvm.Cond.initialized "RapTable$Free") ∈ lw_all := lw_g (lw_at lw_m1 23 rfl) rfl
theorem q278 : (Jvm.Cond.fieldLinkNest "RapTable$Free" (13 : Nat) "RapTable$Run" "last" "I" "RapTable") ∈ lw_tbl := lw_at lw_m1 160 rfl
theorem q547 : (Jvm.Cond.selects "RapTable$Free" ({ cls := "java/lang/Object", name := "getClass", desc := "()Ljava/lang/Class;" } : Jvm.MethodName) ({ cls := "java/lang/Object", name := "getClass", desc := "()Ljava/lang/Class;" } : Jvm.MethodName)) ∈ lw_all := lw_g (lw_at lw_m2 189 rfl) rfl
theorem q820 : (Jvm.Cond.selects "RapTable$Free" ({ cls := "RapTable$Step", name := "asks", desc := "()Z" } : Jvm.MethodName) ({ cls := "RapTable$Step", name := "asks", desc := "()Z" } : Jvm.MethodName)) ∈ lw_all := lw_g (lw_at lw_m3 222 rfl) rfl
theorem q881 : (Jvm.Cond.selects "RapTable$Free" ({ cls := "RapTable$Step", name := "goes", desc := "(LRapTable;LRapTable$Run;I)Z" } : Jvm.MethodName) ({ cls := "RapTable$Free", name := "goes", desc := "(LRapTable;LRapTable$Run;I)Z" } : Jvm.MethodName)) ∈ lw_all := lw_g (lw_at lw_m4 43 rfl) rfl
theorem q882 : (Jvm.Cond.instanceMethod ({ cls := "RapTable$Free", name := "goes", desc := "(LRapTable;LRapTable$Run;I)Z" } : Jvm.MethodName)) ∈ lw_all := lw_g (lw_at lw_m4 44 rfl) rfl
theorem q883 : (Jvm.Cond.code ({ cls := "RapTable$Free", name := "goes", desc := "(LRapTable;LRapTable$Run;I)Z" } : Jvm.MethodName) prog_8_method_2_code (5 : Nat) (Option.some Jvm.ClassFile.FieldType.boolean)) ∈ lw_all := lw_g (lw_at lw_m4 45 rfl) rfl
theorem q884 : (Jvm.Cond.methodLink "RapTable$Free" (18 : Nat) ({ cls := "java/lang/Math", name := "max", desc := "(II)I" } : Jvm.MethodName)) ∈ lw_all := lw_g (lw_at lw_m4 46 rfl) rfl
theorem q885 : (Jvm.Cond.methodLink "RapTable$Free" (24 : Nat) ({ cls := "RapTable$Run", name := "isFreeNow", desc := "(II)Z" } : Jvm.MethodName)) ∈ lw_all := lw_g (lw_at lw_m4 47 rfl) rfl
theorem q920 : (Jvm.Cond.selects "RapTable$Free" ({ cls := "RapTable$Step", name := "seconds", desc := "()I" } : Jvm.MethodName) ({ cls := "RapTable$Step", name := "seconds", desc := "()I" } : Jvm.MethodName)) ∈ lw_all := lw_g (lw_at lw_m4 82 rfl) rfl
theorem q1124 : (Jvm.Cond.instantiable "RapTable$Free" (1 : Nat)) ∈ lw_all := lw_g (lw_at lw_m5 46 rfl) rfl
theorem q1130 : (Jvm.Cond.instanceMethod ({ cls := "RapTable$Free", name := "<init>", desc := "(I)V" } : Jvm.MethodName)) ∈ lw_all := lw_g (lw_at lw_m5 52 rfl) rfl
theorem q1131 : (Jvm.Cond.code ({ cls := "RapTable$Free", name := "<init>", desc := "(I)V" } : Jvm.MethodName) prog_8_method_1_code (2 : Nat) (Option.none : Option Jvm.ClassFile.FieldType)) ∈ lw_all := lw_g (lw_at lw_m5 53 rfl) rfl
theorem q1132 : (Jvm.Cond.methodLinkNest "RapTable$Free" (1 : Nat) ({ cls := "RapTable$Step", name := "<init>", desc := "()V" } : Jvm.MethodName) "RapTable") ∈ lw_tbl := lw_at lw_m5 54 rfl
theorem q1136 : (Jvm.Cond.fieldLink "RapTable$Free" (7 : Nat) "RapTable$Free" "side" "I") ∈ lw_all := lw_g (lw_at lw_m5 58 rfl) rfl
theorem q1137 : (Jvm.Cond.laysFinal "RapTable$Free" "RapTable$Free" "side" "I") ∈ lw_all := lw_g (lw_at lw_m5 59 rfl) rfl
theorem q1138 : (Jvm.Cond.soleField "RapTable$Free" "side") ∈ lw_all := lw_g (lw_at lw_m5 60 rfl) rfl
theorem q1139 : (Jvm.Cond.superclass "RapTable$Free" "RapTable$Step") ∈ lw_all := lw_g (lw_at lw_m5 61 rfl) rfl
theorem q2235 : (Jvm.Cond.castable "RapTable$Free" "RapTable$Step") ∈ lw_tbl := lw_at lw_m9 197 rfl
theorem q2251 : (Jvm.Cond.castable "RapTable$Free" "java/lang/Object") ∈ lw_tbl := lw_at lw_m9 213 rfl
theorem q142 : (Jvm.Cond.initialized "RapTable$Swap") ∈ lw_all := lw_g (lw_at lw_m1 24 rfl) rfl
theorem q267 : (Jvm.Cond.fieldLinkNest "RapTable$Swap" (19 : Nat) "RapTable$Run" "person" "I" "RapTable") ∈ lw_tbl := lw_at lw_m1 149 rfl
theorem q280 : (Jvm.Cond.fieldLinkNest "RapTable$Swap" (25 : Nat) "RapTable$Run" "swapped" "I" "RapTable") ∈ lw_tbl := lw_at lw_m1 162 rfl
theorem q557 : (Jvm.Cond.selects "RapTable$Swap" ({ cls := "java/lang/Object", name := "getClass", desc := "()Ljava/lang/Class;" } : Jvm.MethodName) ({ cls := "java/lang/Object", name := "getClass", desc := "()Ljava/lang/Class;" } : Jvm.MethodName)) ∈ lw_all := lw_g (lw_at lw_m2 199 rfl) rfl
theorem q824 : (Jvm.Cond.selects "RapTable$Swap" ({ cls := "RapTable$Step", name := "asks", desc := "()Z" } : Jvm.MethodName) ({ cls := "RapTable$Step", name := "asks", desc := "()Z" } : Jvm.MethodName)) ∈ lw_all := lw_g (lw_at lw_m3 226 rfl) rfl
theorem q899 : (Jvm.Cond.selects "RapTable$Swap" ({ cls := "RapTable$Step", name := "goes", desc := "(LRapTable;LRapTable$Run;I)Z" } : Jvm.MethodName) ({ cls := "RapTable$Swap", name := "goes", desc := "(LRapTable;LRapTable$Run;I)Z" } : Jvm.MethodName)) ∈ lw_all := lw_g (lw_at lw_m4 61 rfl) rfl
theorem q900 : (Jvm.Cond.instanceMethod ({ cls := "RapTable$Swap", name := "goes", desc := "(LRapTable;LRapTable$Run;I)Z" } : Jvm.MethodName)) ∈ lw_all := lw_g (lw_at lw_m4 62 rfl) rfl
theorem q901 : (Jvm.Cond.code ({ cls := "RapTable$Swap", name := "goes", desc := "(LRapTable;LRapTable$Run;I)Z" } : Jvm.MethodName) prog_20_method_2_code (4 : Nat) (Option.some Jvm.ClassFile.FieldType.boolean)) ∈ lw_all := lw_g (lw_at lw_m4 63 rfl) rfl
theorem q902 : (Jvm.Cond.methodLink "RapTable$Swap" (13 : Nat) ({ cls := "RapTable$Run", name := "isHeld", desc := "(II)Z" } : Jvm.MethodName)) ∈ lw_all := lw_g (lw_at lw_m4 64 rfl) rfl
theorem q906 : (Jvm.Cond.methodLink "RapTable$Swap" (22 : Nat) ({ cls := "RapTable$Run", name := "isUnseen", desc := "(II)Z" } : Jvm.MethodName)) ∈ lw_all := lw_g (lw_at lw_m4 68 rfl) rfl
theorem q922 : (Jvm.Cond.selects "RapTable$Swap" ({ cls := "RapTable$Step", name := "seconds", desc := "()I" } : Jvm.MethodName) ({ cls := "RapTable$Step", name := "seconds", desc := "()I" } : Jvm.MethodName)) ∈ lw_all := lw_g (lw_at lw_m4 84 rfl) rfl
theorem q1141 : (Jvm.Cond.instantiable "RapTable$Swap" (1 : Nat)) ∈ lw_all := lw_g (lw_at lw_m5 63 rfl) rfl
theorem q1143 : (Jvm.Cond.instanceMethod ({ cls := "RapTable$Swap", name := "<init>", desc := "(I)V" } : Jvm.MethodName)) ∈ lw_all := lw_g (lw_at lw_m5 65 rfl) rfl
theorem q1144 : (Jvm.Cond.code ({ cls := "RapTable$Swap", name := "<init>", desc := "(I)V" } : Jvm.MethodName) prog_20_method_1_code (2 : Nat) (Option.none : Option Jvm.ClassFile.FieldType)) ∈ lw_all := lw_g (lw_at lw_m5 66 rfl) rfl
theorem q1145 : (Jvm.Cond.methodLinkNest "RapTable$Swap" (1 : Nat) ({ cls := "RapTable$Step", name := "<init>", desc := "()V" } : Jvm.MethodName) "RapTable") ∈ lw_tbl := lw_at lw_m5 67 rfl
theorem q1146 : (Jvm.Cond.fieldLink "RapTable$Swap" (7 : Nat) "RapTable$Swap" "side" "I") ∈ lw_all := lw_g (lw_at lw_m5 68 rfl) rfl
theorem q1147 : (Jvm.Cond.laysFinal "RapTable$Swap" "RapTable$Swap" "side" "I") ∈ lw_all := lw_g (lw_at lw_m5 69 rfl) rfl
theorem q1148 : (Jvm.Cond.soleField "RapTable$Swap" "side") ∈ lw_all := lw_g (lw_at lw_m5 70 rfl) rfl
theorem q1149 : (Jvm.Cond.superclass "RapTable$Swap" "RapTable$Step") ∈ lw_all := lw_g (lw_at lw_m5 71 rfl) rfl
theorem q2237 : (Jvm.Cond.castable "RapTable$Swap" "RapTable$Step") ∈ lw_tbl := lw_at lw_m9 199 rfl
theorem q2252 : (Jvm.Cond.castable "RapTable$Swap" "java/lang/Object") ∈ lw_tbl := lw_at lw_m9 214 rfl
theorem q143 : (Jvm.Cond.initialized "RapTable$Wait") ∈ lw_all := lw_g (lw_at lw_m1 25 rfl) rfl
theorem q559 : (Jvm.Cond.selects "RapTable$Wait" ({ cls := "java/lang/Object", name := "getClass", desc := "()Ljava/lang/Class;" } : Jvm.MethodName) ({ cls := "java/lang/Object", name := "getClass", desc := "()Ljava/lang/Class;" } : Jvm.MethodName)) ∈ lw_all := lw_g (lw_at lw_m2 201 rfl) rfl
theorem q825 : (Jvm.Cond.selects "RapTable$Wait" ({ cls := "RapTable$Step", name := "asks", desc := "()Z" } : Jvm.MethodName) ({ cls := "RapTable$Step", name := "asks", desc := "()Z" } : Jvm.MethodName)) ∈ lw_all := lw_g (lw_at lw_m3 227 rfl) rfl
theorem q860 : (Jvm.Cond.declares ({ cls := "RapTable$Wait", name := "seconds", desc := "()I" } : Jvm.MethodName)) ∈ lw_tbl := lw_at lw_m4 22 rfl
theorem q862 : (Jvm.Cond.instanceMethod ({ cls := "RapTable$Wait", name := "seconds", desc := "()I" } : Jvm.MethodName)) ∈ lw_all := lw_g (lw_at lw_m4 24 rfl) rfl
theorem q863 : (Jvm.Cond.code ({ cls := "RapTable$Wait", name := "seconds", desc := "()I" } : Jvm.MethodName) prog_22_method_2_code (1 : Nat) (Option.some Jvm.ClassFile.FieldType.int)) ∈ lw_all := lw_g (lw_at lw_m4 25 rfl) rfl
theorem q910 : (Jvm.Cond.selects "RapTable$Wait" ({ cls := "RapTable$Step", name := "goes", desc := "(LRapTable;LRapTable$Run;I)Z" } : Jvm.MethodName) ({ cls := "RapTable$Wait", name := "goes", desc := "(LRapTable;LRapTable$Run;I)Z" } : Jvm.MethodName)) ∈ lw_all := lw_g (lw_at lw_m4 72 rfl) rfl
theorem q911 : (Jvm.Cond.instanceMethod ({ cls := "RapTable$Wait", name := "goes", desc := "(LRapTable;LRapTable$Run;I)Z" } : Jvm.MethodName)) ∈ lw_all := lw_g (lw_at lw_m4 73 rfl) rfl
theorem q912 : (Jvm.Cond.code ({ cls := "RapTable$Wait", name := "goes", desc := "(LRapTable;LRapTable$Run;I)Z" } : Jvm.MethodName) prog_22_method_3_code (4 : Nat) (Option.some Jvm.ClassFile.FieldType.boolean)) ∈ lw_all := lw_g (lw_at lw_m4 74 rfl) rfl
theorem q923 : (Jvm.Cond.selects "RapTable$Wait" ({ cls := "RapTable$Step", name := "seconds", desc := "()I" } : Jvm.MethodName) ({ cls := "RapTable$Wait", name := "seconds", desc := "()I" } : Jvm.MethodName)) ∈ lw_all := lw_g (lw_at lw_m4 85 rfl) rfl
theorem q1151 : (Jvm.Cond.instantiable "RapTable$Wait" (1 : Nat)) ∈ lw_all := lw_g (lw_at lw_m5 73 rfl) rfl
theorem q1157 : (Jvm.Cond.instanceMethod ({ cls := "RapTable$Wait", name := "<init>", desc := "(I)V" } : Jvm.MethodName)) ∈ lw_all := lw_g (lw_at lw_m5 79 rfl) rfl
theorem q1158 : (Jvm.Cond.code ({ cls := "RapTable$Wait", name := "<init>", desc := "(I)V" } : Jvm.MethodName) prog_22_method_1_code (2 : Nat) (Option.none : Option Jvm.ClassFile.FieldType)) ∈ lw_all := lw_g (lw_at lw_m5 80 rfl) rfl
theorem q1159 : (Jvm.Cond.methodLinkNest "RapTable$Wait" (1 : Nat) ({ cls := "RapTable$Step", name := "<init>", desc := "()V" } : Jvm.MethodName) "RapTable") ∈ lw_tbl := lw_at lw_m5 81 rfl
theorem q1160 : (Jvm.Cond.fieldLink "RapTable$Wait" (7 : Nat) "RapTable$Wait" "many" "I") ∈ lw_all := lw_g (lw_at lw_m5 82 rfl) rfl
theorem q1161 : (Jvm.Cond.laysFinal "RapTable$Wait" "RapTable$Wait" "many" "I") ∈ lw_all := lw_g (lw_at lw_m5 83 rfl) rfl
theorem q1162 : (Jvm.Cond.soleField "RapTable$Wait" "many") ∈ lw_all := lw_g (lw_at lw_m5 84 rfl) rfl
theorem q1163 : (Jvm.Cond.superclass "RapTable$Wait" "RapTable$Step") ∈ lw_all := lw_g (lw_at lw_m5 85 rfl) rfl
theorem q2238 : (Jvm.Cond.castable "RapTable$Wait" "RapTable$Step") ∈ lw_tbl := lw_at lw_m9 200 rfl
theorem q2253 : (Jvm.Cond.castable "RapTable$Wait" "java/lang/Object") ∈ lw_tbl := lw_at lw_m9 215 rfl
theorem q144 : (Jvm.Cond.initialized "RapTable$Dark") ∈ lw_all := lw_g (lw_at lw_m1 26 rfl) rfl
theorem q545 : (Jvm.Cond.selects "RapTable$Dark" ({ cls := "java/lang/Object", name := "getClass", desc := "()Ljava/lang/Class;" } : Jvm.MethodName) ({ cls := "java/lang/Object", name := "getClass", desc := "()Ljava/lang/Class;" } : Jvm.MethodName)) ∈ lw_all := lw_g (lw_at lw_m2 187 rfl) rfl
theorem q818 : (Jvm.Cond.selects "RapTable$Dark" ({ cls := "RapTable$Step", name := "asks", desc := "()Z" } : Jvm.MethodName) ({ cls := "RapTable$Step", name := "asks", desc := "()Z" } : Jvm.MethodName)) ∈ lw_all := lw_g (lw_at lw_m3 220 rfl) rfl
theorem q851 : (Jvm.Cond.selects "RapTable$Dark" ({ cls := "RapTable$Step", name := "goes", desc := "(LRapTable;LRapTable$Run;I)Z" } : Jvm.MethodName) ({ cls := "RapTable$Dark", name := "goes", desc := "(LRapTable;LRapTable$Run;I)Z" } : Jvm.MethodName)) ∈ lw_all := lw_g (lw_at lw_m4 13 rfl) rfl
theorem q852 : (Jvm.Cond.instanceMethod ({ cls := "RapTable$Dark", name := "goes", desc := "(LRapTable;LRapTable$Run;I)Z" } : Jvm.MethodName)) ∈ lw_all := lw_g (lw_at lw_m4 14 rfl) rfl
theorem q853 : (Jvm.Cond.code ({ cls := "RapTable$Dark", name := "goes", desc := "(LRapTable;LRapTable$Run;I)Z" } : Jvm.MethodName) prog_6_method_2_code (4 : Nat) (Option.some Jvm.ClassFile.FieldType.boolean)) ∈ lw_all := lw_g (lw_at lw_m4 15 rfl) rfl
theorem q854 : (Jvm.Cond.methodLinkNest "RapTable$Dark" (13 : Nat) ({ cls := "RapTable", name := "lightAt", desc := "(I)I" } : Jvm.MethodName) "RapTable") ∈ lw_tbl := lw_at lw_m4 16 rfl
theorem q918 : (Jvm.Cond.selects "RapTable$Dark" ({ cls := "RapTable$Step", name := "seconds", desc := "()I" } : Jvm.MethodName) ({ cls := "RapTable$Step", name := "seconds", desc := "()I" } : Jvm.MethodName)) ∈ lw_all := lw_g (lw_at lw_m4 80 rfl) rfl
theorem q1165 : (Jvm.Cond.instantiable "RapTable$Dark" (1 : Nat)) ∈ lw_all := lw_g (lw_at lw_m5 87 rfl) rfl
theorem q1167 : (Jvm.Cond.instanceMethod ({ cls := "RapTable$Dark", name := "<init>", desc := "(I)V" } : Jvm.MethodName)) ∈ lw_all := lw_g (lw_at lw_m5 89 rfl) rfl
theorem q1168 : (Jvm.Cond.code ({ cls := "RapTable$Dark", name := "<init>", desc := "(I)V" } : Jvm.MethodName) prog_6_method_1_code (2 : Nat) (Option.none : Option Jvm.ClassFile.FieldType)) ∈ lw_all := lw_g (lw_at lw_m5 90 rfl) rfl
theorem q1169 : (Jvm.Cond.methodLinkNest "RapTable$Dark" (1 : Nat) ({ cls := "RapTable$Step", name := "<init>", desc := "()V" } : Jvm.MethodName) "RapTable") ∈ lw_tbl := lw_at lw_m5 91 rfl
theorem q1170 : (Jvm.Cond.fieldLink "RapTable$Dark" (7 : Nat) "RapTable$Dark" "most" "I") ∈ lw_all := lw_g (lw_at lw_m5 92 rfl) rfl
theorem q1171 : (Jvm.Cond.laysFinal "RapTable$Dark" "RapTable$Dark" "most" "I") ∈ lw_all := lw_g (lw_at lw_m5 93 rfl) rfl
theorem q1172 : (Jvm.Cond.soleField "RapTable$Dark" "most") ∈ lw_all := lw_g (lw_at lw_m5 94 rfl) rfl
theorem q1173 : (Jvm.Cond.superclass "RapTable$Dark" "RapTable$Step") ∈ lw_all := lw_g (lw_at lw_m5 95 rfl) rfl
theorem q2233 : (Jvm.Cond.castable "RapTable$Dark" "RapTable$Step") ∈ lw_tbl := lw_at lw_m9 195 rfl
theorem q2254 : (Jvm.Cond.castable "RapTable$Dark" "java/lang/Object") ∈ lw_tbl := lw_at lw_m9 216 rfl
theorem q145 : (Jvm.Cond.initialized "RapTable$Call") ∈ lw_all := lw_g (lw_at lw_m1 27 rfl) rfl
theorem q283 : (Jvm.Cond.fieldLinkNest "RapTable$Call" (13 : Nat) "RapTable$Run" "pull" "I" "RapTable") ∈ lw_tbl := lw_at lw_m1 165 rfl
theorem q543 : (Jvm.Cond.selects "RapTable$Call" ({ cls := "java/lang/Object", name := "getClass", desc := "()Ljava/lang/Class;" } : Jvm.MethodName) ({ cls := "java/lang/Object", name := "getClass", desc := "()Ljava/lang/Class;" } : Jvm.MethodName)) ∈ lw_all := lw_g (lw_at lw_m2 185 rfl) rfl
theorem q815 : (Jvm.Cond.selects "RapTable$Call" ({ cls := "RapTable$Step", name := "asks", desc := "()Z" } : Jvm.MethodName) ({ cls := "RapTable$Call", name := "asks", desc := "()Z" } : Jvm.MethodName)) ∈ lw_all := lw_g (lw_at lw_m3 217 rfl) rfl
theorem q816 : (Jvm.Cond.instanceMethod ({ cls := "RapTable$Call", name := "asks", desc := "()Z" } : Jvm.MethodName)) ∈ lw_all := lw_g (lw_at lw_m3 218 rfl) rfl
theorem q817 : (Jvm.Cond.code ({ cls := "RapTable$Call", name := "asks", desc := "()Z" } : Jvm.MethodName) prog_3_method_2_code (1 : Nat) (Option.some Jvm.ClassFile.FieldType.boolean)) ∈ lw_all := lw_g (lw_at lw_m3 219 rfl) rfl
theorem q847 : (Jvm.Cond.selects "RapTable$Call" ({ cls := "RapTable$Step", name := "goes", desc := "(LRapTable;LRapTable$Run;I)Z" } : Jvm.MethodName) ({ cls := "RapTable$Call", name := "goes", desc := "(LRapTable;LRapTable$Run;I)Z" } : Jvm.MethodName)) ∈ lw_all := lw_g (lw_at lw_m4 9 rfl) rfl
theorem q848 : (Jvm.Cond.instanceMethod ({ cls := "RapTable$Call", name := "goes", desc := "(LRapTable;LRapTable$Run;I)Z" } : Jvm.MethodName)) ∈ lw_all := lw_g (lw_at lw_m4 10 rfl) rfl
theorem q849 : (Jvm.Cond.code ({ cls := "RapTable$Call", name := "goes", desc := "(LRapTable;LRapTable$Run;I)Z" } : Jvm.MethodName) prog_3_method_3_code (4 : Nat) (Option.some Jvm.ClassFile.FieldType.boolean)) ∈ lw_all := lw_g (lw_at lw_m4 11 rfl) rfl
theorem q850 : (Jvm.Cond.methodLink "RapTable$Call" (16 : Nat) ({ cls := "java/lang/Math", name := "max", desc := "(II)I" } : Jvm.MethodName)) ∈ lw_all := lw_g (lw_at lw_m4 12 rfl) rfl
theorem q917 : (Jvm.Cond.selects "RapTable$Call" ({ cls := "RapTable$Step", name := "seconds", desc := "()I" } : Jvm.MethodName) ({ cls := "RapTable$Step", name := "seconds", desc := "()I" } : Jvm.MethodName)) ∈ lw_all := lw_g (lw_at lw_m4 79 rfl) rfl
theorem q1175 : (Jvm.Cond.instantiable "RapTable$Call" (1 : Nat)) ∈ lw_all := lw_g (lw_at lw_m5 97 rfl) rfl
theorem q1177 : (Jvm.Cond.instanceMethod ({ cls := "RapTable$Call", name := "<init>", desc := "(I)V" } : Jvm.MethodName)) ∈ lw_all := lw_g (lw_at lw_m5 99 rfl) rfl
theorem q1178 : (Jvm.Cond.code ({ cls := "RapTable$Call", name := "<init>", desc := "(I)V" } : Jvm.MethodName) prog_3_method_1_code (2 : Nat) (Option.none : Option Jvm.ClassFile.FieldType)) ∈ lw_all := lw_g (lw_at lw_m5 100 rfl) rfl
theorem q1179 : (Jvm.Cond.methodLinkNest "RapTable$Call" (1 : Nat) ({ cls := "RapTable$Step", name := "<init>", desc := "()V" } : Jvm.MethodName) "RapTable") ∈ lw_tbl := lw_at lw_m5 101 rfl
theorem q1180 : (Jvm.Cond.fieldLink "RapTable$Call" (7 : Nat) "RapTable$Call" "pull" "I") ∈ lw_all := lw_g (lw_at lw_m5 102 rfl) rfl
theorem q1181 : (Jvm.Cond.laysFinal "RapTable$Call" "RapTable$Call" "pull" "I") ∈ lw_all := lw_g (lw_at lw_m5 103 rfl) rfl
theorem q1182 : (Jvm.Cond.soleField "RapTable$Call" "pull") ∈ lw_all := lw_g (lw_at lw_m5 104 rfl) rfl
theorem q1183 : (Jvm.Cond.superclass "RapTable$Call" "RapTable$Step") ∈ lw_all := lw_g (lw_at lw_m5 105 rfl) rfl
theorem q2232 : (Jvm.Cond.castable "RapTable$Call" "RapTable$Step") ∈ lw_tbl := lw_at lw_m9 194 rfl
theorem q2255 : (Jvm.Cond.castable "RapTable$Call" "java/lang/Object") ∈ lw_tbl := lw_at lw_m9 217 rfl
theorem q146 : (Jvm.Cond.initialized "RapTable$Away") ∈ lw_all := lw_g (lw_at lw_m1 28 rfl) rfl
theorem q542 : (Jvm.Cond.selects "RapTable$Away" ({ cls := "java/lang/Object", name := "getClass", desc := "()Ljava/lang/Class;" } : Jvm.MethodName) ({ cls := "java/lang/Object", name := "getClass", desc := "()Ljava/lang/Class;" } : Jvm.MethodName)) ∈ lw_all := lw_g (lw_at lw_m2 184 rfl) rfl
theorem q814 : (Jvm.Cond.selects "RapTable$Away" ({ cls := "RapTable$Step", name := "asks", desc := "()Z" } : Jvm.MethodName) ({ cls := "RapTable$Step", name := "asks", desc := "()Z" } : Jvm.MethodName)) ∈ lw_all := lw_g (lw_at lw_m3 216 rfl) rfl
theorem q830 : (Jvm.Cond.selects "RapTable$Away" ({ cls := "RapTable$Step", name := "goes", desc := "(LRapTable;LRapTable$Run;I)Z" } : Jvm.MethodName) ({ cls := "RapTable$Away", name := "goes", desc := "(LRapTable;LRapTable$Run;I)Z" } : Jvm.MethodName)) ∈ lw_all := lw_g (lw_at lw_m3 232 rfl) rfl
theorem q831 : (Jvm.Cond.instanceMethod ({ cls := "RapTable$Away", name := "goes", desc := "(LRapTable;LRapTable$Run;I)Z" } : Jvm.MethodName)) ∈ lw_all := lw_g (lw_at lw_m3 233 rfl) rfl
theorem q832 : (Jvm.Cond.code ({ cls := "RapTable$Away", name := "goes", desc := "(LRapTable;LRapTable$Run;I)Z" } : Jvm.MethodName) prog_2_method_2_code (4 : Nat) (Option.some Jvm.ClassFile.FieldType.boolean)) ∈ lw_all := lw_g (lw_at lw_m3 234 rfl) rfl
theorem q833 : (Jvm.Cond.methodLink "RapTable$Away" (7 : Nat) ({ cls := "RapTable$Run", name := "isAway", desc := "(I)Z" } : Jvm.MethodName)) ∈ lw_all := lw_g (lw_at lw_m3 235 rfl) rfl
theorem q916 : (Jvm.Cond.selects "RapTable$Away" ({ cls := "RapTable$Step", name := "seconds", desc := "()I" } : Jvm.MethodName) ({ cls := "RapTable$Step", name := "seconds", desc := "()I" } : Jvm.MethodName)) ∈ lw_all := lw_g (lw_at lw_m4 78 rfl) rfl
theorem q1185 : (Jvm.Cond.instantiable "RapTable$Away" (0 : Nat)) ∈ lw_all := lw_g (lw_at lw_m5 107 rfl) rfl
theorem q1187 : (Jvm.Cond.instanceMethod ({ cls := "RapTable$Away", name := "<init>", desc := "()V" } : Jvm.MethodName)) ∈ lw_all := lw_g (lw_at lw_m5 109 rfl) rfl
theorem q1188 : (Jvm.Cond.code ({ cls := "RapTable$Away", name := "<init>", desc := "()V" } : Jvm.MethodName) prog_2_method_1_code (1 : Nat) (Option.none : Option Jvm.ClassFile.FieldType)) ∈ lw_all := lw_g (lw_at lw_m5 110 rfl) rfl
theorem q1189 : (Jvm.Cond.methodLinkNest "RapTable$Away" (1 : Nat) ({ cls := "RapTable$Step", name := "<init>", desc := "()V" } : Jvm.MethodName) "RapTable") ∈ lw_tbl := lw_at lw_m5 111 rfl
theorem q1190 : (Jvm.Cond.superclass "RapTable$Away" "RapTable$Step") ∈ lw_all := lw_g (lw_at lw_m5 112 rfl) rfl
theorem q2231 : (Jvm.Cond.castable "RapTable$Away" "RapTable$Step") ∈ lw_tbl := lw_at lw_m9 193 rfl
theorem q2256 : (Jvm.Cond.castable "RapTable$Away" "java/lang/Object") ∈ lw_tbl := lw_at lw_m9 218 rfl
theorem q147 : (Jvm.Cond.initialized "RapTable$Doing") ∈ lw_all := lw_g (lw_at lw_m1 29 rfl) rfl
theorem q546 : (Jvm.Cond.selects "RapTable$Doing" ({ cls := "java/lang/Object", name := "getClass", desc := "()Ljava/lang/Class;" } : Jvm.MethodName) ({ cls := "java/lang/Object", name := "getClass", desc := "()Ljava/lang/Class;" } : Jvm.MethodName)) ∈ lw_all := lw_g (lw_at lw_m2 188 rfl) rfl
theorem q819 : (Jvm.Cond.selects "RapTable$Doing" ({ cls := "RapTable$Step", name := "asks", desc := "()Z" } : Jvm.MethodName) ({ cls := "RapTable$Step", name := "asks", desc := "()Z" } : Jvm.MethodName)) ∈ lw_all := lw_g (lw_at lw_m3 221 rfl) rfl
theorem q855 : (Jvm.Cond.selects "RapTable$Doing" ({ cls := "RapTable$Step", name := "goes", desc := "(LRapTable;LRapTable$Run;I)Z" } : Jvm.MethodName) ({ cls := "RapTable$Doing", name := "goes", desc := "(LRapTable;LRapTable$Run;I)Z" } : Jvm.MethodName)) ∈ lw_all := lw_g (lw_at lw_m4 17 rfl) rfl
theorem q856 : (Jvm.Cond.instanceMethod ({ cls := "RapTable$Doing", name := "goes", desc := "(LRapTable;LRapTable$Run;I)Z" } : Jvm.MethodName)) ∈ lw_all := lw_g (lw_at lw_m4 18 rfl) rfl
theorem q857 : (Jvm.Cond.code ({ cls := "RapTable$Doing", name := "goes", desc := "(LRapTable;LRapTable$Run;I)Z" } : Jvm.MethodName) prog_7_method_2_code (5 : Nat) (Option.some Jvm.ClassFile.FieldType.boolean)) ∈ lw_all := lw_g (lw_at lw_m4 19 rfl) rfl
theorem q858 : (Jvm.Cond.methodLink "RapTable$Doing" (13 : Nat) ({ cls := "RapTable$Doing", name := "seconds", desc := "()I" } : Jvm.MethodName)) ∈ lw_all := lw_g (lw_at lw_m4 20 rfl) rfl
theorem q859 : (Jvm.Cond.sameMethod "RapTable$Doing" "RapTable$Wait" "seconds" "()I") ∈ lw_all := lw_g (lw_at lw_m4 21 rfl) rfl
theorem q861 : (Jvm.Cond.selects "RapTable$Doing" ({ cls := "RapTable$Doing", name := "seconds", desc := "()I" } : Jvm.MethodName) ({ cls := "RapTable$Wait", name := "seconds", desc := "()I" } : Jvm.MethodName)) ∈ lw_all := lw_g (lw_at lw_m4 23 rfl) rfl
theorem q864 : (Jvm.Cond.methodLink "RapTable$Doing" (17 : Nat) ({ cls := "RapTable$Run", name := "isHidden", desc := "(II)Z" } : Jvm.MethodName)) ∈ lw_all := lw_g (lw_at lw_m4 26 rfl) rfl
theorem q919 : (Jvm.Cond.selects "RapTable$Doing" ({ cls := "RapTable$Step", name := "seconds", desc := "()I" } : Jvm.MethodName) ({ cls := "RapTable$Wait", name := "seconds", desc := "()I" } : Jvm.MethodName)) ∈ lw_all := lw_g (lw_at lw_m4 81 rfl) rfl
theorem q1192 : (Jvm.Cond.instantiable "RapTable$Doing" (2 : Nat)) ∈ lw_all := lw_g (lw_at lw_m5 114 rfl) rfl
theorem q1194 : (Jvm.Cond.instanceMethod ({ cls := "RapTable$Doing", name := "<init>", desc := "(II)V" } : Jvm.MethodName)) ∈ lw_all := lw_g (lw_at lw_m5 116 rfl) rfl
theorem q1195 : (Jvm.Cond.code ({ cls := "RapTable$Doing", name := "<init>", desc := "(II)V" } : Jvm.MethodName) prog_7_method_1_code (3 : Nat) (Option.none : Option Jvm.ClassFile.FieldType)) ∈ lw_all := lw_g (lw_at lw_m5 117 rfl) rfl
theorem q1196 : (Jvm.Cond.methodLink "RapTable$Doing" (1 : Nat) ({ cls := "RapTable$Wait", name := "<init>", desc := "(I)V" } : Jvm.MethodName)) ∈ lw_all := lw_g (lw_at lw_m5 118 rfl) rfl
theorem q1197 : (Jvm.Cond.fieldLink "RapTable$Doing" (7 : Nat) "RapTable$Doing" "side" "I") ∈ lw_all := lw_g (lw_at lw_m5 119 rfl) rfl
theorem q1198 : (Jvm.Cond.laysFinal "RapTable$Doing" "RapTable$Doing" "side" "I") ∈ lw_all := lw_g (lw_at lw_m5 120 rfl) rfl
theorem q1199 : (Jvm.Cond.soleField "RapTable$Doing" "side") ∈ lw_all := lw_g (lw_at lw_m5 121 rfl) rfl
theorem q1200 : (Jvm.Cond.laysFinal "RapTable$Doing" "RapTable$Wait" "many" "I") ∈ lw_all := lw_g (lw_at lw_m5 122 rfl) rfl
theorem q1201 : (Jvm.Cond.superclass "RapTable$Doing" "RapTable$Wait") ∈ lw_all := lw_g (lw_at lw_m5 123 rfl) rfl
theorem q2234 : (Jvm.Cond.castable "RapTable$Doing" "RapTable$Step") ∈ lw_tbl := lw_at lw_m9 196 rfl
theorem q2257 : (Jvm.Cond.castable "RapTable$Doing" "java/lang/Object") ∈ lw_tbl := lw_at lw_m9 219 rfl
theorem q148 : (Jvm.Cond.initialized "RapTable$Ready") ∈ lw_all := lw_g (lw_at lw_m1 30 rfl) rfl
theorem q554 : (Jvm.Cond.selects "RapTable$Ready" ({ cls := "java/lang/Object", name := "getClass", desc := "()Ljava/lang/Class;" } : Jvm.MethodName) ({ cls := "java/lang/Object", name := "getClass", desc := "()Ljava/lang/Class;" } : Jvm.MethodName)) ∈ lw_all := lw_g (lw_at lw_m2 196 rfl) rfl
theorem q821 : (Jvm.Cond.selects "RapTable$Ready" ({ cls := "RapTable$Step", name := "asks", desc := "()Z" } : Jvm.MethodName) ({ cls := "RapTable$Ready", name := "asks", desc := "()Z" } : Jvm.MethodName)) ∈ lw_all := lw_g (lw_at lw_m3 223 rfl) rfl
theorem q822 : (Jvm.Cond.instanceMethod ({ cls := "RapTable$Ready", name := "asks", desc := "()Z" } : Jvm.MethodName)) ∈ lw_all := lw_g (lw_at lw_m3 224 rfl) rfl
theorem q823 : (Jvm.Cond.code ({ cls := "RapTable$Ready", name := "asks", desc := "()Z" } : Jvm.MethodName) prog_15_method_2_code (1 : Nat) (Option.some Jvm.ClassFile.FieldType.boolean)) ∈ lw_all := lw_g (lw_at lw_m3 225 rfl) rfl
theorem q891 : (Jvm.Cond.selects "RapTable$Ready" ({ cls := "RapTable$Step", name := "goes", desc := "(LRapTable;LRapTable$Run;I)Z" } : Jvm.MethodName) ({ cls := "RapTable$Ready", name := "goes", desc := "(LRapTable;LRapTable$Run;I)Z" } : Jvm.MethodName)) ∈ lw_all := lw_g (lw_at lw_m4 53 rfl) rfl
theorem q892 : (Jvm.Cond.instanceMethod ({ cls := "RapTable$Ready", name := "goes", desc := "(LRapTable;LRapTable$Run;I)Z" } : Jvm.MethodName)) ∈ lw_all := lw_g (lw_at lw_m4 54 rfl) rfl
theorem q893 : (Jvm.Cond.code ({ cls := "RapTable$Ready", name := "goes", desc := "(LRapTable;LRapTable$Run;I)Z" } : Jvm.MethodName) prog_15_method_3_code (4 : Nat) (Option.some Jvm.ClassFile.FieldType.boolean)) ∈ lw_all := lw_g (lw_at lw_m4 55 rfl) rfl
theorem q894 : (Jvm.Cond.methodLink "RapTable$Ready" (16 : Nat) ({ cls := "RapTable$Run", name := "isReady", desc := "(II)Z" } : Jvm.MethodName)) ∈ lw_all := lw_g (lw_at lw_m4 56 rfl) rfl
theorem q921 : (Jvm.Cond.selects "RapTable$Ready" ({ cls := "RapTable$Step", name := "seconds", desc := "()I" } : Jvm.MethodName) ({ cls := "RapTable$Step", name := "seconds", desc := "()I" } : Jvm.MethodName)) ∈ lw_all := lw_g (lw_at lw_m4 83 rfl) rfl
theorem q1203 : (Jvm.Cond.instantiable "RapTable$Ready" (2 : Nat)) ∈ lw_all := lw_g (lw_at lw_m5 125 rfl) rfl
theorem q1205 : (Jvm.Cond.instanceMethod ({ cls := "RapTable$Ready", name := "<init>", desc := "(II)V" } : Jvm.MethodName)) ∈ lw_all := lw_g (lw_at lw_m5 127 rfl) rfl
theorem q1206 : (Jvm.Cond.code ({ cls := "RapTable$Ready", name := "<init>", desc := "(II)V" } : Jvm.MethodName) prog_15_method_1_code (3 : Nat) (Option.none : Option Jvm.ClassFile.FieldType)) ∈ lw_all := lw_g (lw_at lw_m5 128 rfl) rfl
theorem q1207 : (Jvm.Cond.methodLinkNest "RapTable$Ready" (1 : Nat) ({ cls := "RapTable$Step", name := "<init>", desc := "()V" } : Jvm.MethodName) "RapTable") ∈ lw_tbl := lw_at lw_m5 129 rfl
theorem q1208 : (Jvm.Cond.fieldLink "RapTable$Ready" (7 : Nat) "RapTable$Ready" "side" "I") ∈ lw_all := lw_g (lw_at lw_m5 130 rfl) rfl
theorem q1209 : (Jvm.Cond.fieldLink "RapTable$Ready" (13 : Nat) "RapTable$Ready" "many" "I") ∈ lw_all := lw_g (lw_at lw_m5 131 rfl) rfl
theorem q1210 : (Jvm.Cond.laysFinal "RapTable$Ready" "RapTable$Ready" "side" "I") ∈ lw_all := lw_g (lw_at lw_m5 132 rfl) rfl
theorem q1211 : (Jvm.Cond.soleField "RapTable$Ready" "side") ∈ lw_all := lw_g (lw_at lw_m5 133 rfl) rfl
theorem q1212 : (Jvm.Cond.laysFinal "RapTable$Ready" "RapTable$Ready" "many" "I") ∈ lw_all := lw_g (lw_at lw_m5 134 rfl) rfl
theorem q1213 : (Jvm.Cond.soleField "RapTable$Ready" "many") ∈ lw_all := lw_g (lw_at lw_m5 135 rfl) rfl
theorem q1214 : (Jvm.Cond.superclass "RapTable$Ready" "RapTable$Step") ∈ lw_all := lw_g (lw_at lw_m5 136 rfl) rfl
theorem q2236 : (Jvm.Cond.castable "RapTable$Ready" "RapTable$Step") ∈ lw_tbl := lw_at lw_m9 198 rfl
theorem q2258 : (Jvm.Cond.castable "RapTable$Ready" "java/lang/Object") ∈ lw_tbl := lw_at lw_m9 220 rfl
theorem q149 : (Jvm.Cond.initialized "RapTable$Report") ∈ lw_all := lw_g (lw_at lw_m1 31 rfl) rfl
theorem q1241 : (Jvm.Cond.instanceMethod ({ cls := "RapTable$Report", name := "<init>", desc := "(LRapTable;IIII)V" } : Jvm.MethodName)) ∈ lw_all := lw_g (lw_at lw_m5 163 rfl) rfl
theorem q1242 : (Jvm.Cond.code ({ cls := "RapTable$Report", name := "<init>", desc := "(LRapTable;IIII)V" } : Jvm.MethodName) prog_16_method_1_code (6 : Nat) (Option.none : Option Jvm.ClassFile.FieldType)) ∈ lw_all := lw_g (lw_at lw_m5 164 rfl) rfl
theorem q1243 : (Jvm.Cond.methodLink "RapTable$Report" (7 : Nat) ({ cls := "java/lang/Object", name := "<init>", desc := "()V" } : Jvm.MethodName)) ∈ lw_all := lw_g (lw_at lw_m5 165 rfl) rfl
theorem q1249 : (Jvm.Cond.fieldLink "RapTable$Report" (13 : Nat) "RapTable$Report" "person" "I") ∈ lw_all := lw_g (lw_at lw_m5 171 rfl) rfl
theorem q1255 : (Jvm.Cond.fieldLink "RapTable$Report" (17 : Nat) "RapTable$Report" "a" "I") ∈ lw_all := lw_g (lw_at lw_m5 177 rfl) rfl
theorem q1262 : (Jvm.Cond.fieldLink "RapTable$Report" (20 : Nat) "RapTable$Report" "b" "I") ∈ lw_all := lw_g (lw_at lw_m5 184 rfl) rfl
theorem q1269 : (Jvm.Cond.fieldLink "RapTable$Report" (23 : Nat) "RapTable$Report" "day" "I") ∈ lw_all := lw_g (lw_at lw_m5 191 rfl) rfl
theorem q1274 : (Jvm.Cond.fieldLink "RapTable$Report" (1 : Nat) "RapTable$Report" "this$0" "LRapTable;") ∈ lw_all := lw_g (lw_at lw_m5 196 rfl) rfl
theorem q1282 : (Jvm.Cond.soleField "RapTable$Report" "person") ∈ lw_all := lw_g (lw_at lw_m5 204 rfl) rfl
theorem q1284 : (Jvm.Cond.soleField "RapTable$Report" "a") ∈ lw_all := lw_g (lw_at lw_m5 206 rfl) rfl
theorem q1286 : (Jvm.Cond.soleField "RapTable$Report" "b") ∈ lw_all := lw_g (lw_at lw_m5 208 rfl) rfl
theorem q1288 : (Jvm.Cond.soleField "RapTable$Report" "day") ∈ lw_all := lw_g (lw_at lw_m5 210 rfl) rfl
theorem q1290 : (Jvm.Cond.soleField "RapTable$Report" "this$0") ∈ lw_all := lw_g (lw_at lw_m5 212 rfl) rfl
theorem q1320 : (Jvm.Cond.declares ({ cls := "RapTable$Report", name := "isRight", desc := "()Z" } : Jvm.MethodName)) ∈ lw_tbl := lw_at lw_m6 2 rfl
theorem q1321 : (Jvm.Cond.sameMethod "RapTable$Report" "RapTable$Report" "isRight" "()Z") ∈ lw_all := lw_g (lw_at lw_m6 3 rfl) rfl
theorem q1344 : (Jvm.Cond.declares ({ cls := "RapTable$Report", name := "isHonest", desc := "()Z" } : Jvm.MethodName)) ∈ lw_tbl := lw_at lw_m6 26 rfl
theorem q1345 : (Jvm.Cond.sameMethod "RapTable$Report" "RapTable$Report" "isHonest" "()Z") ∈ lw_all := lw_g (lw_at lw_m6 27 rfl) rfl
theorem q1358 : (Jvm.Cond.declares ({ cls := "RapTable$Report", name := "agrees", desc := "(LRapTable$Report;)Z" } : Jvm.MethodName)) ∈ lw_tbl := lw_at lw_m6 40 rfl
theorem q1359 : (Jvm.Cond.sameMethod "RapTable$Report" "RapTable$Report" "agrees" "(LRapTable$Report;)Z") ∈ lw_all := lw_g (lw_at lw_m6 41 rfl) rfl
theorem q150 : (Jvm.Cond.initialized "RapTable$Came") ∈ lw_all := lw_g (lw_at lw_m1 32 rfl) rfl
theorem q230 : (Jvm.Cond.fieldLinkNest "RapTable$Came" (41 : Nat) "RapTable$Sitting" "moves" "Ljava/util/ArrayList;" "RapTable") ∈ lw_tbl := lw_at lw_m1 112 rfl
theorem q364 : (Jvm.Cond.fieldLinkNest "RapTable$Came" (84 : Nat) "RapTable" "seats" "I" "RapTable") ∈ lw_tbl := lw_at lw_m2 6 rfl
theorem q366 : (Jvm.Cond.fieldLinkNest "RapTable$Came" (37 : Nat) "RapTable" "sitting" "LRapTable$Sitting;" "RapTable") ∈ lw_tbl := lw_at lw_m2 8 rfl
theorem q374 : (Jvm.Cond.fieldLinkNest "RapTable$Came" (61 : Nat) "RapTable" "loss" "I" "RapTable") ∈ lw_tbl := lw_at lw_m2 16 rfl
theorem q544 : (Jvm.Cond.selects "RapTable$Came" ({ cls := "java/lang/Object", name := "getClass", desc := "()Ljava/lang/Class;" } : Jvm.MethodName) ({ cls := "java/lang/Object", name := "getClass", desc := "()Ljava/lang/Class;" } : Jvm.MethodName)) ∈ lw_all := lw_g (lw_at lw_m2 186 rfl) rfl
theorem q664 : (Jvm.Cond.fieldLinkNest "RapTable$Came" (22 : Nat) "RapTable$Move" "thing" "I" "RapTable") ∈ lw_tbl := lw_at lw_m3 66 rfl
theorem q669 : (Jvm.Cond.fieldLinkNest "RapTable$Came" (25 : Nat) "RapTable$Move" "to" "I" "RapTable") ∈ lw_tbl := lw_at lw_m3 71 rfl
theorem q673 : (Jvm.Cond.fieldLinkNest "RapTable$Came" (28 : Nat) "RapTable$Move" "second" "I" "RapTable") ∈ lw_tbl := lw_at lw_m3 75 rfl
theorem q1236 : (Jvm.Cond.instantiable "RapTable$Came" (8 : Nat)) ∈ lw_all := lw_g (lw_at lw_m5 158 rfl) rfl
theorem q1238 : (Jvm.Cond.instanceMethod ({ cls := "RapTable$Came", name := "<init>", desc := "(LRapTable;IIIIII)V" } : Jvm.MethodName)) ∈ lw_all := lw_g (lw_at lw_m5 160 rfl) rfl
theorem q1239 : (Jvm.Cond.code ({ cls := "RapTable$Came", name := "<init>", desc := "(LRapTable;IIIIII)V" } : Jvm.MethodName) prog_4_method_1_code (8 : Nat) (Option.none : Option Jvm.ClassFile.FieldType)) ∈ lw_all := lw_g (lw_at lw_m5 161 rfl) rfl
theorem q1240 : (Jvm.Cond.methodLink "RapTable$Came" (9 : Nat) ({ cls := "RapTable$Report", name := "<init>", desc := "(LRapTable;IIII)V" } : Jvm.MethodName)) ∈ lw_all := lw_g (lw_at lw_m5 162 rfl) rfl
theorem q1244 : (Jvm.Cond.fieldLink "RapTable$Came" (15 : Nat) "RapTable$Came" "thing" "I") ∈ lw_all := lw_g (lw_at lw_m5 166 rfl) rfl
theorem q1246 : (Jvm.Cond.fieldLink "RapTable$Came" (19 : Nat) "RapTable$Came" "spot" "I") ∈ lw_all := lw_g (lw_at lw_m5 168 rfl) rfl
theorem q1248 : (Jvm.Cond.fieldLink "RapTable$Came" (3 : Nat) "RapTable$Came" "this$0" "LRapTable;") ∈ lw_all := lw_g (lw_at lw_m5 170 rfl) rfl
theorem q1252 : (Jvm.Cond.fieldLink "RapTable$Came" (67 : Nat) "RapTable$Came" "person" "I") ∈ lw_all := lw_g (lw_at lw_m5 174 rfl) rfl
theorem q1253 : (Jvm.Cond.sameField "RapTable$Came" "RapTable$Report" "person" "I") ∈ lw_all := lw_g (lw_at lw_m5 175 rfl) rfl
theorem q1256 : (Jvm.Cond.fieldLink "RapTable$Came" (31 : Nat) "RapTable$Came" "a" "I") ∈ lw_all := lw_g (lw_at lw_m5 178 rfl) rfl
theorem q1257 : (Jvm.Cond.sameField "RapTable$Came" "RapTable$Report" "a" "I") ∈ lw_all := lw_g (lw_at lw_m5 179 rfl) rfl
theorem q1260 : (Jvm.Cond.fieldLink "RapTable$Came" (75 : Nat) "RapTable$Report" "a" "I") ∈ lw_all := lw_g (lw_at lw_m5 182 rfl) rfl
theorem q1263 : (Jvm.Cond.fieldLink "RapTable$Came" (34 : Nat) "RapTable$Came" "b" "I") ∈ lw_all := lw_g (lw_at lw_m5 185 rfl) rfl
theorem q1264 : (Jvm.Cond.sameField "RapTable$Came" "RapTable$Report" "b" "I") ∈ lw_all := lw_g (lw_at lw_m5 186 rfl) rfl
theorem q1267 : (Jvm.Cond.fieldLink "RapTable$Came" (74 : Nat) "RapTable$Report" "b" "I") ∈ lw_all := lw_g (lw_at lw_m5 189 rfl) rfl
theorem q1270 : (Jvm.Cond.fieldLink "RapTable$Came" (64 : Nat) "RapTable$Came" "day" "I") ∈ lw_all := lw_g (lw_at lw_m5 192 rfl) rfl
theorem q1271 : (Jvm.Cond.sameField "RapTable$Came" "RapTable$Report" "day" "I") ∈ lw_all := lw_g (lw_at lw_m5 193 rfl) rfl
theorem q1275 : (Jvm.Cond.laysFinal "RapTable$Came" "RapTable$Came" "thing" "I") ∈ lw_all := lw_g (lw_at lw_m5 197 rfl) rfl
theorem q1276 : (Jvm.Cond.soleField "RapTable$Came" "thing") ∈ lw_all := lw_g (lw_at lw_m5 198 rfl) rfl
theorem q1277 : (Jvm.Cond.laysFinal "RapTable$Came" "RapTable$Came" "spot" "I") ∈ lw_all := lw_g (lw_at lw_m5 199 rfl) rfl
theorem q1278 : (Jvm.Cond.soleField "RapTable$Came" "spot") ∈ lw_all := lw_g (lw_at lw_m5 200 rfl) rfl
theorem q1279 : (Jvm.Cond.laysFinal "RapTable$Came" "RapTable$Came" "this$0" "LRapTable;") ∈ lw_all := lw_g (lw_at lw_m5 201 rfl) rfl
theorem q1280 : (Jvm.Cond.soleField "RapTable$Came" "this$0") ∈ lw_all := lw_g (lw_at lw_m5 202 rfl) rfl
theorem q1281 : (Jvm.Cond.laysFinal "RapTable$Came" "RapTable$Report" "person" "I") ∈ lw_all := lw_g (lw_at lw_m5 203 rfl) rfl
theorem q1283 : (Jvm.Cond.laysFinal "RapTable$Came" "RapTable$Report" "a" "I") ∈ lw_all := lw_g (lw_at lw_m5 205 rfl) rfl
theorem q1285 : (Jvm.Cond.laysFinal "RapTable$Came" "RapTable$Report" "b" "I") ∈ lw_all := lw_g (lw_at lw_m5 207 rfl) rfl
theorem q1287 : (Jvm.Cond.laysFinal "RapTable$Came" "RapTable$Report" "day" "I") ∈ lw_all := lw_g (lw_at lw_m5 209 rfl) rfl
theorem q1289 : (Jvm.Cond.laysFinal "RapTable$Came" "RapTable$Report" "this$0" "LRapTable;") ∈ lw_all := lw_g (lw_at lw_m5 211 rfl) rfl
theorem q1291 : (Jvm.Cond.superclass "RapTable$Came" "RapTable$Report") ∈ lw_all := lw_g (lw_at lw_m5 213 rfl) rfl
theorem q1322 : (Jvm.Cond.selects "RapTable$Came" ({ cls := "RapTable$Report", name := "isRight", desc := "()Z" } : Jvm.MethodName) ({ cls := "RapTable$Came", name := "isRight", desc := "()Z" } : Jvm.MethodName)) ∈ lw_all := lw_g (lw_at lw_m6 4 rfl) rfl
theorem q1323 : (Jvm.Cond.instanceMethod ({ cls := "RapTable$Came", name := "isRight", desc := "()Z" } : Jvm.MethodName)) ∈ lw_all := lw_g (lw_at lw_m6 5 rfl) rfl
theorem q1324 : (Jvm.Cond.code ({ cls := "RapTable$Came", name := "isRight", desc := "()Z" } : Jvm.MethodName) prog_4_method_3_code (2 : Nat) (Option.some Jvm.ClassFile.FieldType.boolean)) ∈ lw_all := lw_g (lw_at lw_m6 6 rfl) rfl
theorem q1325 : (Jvm.Cond.methodLink "RapTable$Came" (47 : Nat) ({ cls := "java/util/ArrayList", name := "size", desc := "()I" } : Jvm.MethodName)) ∈ lw_all := lw_g (lw_at lw_m6 7 rfl) rfl
theorem q1326 : (Jvm.Cond.methodLink "RapTable$Came" (53 : Nat) ({ cls := "java/util/ArrayList", name := "get", desc := "(I)Ljava/lang/Object;" } : Jvm.MethodName)) ∈ lw_all := lw_g (lw_at lw_m6 8 rfl) rfl
theorem q1327 : (Jvm.Cond.classLink "RapTable$Came" (23 : Nat) "RapTable$Move") ∈ lw_all := lw_g (lw_at lw_m6 9 rfl) rfl
theorem q1328 : (Jvm.Cond.methodLink "RapTable$Came" (57 : Nat) ({ cls := "RapTable$Came", name := "isMove", desc := "(LRapTable$Move;I)Z" } : Jvm.MethodName)) ∈ lw_all := lw_g (lw_at lw_m6 10 rfl) rfl
theorem q1329 : (Jvm.Cond.privateMethod ({ cls := "RapTable$Came", name := "isMove", desc := "(LRapTable$Move;I)Z" } : Jvm.MethodName)) ∈ lw_tbl := lw_at lw_m6 11 rfl
theorem q1330 : (Jvm.Cond.instanceMethod ({ cls := "RapTable$Came", name := "isMove", desc := "(LRapTable$Move;I)Z" } : Jvm.MethodName)) ∈ lw_all := lw_g (lw_at lw_m6 12 rfl) rfl
theorem q1331 : (Jvm.Cond.code ({ cls := "RapTable$Came", name := "isMove", desc := "(LRapTable$Move;I)Z" } : Jvm.MethodName) prog_4_method_2_code (3 : Nat) (Option.some Jvm.ClassFile.FieldType.boolean)) ∈ lw_all := lw_g (lw_at lw_m6 13 rfl) rfl
theorem q1346 : (Jvm.Cond.selects "RapTable$Came" ({ cls := "RapTable$Report", name := "isHonest", desc := "()Z" } : Jvm.MethodName) ({ cls := "RapTable$Came", name := "isHonest", desc := "()Z" } : Jvm.MethodName)) ∈ lw_all := lw_g (lw_at lw_m6 28 rfl) rfl
theorem q1347 : (Jvm.Cond.instanceMethod ({ cls := "RapTable$Came", name := "isHonest", desc := "()Z" } : Jvm.MethodName)) ∈ lw_all := lw_g (lw_at lw_m6 29 rfl) rfl
theorem q1348 : (Jvm.Cond.code ({ cls := "RapTable$Came", name := "isHonest", desc := "()Z" } : Jvm.MethodName) prog_4_method_4_code (2 : Nat) (Option.some Jvm.ClassFile.FieldType.boolean)) ∈ lw_all := lw_g (lw_at lw_m6 30 rfl) rfl
theorem q1349 : (Jvm.Cond.methodLinkNest "RapTable$Came" (70 : Nat) ({ cls := "RapTable", name := "sawIt", desc := "(ILRapTable$Move;)Z" } : Jvm.MethodName) "RapTable") ∈ lw_tbl := lw_at lw_m6 31 rfl
theorem q1360 : (Jvm.Cond.selects "RapTable$Came" ({ cls := "RapTable$Report", name := "agrees", desc := "(LRapTable$Report;)Z" } : Jvm.MethodName) ({ cls := "RapTable$Came", name := "agrees", desc := "(LRapTable$Report;)Z" } : Jvm.MethodName)) ∈ lw_all := lw_g (lw_at lw_m6 42 rfl) rfl
theorem q1361 : (Jvm.Cond.instanceMethod ({ cls := "RapTable$Came", name := "agrees", desc := "(LRapTable$Report;)Z" } : Jvm.MethodName)) ∈ lw_all := lw_g (lw_at lw_m6 43 rfl) rfl
theorem q1362 : (Jvm.Cond.code ({ cls := "RapTable$Came", name := "agrees", desc := "(LRapTable$Report;)Z" } : Jvm.MethodName) prog_4_method_5_code (2 : Nat) (Option.some Jvm.ClassFile.FieldType.boolean)) ∈ lw_all := lw_g (lw_at lw_m6 44 rfl) rfl
theorem q1363 : (Jvm.Cond.classLink "RapTable$Came" (4 : Nat) "RapTable$Came") ∈ lw_all := lw_g (lw_at lw_m6 45 rfl) rfl
theorem q1377 : (Jvm.Cond.instanceMethod ({ cls := "RapTable$Came", name := "isStory", desc := "(LRapTable$Way;IZ)Z" } : Jvm.MethodName)) ∈ lw_all := lw_g (lw_at lw_m6 59 rfl) rfl
theorem q1378 : (Jvm.Cond.selects "RapTable$Came" ({ cls := "RapTable$Came", name := "isStory", desc := "(LRapTable$Way;IZ)Z" } : Jvm.MethodName) ({ cls := "RapTable$Came", name := "isStory", desc := "(LRapTable$Way;IZ)Z" } : Jvm.MethodName)) ∈ lw_all := lw_g (lw_at lw_m6 60 rfl) rfl
theorem q1379 : (Jvm.Cond.code ({ cls := "RapTable$Came", name := "isStory", desc := "(LRapTable$Way;IZ)Z" } : Jvm.MethodName) prog_4_method_6_code (5 : Nat) (Option.some Jvm.ClassFile.FieldType.boolean)) ∈ lw_all := lw_g (lw_at lw_m6 61 rfl) rfl
theorem q1380 : (Jvm.Cond.methodLinkNest "RapTable$Came" (76 : Nat) ({ cls := "RapTable", name := "isThing", desc := "(I)Z" } : Jvm.MethodName) "RapTable") ∈ lw_tbl := lw_at lw_m6 62 rfl
theorem q1381 : (Jvm.Cond.methodLinkNest "RapTable$Came" (80 : Nat) ({ cls := "RapTable", name := "fit", desc := "(LRapTable$Way;IIIIII)I" } : Jvm.MethodName) "RapTable") ∈ lw_tbl := lw_at lw_m6 63 rfl
theorem q2239 : (Jvm.Cond.castable "RapTable$Came" "RapTable$Report") ∈ lw_tbl := lw_at lw_m9 201 rfl
theorem q2259 : (Jvm.Cond.castable "RapTable$Came" "java/lang/Object") ∈ lw_tbl := lw_at lw_m9 221 rfl
theorem q124 : (Jvm.Cond.initialized "RapTable$Run") ∈ lw_all := lw_g (lw_at lw_m1 6 rfl) rfl
theorem q213 : (Jvm.Cond.fieldLinkNest "RapTable$Run" (52 : Nat) "RapTable$Sitting" "need" "[I" "RapTable") ∈ lw_tbl := lw_at lw_m1 95 rfl
theorem q216 : (Jvm.Cond.fieldLinkNest "RapTable$Run" (33 : Nat) "RapTable$Sitting" "firm" "[I" "RapTable") ∈ lw_tbl := lw_at lw_m1 98 rfl
theorem q225 : (Jvm.Cond.fieldLinkNest "RapTable$Run" (66 : Nat) "RapTable$Sitting" "truly" "[[I" "RapTable") ∈ lw_tbl := lw_at lw_m1 107 rfl
theorem q261 : (Jvm.Cond.instantiable "RapTable$Run" (10 : Nat)) ∈ lw_all := lw_g (lw_at lw_m1 143 rfl) rfl
theorem q263 : (Jvm.Cond.instanceMethod ({ cls := "RapTable$Run", name := "<init>", desc := "(LRapTable;)V" } : Jvm.MethodName)) ∈ lw_all := lw_g (lw_at lw_m1 145 rfl) rfl
theorem q264 : (Jvm.Cond.code ({ cls := "RapTable$Run", name := "<init>", desc := "(LRapTable;)V" } : Jvm.MethodName) prog_17_method_1_code (2 : Nat) (Option.none : Option Jvm.ClassFile.FieldType)) ∈ lw_all := lw_g (lw_at lw_m1 146 rfl) rfl
theorem q265 : (Jvm.Cond.methodLink "RapTable$Run" (9 : Nat) ({ cls := "java/lang/Object", name := "<init>", desc := "()V" } : Jvm.MethodName)) ∈ lw_all := lw_g (lw_at lw_m1 147 rfl) rfl
theorem q266 : (Jvm.Cond.fieldLink "RapTable$Run" (15 : Nat) "RapTable$Run" "person" "I") ∈ lw_all := lw_g (lw_at lw_m1 148 rfl) rfl
theorem q269 : (Jvm.Cond.fieldLink "RapTable$Run" (19 : Nat) "RapTable$Run" "friends" "I") ∈ lw_all := lw_g (lw_at lw_m1 151 rfl) rfl
theorem q272 : (Jvm.Cond.fieldLink "RapTable$Run" (83 : Nat) "RapTable$Run" "from" "I") ∈ lw_all := lw_g (lw_at lw_m1 154 rfl) rfl
theorem q274 : (Jvm.Cond.fieldLink "RapTable$Run" (92 : Nat) "RapTable$Run" "to" "I") ∈ lw_all := lw_g (lw_at lw_m1 156 rfl) rfl
theorem q276 : (Jvm.Cond.fieldLink "RapTable$Run" (80 : Nat) "RapTable$Run" "first" "I") ∈ lw_all := lw_g (lw_at lw_m1 158 rfl) rfl
theorem q281 : (Jvm.Cond.fieldLink "RapTable$Run" (63 : Nat) "RapTable$Run" "swapped" "I") ∈ lw_all := lw_g (lw_at lw_m1 163 rfl) rfl
theorem q284 : (Jvm.Cond.fieldLink "RapTable$Run" (26 : Nat) "RapTable$Run" "pull" "I") ∈ lw_all := lw_g (lw_at lw_m1 166 rfl) rfl
theorem q286 : (Jvm.Cond.fieldLink "RapTable$Run" (3 : Nat) "RapTable$Run" "this$0" "LRapTable;") ∈ lw_all := lw_g (lw_at lw_m1 168 rfl) rfl
theorem q287 : (Jvm.Cond.lays "RapTable$Run" "RapTable$Run" "person" "I") ∈ lw_all := lw_g (lw_at lw_m1 169 rfl) rfl
theorem q288 : (Jvm.Cond.soleField "RapTable$Run" "person") ∈ lw_all := lw_g (lw_at lw_m1 170 rfl) rfl
theorem q289 : (Jvm.Cond.lays "RapTable$Run" "RapTable$Run" "friends" "I") ∈ lw_all := lw_g (lw_at lw_m1 171 rfl) rfl
theorem q290 : (Jvm.Cond.soleField "RapTable$Run" "friends") ∈ lw_all := lw_g (lw_at lw_m1 172 rfl) rfl
theorem q291 : (Jvm.Cond.lays "RapTable$Run" "RapTable$Run" "thing" "I") ∈ lw_all := lw_g (lw_at lw_m1 173 rfl) rfl
theorem q292 : (Jvm.Cond.soleField "RapTable$Run" "thing") ∈ lw_all := lw_g (lw_at lw_m1 174 rfl) rfl
theorem q293 : (Jvm.Cond.lays "RapTable$Run" "RapTable$Run" "from" "I") ∈ lw_all := lw_g (lw_at lw_m1 175 rfl) rfl
theorem q294 : (Jvm.Cond.soleField "RapTable$Run" "from") ∈ lw_all := lw_g (lw_at lw_m1 176 rfl) rfl
theorem q295 : (Jvm.Cond.lays "RapTable$Run" "RapTable$Run" "to" "I") ∈ lw_all := lw_g (lw_at lw_m1 177 rfl) rfl
theorem q296 : (Jvm.Cond.soleField "RapTable$Run" "to") ∈ lw_all := lw_g (lw_at lw_m1 178 rfl) rfl
theorem q297 : (Jvm.Cond.lays "RapTable$Run" "RapTable$Run" "first" "I") ∈ lw_all := lw_g (lw_at lw_m1 179 rfl) rfl
theorem q298 : (Jvm.Cond.soleField "RapTable$Run" "first") ∈ lw_all := lw_g (lw_at lw_m1 180 rfl) rfl
theorem q299 : (Jvm.Cond.lays "RapTable$Run" "RapTable$Run" "last" "I") ∈ lw_all := lw_g (lw_at lw_m1 181 rfl) rfl
theorem q300 : (Jvm.Cond.soleField "RapTable$Run" "last") ∈ lw_all := lw_g (lw_at lw_m1 182 rfl) rfl
theorem q301 : (Jvm.Cond.lays "RapTable$Run" "RapTable$Run" "swapped" "I") ∈ lw_all := lw_g (lw_at lw_m1 183 rfl) rfl
theorem q302 : (Jvm.Cond.soleField "RapTable$Run" "swapped") ∈ lw_all := lw_g (lw_at lw_m1 184 rfl) rfl
theorem q303 : (Jvm.Cond.lays "RapTable$Run" "RapTable$Run" "pull" "I") ∈ lw_all := lw_g (lw_at lw_m1 185 rfl) rfl
theorem q304 : (Jvm.Cond.soleField "RapTable$Run" "pull") ∈ lw_all := lw_g (lw_at lw_m1 186 rfl) rfl
theorem q305 : (Jvm.Cond.laysFinal "RapTable$Run" "RapTable$Run" "this$0" "LRapTable;") ∈ lw_all := lw_g (lw_at lw_m1 187 rfl) rfl
theorem q306 : (Jvm.Cond.soleField "RapTable$Run" "this$0") ∈ lw_all := lw_g (lw_at lw_m1 188 rfl) rfl
theorem q307 : (Jvm.Cond.superclass "RapTable$Run" "java/lang/Object") ∈ lw_all := lw_g (lw_at lw_m1 189 rfl) rfl
theorem q363 : (Jvm.Cond.fieldLinkNest "RapTable$Run" (39 : Nat) "RapTable" "seats" "I" "RapTable") ∈ lw_tbl := lw_at lw_m2 5 rfl
theorem q368 : (Jvm.Cond.fieldLinkNest "RapTable$Run" (29 : Nat) "RapTable" "sitting" "LRapTable$Sitting;" "RapTable") ∈ lw_tbl := lw_at lw_m2 10 rfl
theorem q555 : (Jvm.Cond.selects "RapTable$Run" ({ cls := "java/lang/Object", name := "getClass", desc := "()Ljava/lang/Class;" } : Jvm.MethodName) ({ cls := "java/lang/Object", name := "getClass", desc := "()Ljava/lang/Class;" } : Jvm.MethodName)) ∈ lw_all := lw_g (lw_at lw_m2 197 rfl) rfl
theorem q834 : (Jvm.Cond.instanceMethod ({ cls := "RapTable$Run", name := "isAway", desc := "(I)Z" } : Jvm.MethodName)) ∈ lw_all := lw_g (lw_at lw_m3 236 rfl) rfl
theorem q835 : (Jvm.Cond.selects "RapTable$Run" ({ cls := "RapTable$Run", name := "isAway", desc := "(I)Z" } : Jvm.MethodName) ({ cls := "RapTable$Run", name := "isAway", desc := "(I)Z" } : Jvm.MethodName)) ∈ lw_all := lw_g (lw_at lw_m3 237 rfl) rfl
theorem q836 : (Jvm.Cond.code ({ cls := "RapTable$Run", name := "isAway", desc := "(I)Z" } : Jvm.MethodName) prog_17_method_12_code (3 : Nat) (Option.some Jvm.ClassFile.FieldType.boolean)) ∈ lw_all := lw_g (lw_at lw_m3 238 rfl) rfl
theorem q837 : (Jvm.Cond.methodLink "RapTable$Run" (55 : Nat) ({ cls := "RapTable$Run", name := "isFriend", desc := "(I)Z" } : Jvm.MethodName)) ∈ lw_all := lw_g (lw_at lw_m3 239 rfl) rfl
theorem q838 : (Jvm.Cond.instanceMethod ({ cls := "RapTable$Run", name := "isFriend", desc := "(I)Z" } : Jvm.MethodName)) ∈ lw_all := lw_g (lw_at lw_m4 0 rfl) rfl
theorem q839 : (Jvm.Cond.selects "RapTable$Run" ({ cls := "RapTable$Run", name := "isFriend", desc := "(I)Z" } : Jvm.MethodName) ({ cls := "RapTable$Run", name := "isFriend", desc := "(I)Z" } : Jvm.MethodName)) ∈ lw_all := lw_g (lw_at lw_m4 1 rfl) rfl
theorem q840 : (Jvm.Cond.code ({ cls := "RapTable$Run", name := "isFriend", desc := "(I)Z" } : Jvm.MethodName) prog_17_method_2_code (2 : Nat) (Option.some Jvm.ClassFile.FieldType.boolean)) ∈ lw_all := lw_g (lw_at lw_m4 2 rfl) rfl
theorem q841 : (Jvm.Cond.methodLink "RapTable$Run" (45 : Nat) ({ cls := "RapTable$Run", name := "eyes", desc := "(II)I" } : Jvm.MethodName)) ∈ lw_all := lw_g (lw_at lw_m4 3 rfl) rfl
theorem q842 : (Jvm.Cond.instanceMethod ({ cls := "RapTable$Run", name := "eyes", desc := "(II)I" } : Jvm.MethodName)) ∈ lw_all := lw_g (lw_at lw_m4 4 rfl) rfl
theorem q843 : (Jvm.Cond.selects "RapTable$Run" ({ cls := "RapTable$Run", name := "eyes", desc := "(II)I" } : Jvm.MethodName) ({ cls := "RapTable$Run", name := "eyes", desc := "(II)I" } : Jvm.MethodName)) ∈ lw_all := lw_g (lw_at lw_m4 5 rfl) rfl
theorem q844 : (Jvm.Cond.code ({ cls := "RapTable$Run", name := "eyes", desc := "(II)I" } : Jvm.MethodName) prog_17_method_4_code (4 : Nat) (Option.some Jvm.ClassFile.FieldType.int)) ∈ lw_all := lw_g (lw_at lw_m4 6 rfl) rfl
theorem q845 : (Jvm.Cond.methodLinkNest "RapTable$Run" (22 : Nat) ({ cls := "RapTable", name := "ordered", desc := "(II)I" } : Jvm.MethodName) "RapTable") ∈ lw_tbl := lw_at lw_m4 7 rfl
theorem q846 : (Jvm.Cond.methodLinkNest "RapTable$Run" (42 : Nat) ({ cls := "RapTable", name := "eyesOf", desc := "(II)I" } : Jvm.MethodName) "RapTable") ∈ lw_tbl := lw_at lw_m4 8 rfl
theorem q865 : (Jvm.Cond.instanceMethod ({ cls := "RapTable$Run", name := "isHidden", desc := "(II)Z" } : Jvm.MethodName)) ∈ lw_all := lw_g (lw_at lw_m4 27 rfl) rfl
theorem q866 : (Jvm.Cond.selects "RapTable$Run" ({ cls := "RapTable$Run", name := "isHidden", desc := "(II)Z" } : Jvm.MethodName) ({ cls := "RapTable$Run", name := "isHidden", desc := "(II)Z" } : Jvm.MethodName)) ∈ lw_all := lw_g (lw_at lw_m4 28 rfl) rfl
theorem q867 : (Jvm.Cond.code ({ cls := "RapTable$Run", name := "isHidden", desc := "(II)Z" } : Jvm.MethodName) prog_17_method_11_code (5 : Nat) (Option.some Jvm.ClassFile.FieldType.boolean)) ∈ lw_all := lw_g (lw_at lw_m4 29 rfl) rfl
theorem q868 : (Jvm.Cond.methodLink "RapTable$Run" (70 : Nat) ({ cls := "RapTable$Run", name := "hand", desc := "(I)I" } : Jvm.MethodName)) ∈ lw_all := lw_g (lw_at lw_m4 30 rfl) rfl
theorem q869 : (Jvm.Cond.instanceMethod ({ cls := "RapTable$Run", name := "hand", desc := "(I)I" } : Jvm.MethodName)) ∈ lw_all := lw_g (lw_at lw_m4 31 rfl) rfl
theorem q870 : (Jvm.Cond.selects "RapTable$Run" ({ cls := "RapTable$Run", name := "hand", desc := "(I)I" } : Jvm.MethodName) ({ cls := "RapTable$Run", name := "hand", desc := "(I)I" } : Jvm.MethodName)) ∈ lw_all := lw_g (lw_at lw_m4 32 rfl) rfl
theorem q871 : (Jvm.Cond.code ({ cls := "RapTable$Run", name := "hand", desc := "(I)I" } : Jvm.MethodName) prog_17_method_3_code (2 : Nat) (Option.some Jvm.ClassFile.FieldType.int)) ∈ lw_all := lw_g (lw_at lw_m4 33 rfl) rfl
theorem q872 : (Jvm.Cond.methodLink "RapTable$Run" (89 : Nat) ({ cls := "RapTable$Run", name := "feels", desc := "(III)Z" } : Jvm.MethodName)) ∈ lw_all := lw_g (lw_at lw_m4 34 rfl) rfl
theorem q873 : (Jvm.Cond.privateMethod ({ cls := "RapTable$Run", name := "feels", desc := "(III)Z" } : Jvm.MethodName)) ∈ lw_tbl := lw_at lw_m4 35 rfl
theorem q874 : (Jvm.Cond.instanceMethod ({ cls := "RapTable$Run", name := "feels", desc := "(III)Z" } : Jvm.MethodName)) ∈ lw_all := lw_g (lw_at lw_m4 36 rfl) rfl
theorem q875 : (Jvm.Cond.code ({ cls := "RapTable$Run", name := "feels", desc := "(III)Z" } : Jvm.MethodName) prog_17_method_8_code (4 : Nat) (Option.some Jvm.ClassFile.FieldType.boolean)) ∈ lw_all := lw_g (lw_at lw_m4 37 rfl) rfl
theorem q876 : (Jvm.Cond.methodLink "RapTable$Run" (59 : Nat) ({ cls := "RapTable$Run", name := "isSeen", desc := "(III)Z" } : Jvm.MethodName)) ∈ lw_all := lw_g (lw_at lw_m4 38 rfl) rfl
theorem q877 : (Jvm.Cond.instanceMethod ({ cls := "RapTable$Run", name := "isSeen", desc := "(III)Z" } : Jvm.MethodName)) ∈ lw_all := lw_g (lw_at lw_m4 39 rfl) rfl
theorem q878 : (Jvm.Cond.selects "RapTable$Run" ({ cls := "RapTable$Run", name := "isSeen", desc := "(III)Z" } : Jvm.MethodName) ({ cls := "RapTable$Run", name := "isSeen", desc := "(III)Z" } : Jvm.MethodName)) ∈ lw_all := lw_g (lw_at lw_m4 40 rfl) rfl
theorem q879 : (Jvm.Cond.code ({ cls := "RapTable$Run", name := "isSeen", desc := "(III)Z" } : Jvm.MethodName) prog_17_method_5_code (4 : Nat) (Option.some Jvm.ClassFile.FieldType.boolean)) ∈ lw_all := lw_g (lw_at lw_m4 41 rfl) rfl
theorem q880 : (Jvm.Cond.methodLinkNest "RapTable$Run" (48 : Nat) ({ cls := "RapTable", name := "lightAt", desc := "(I)I" } : Jvm.MethodName) "RapTable") ∈ lw_tbl := lw_at lw_m4 42 rfl
theorem q886 : (Jvm.Cond.instanceMethod ({ cls := "RapTable$Run", name := "isFreeNow", desc := "(II)Z" } : Jvm.MethodName)) ∈ lw_all := lw_g (lw_at lw_m4 48 rfl) rfl
theorem q887 : (Jvm.Cond.selects "RapTable$Run" ({ cls := "RapTable$Run", name := "isFreeNow", desc := "(II)Z" } : Jvm.MethodName) ({ cls := "RapTable$Run", name := "isFreeNow", desc := "(II)Z" } : Jvm.MethodName)) ∈ lw_all := lw_g (lw_at lw_m4 49 rfl) rfl
theorem q888 : (Jvm.Cond.code ({ cls := "RapTable$Run", name := "isFreeNow", desc := "(II)Z" } : Jvm.MethodName) prog_17_method_7_code (3 : Nat) (Option.some Jvm.ClassFile.FieldType.boolean)) ∈ lw_all := lw_g (lw_at lw_m4 50 rfl) rfl
theorem q889 : (Jvm.Cond.methodLinkNest "RapTable$Run" (73 : Nat) ({ cls := "RapTable", name := "isTied", desc := "(II)Z" } : Jvm.MethodName) "RapTable") ∈ lw_tbl := lw_at lw_m4 51 rfl
theorem q890 : (Jvm.Cond.methodLinkNest "RapTable$Run" (77 : Nat) ({ cls := "RapTable", name := "isFree", desc := "(II)Z" } : Jvm.MethodName) "RapTable") ∈ lw_tbl := lw_at lw_m4 52 rfl
theorem q895 : (Jvm.Cond.instanceMethod ({ cls := "RapTable$Run", name := "isReady", desc := "(II)Z" } : Jvm.MethodName)) ∈ lw_all := lw_g (lw_at lw_m4 57 rfl) rfl
theorem q896 : (Jvm.Cond.selects "RapTable$Run" ({ cls := "RapTable$Run", name := "isReady", desc := "(II)Z" } : Jvm.MethodName) ({ cls := "RapTable$Run", name := "isReady", desc := "(II)Z" } : Jvm.MethodName)) ∈ lw_all := lw_g (lw_at lw_m4 58 rfl) rfl
theorem q897 : (Jvm.Cond.code ({ cls := "RapTable$Run", name := "isReady", desc := "(II)Z" } : Jvm.MethodName) prog_17_method_10_code (5 : Nat) (Option.some Jvm.ClassFile.FieldType.boolean)) ∈ lw_all := lw_g (lw_at lw_m4 59 rfl) rfl
theorem q898 : (Jvm.Cond.methodLinkNest "RapTable$Run" (86 : Nat) ({ cls := "RapTable", name := "sees", desc := "(III)Z" } : Jvm.MethodName) "RapTable") ∈ lw_tbl := lw_at lw_m4 60 rfl
theorem q903 : (Jvm.Cond.instanceMethod ({ cls := "RapTable$Run", name := "isHeld", desc := "(II)Z" } : Jvm.MethodName)) ∈ lw_all := lw_g (lw_at lw_m4 65 rfl) rfl
theorem q904 : (Jvm.Cond.selects "RapTable$Run" ({ cls := "RapTable$Run", name := "isHeld", desc := "(II)Z" } : Jvm.MethodName) ({ cls := "RapTable$Run", name := "isHeld", desc := "(II)Z" } : Jvm.MethodName)) ∈ lw_all := lw_g (lw_at lw_m4 66 rfl) rfl
theorem q905 : (Jvm.Cond.code ({ cls := "RapTable$Run", name := "isHeld", desc := "(II)Z" } : Jvm.MethodName) prog_17_method_9_code (4 : Nat) (Option.some Jvm.ClassFile.FieldType.boolean)) ∈ lw_all := lw_g (lw_at lw_m4 67 rfl) rfl
theorem q907 : (Jvm.Cond.instanceMethod ({ cls := "RapTable$Run", name := "isUnseen", desc := "(II)Z" } : Jvm.MethodName)) ∈ lw_all := lw_g (lw_at lw_m4 69 rfl) rfl
theorem q908 : (Jvm.Cond.selects "RapTable$Run" ({ cls := "RapTable$Run", name := "isUnseen", desc := "(II)Z" } : Jvm.MethodName) ({ cls := "RapTable$Run", name := "isUnseen", desc := "(II)Z" } : Jvm.MethodName)) ∈ lw_all := lw_g (lw_at lw_m4 70 rfl) rfl
theorem q909 : (Jvm.Cond.code ({ cls := "RapTable$Run", name := "isUnseen", desc := "(II)Z" } : Jvm.MethodName) prog_17_method_6_code (4 : Nat) (Option.some Jvm.ClassFile.FieldType.boolean)) ∈ lw_all := lw_g (lw_at lw_m4 71 rfl) rfl
theorem q2244 : (Jvm.Cond.castable "RapTable$Run" "java/lang/Object") ∈ lw_tbl := lw_at lw_m9 206 rfl
theorem q151 : (Jvm.Cond.initialized "RapTable$Held") ∈ lw_all := lw_g (lw_at lw_m1 33 rfl) rfl
theorem q221 : (Jvm.Cond.fieldLinkNest "RapTable$Held" (42 : Nat) "RapTable$Sitting" "seems" "[[I" "RapTable") ∈ lw_tbl := lw_at lw_m1 103 rfl
theorem q224 : (Jvm.Cond.fieldLinkNest "RapTable$Held" (32 : Nat) "RapTable$Sitting" "truly" "[[I" "RapTable") ∈ lw_tbl := lw_at lw_m1 106 rfl
theorem q367 : (Jvm.Cond.fieldLinkNest "RapTable$Held" (26 : Nat) "RapTable" "sitting" "LRapTable$Sitting;" "RapTable") ∈ lw_tbl := lw_at lw_m2 9 rfl
theorem q376 : (Jvm.Cond.fieldLinkNest "RapTable$Held" (45 : Nat) "RapTable" "smooth" "I" "RapTable") ∈ lw_tbl := lw_at lw_m2 18 rfl
theorem q548 : (Jvm.Cond.selects "RapTable$Held" ({ cls := "java/lang/Object", name := "getClass", desc := "()Ljava/lang/Class;" } : Jvm.MethodName) ({ cls := "java/lang/Object", name := "getClass", desc := "()Ljava/lang/Class;" } : Jvm.MethodName)) ∈ lw_all := lw_g (lw_at lw_m2 190 rfl) rfl
theorem q1250 : (Jvm.Cond.fieldLink "RapTable$Held" (17 : Nat) "RapTable$Held" "person" "I") ∈ lw_all := lw_g (lw_at lw_m5 172 rfl) rfl
theorem q1251 : (Jvm.Cond.sameField "RapTable$Held" "RapTable$Report" "person" "I") ∈ lw_all := lw_g (lw_at lw_m5 173 rfl) rfl
theorem q1258 : (Jvm.Cond.fieldLink "RapTable$Held" (20 : Nat) "RapTable$Held" "a" "I") ∈ lw_all := lw_g (lw_at lw_m5 180 rfl) rfl
theorem q1259 : (Jvm.Cond.sameField "RapTable$Held" "RapTable$Report" "a" "I") ∈ lw_all := lw_g (lw_at lw_m5 181 rfl) rfl
theorem q1265 : (Jvm.Cond.fieldLink "RapTable$Held" (23 : Nat) "RapTable$Held" "b" "I") ∈ lw_all := lw_g (lw_at lw_m5 187 rfl) rfl
theorem q1266 : (Jvm.Cond.sameField "RapTable$Held" "RapTable$Report" "b" "I") ∈ lw_all := lw_g (lw_at lw_m5 188 rfl) rfl
theorem q1272 : (Jvm.Cond.fieldLink "RapTable$Held" (48 : Nat) "RapTable$Held" "day" "I") ∈ lw_all := lw_g (lw_at lw_m5 194 rfl) rfl
theorem q1273 : (Jvm.Cond.sameField "RapTable$Held" "RapTable$Report" "day" "I") ∈ lw_all := lw_g (lw_at lw_m5 195 rfl) rfl
theorem q1293 : (Jvm.Cond.instantiable "RapTable$Held" (7 : Nat)) ∈ lw_all := lw_g (lw_at lw_m5 215 rfl) rfl
theorem q1295 : (Jvm.Cond.instanceMethod ({ cls := "RapTable$Held", name := "<init>", desc := "(LRapTable;IIIII)V" } : Jvm.MethodName)) ∈ lw_all := lw_g (lw_at lw_m5 217 rfl) rfl
theorem q1296 : (Jvm.Cond.code ({ cls := "RapTable$Held", name := "<init>", desc := "(LRapTable;IIIII)V" } : Jvm.MethodName) prog_9_method_1_code (7 : Nat) (Option.none : Option Jvm.ClassFile.FieldType)) ∈ lw_all := lw_g (lw_at lw_m5 218 rfl) rfl
theorem q1297 : (Jvm.Cond.methodLink "RapTable$Held" (7 : Nat) ({ cls := "RapTable$Report", name := "<init>", desc := "(LRapTable;IIII)V" } : Jvm.MethodName)) ∈ lw_all := lw_g (lw_at lw_m5 219 rfl) rfl
theorem q1298 : (Jvm.Cond.fieldLink "RapTable$Held" (13 : Nat) "RapTable$Held" "hand" "I") ∈ lw_all := lw_g (lw_at lw_m5 220 rfl) rfl
theorem q1299 : (Jvm.Cond.fieldLink "RapTable$Held" (1 : Nat) "RapTable$Held" "this$0" "LRapTable;") ∈ lw_all := lw_g (lw_at lw_m5 221 rfl) rfl
theorem q1300 : (Jvm.Cond.laysFinal "RapTable$Held" "RapTable$Held" "hand" "I") ∈ lw_all := lw_g (lw_at lw_m5 222 rfl) rfl
theorem q1301 : (Jvm.Cond.soleField "RapTable$Held" "hand") ∈ lw_all := lw_g (lw_at lw_m5 223 rfl) rfl
theorem q1302 : (Jvm.Cond.laysFinal "RapTable$Held" "RapTable$Held" "this$0" "LRapTable;") ∈ lw_all := lw_g (lw_at lw_m5 224 rfl) rfl
theorem q1303 : (Jvm.Cond.soleField "RapTable$Held" "this$0") ∈ lw_all := lw_g (lw_at lw_m5 225 rfl) rfl
theorem q1304 : (Jvm.Cond.laysFinal "RapTable$Held" "RapTable$Report" "person" "I") ∈ lw_all := lw_g (lw_at lw_m5 226 rfl) rfl
theorem q1305 : (Jvm.Cond.laysFinal "RapTable$Held" "RapTable$Report" "a" "I") ∈ lw_all := lw_g (lw_at lw_m5 227 rfl) rfl
theorem q1306 : (Jvm.Cond.laysFinal "RapTable$Held" "RapTable$Report" "b" "I") ∈ lw_all := lw_g (lw_at lw_m5 228 rfl) rfl
theorem q1307 : (Jvm.Cond.laysFinal "RapTable$Held" "RapTable$Report" "day" "I") ∈ lw_all := lw_g (lw_at lw_m5 229 rfl) rfl
theorem q1308 : (Jvm.Cond.laysFinal "RapTable$Held" "RapTable$Report" "this$0" "LRapTable;") ∈ lw_all := lw_g (lw_at lw_m5 230 rfl) rfl
theorem q1309 : (Jvm.Cond.superclass "RapTable$Held" "RapTable$Report") ∈ lw_all := lw_g (lw_at lw_m5 231 rfl) rfl
theorem q1332 : (Jvm.Cond.selects "RapTable$Held" ({ cls := "RapTable$Report", name := "isRight", desc := "()Z" } : Jvm.MethodName) ({ cls := "RapTable$Held", name := "isRight", desc := "()Z" } : Jvm.MethodName)) ∈ lw_all := lw_g (lw_at lw_m6 14 rfl) rfl
theorem q1333 : (Jvm.Cond.instanceMethod ({ cls := "RapTable$Held", name := "isRight", desc := "()Z" } : Jvm.MethodName)) ∈ lw_all := lw_g (lw_at lw_m6 15 rfl) rfl
theorem q1334 : (Jvm.Cond.code ({ cls := "RapTable$Held", name := "isRight", desc := "()Z" } : Jvm.MethodName) prog_9_method_3_code (2 : Nat) (Option.some Jvm.ClassFile.FieldType.boolean)) ∈ lw_all := lw_g (lw_at lw_m6 16 rfl) rfl
theorem q1335 : (Jvm.Cond.methodLink "RapTable$Held" (38 : Nat) ({ cls := "RapTable$Held", name := "isIn", desc := "([[II)Z" } : Jvm.MethodName)) ∈ lw_all := lw_g (lw_at lw_m6 17 rfl) rfl
theorem q1336 : (Jvm.Cond.privateMethod ({ cls := "RapTable$Held", name := "isIn", desc := "([[II)Z" } : Jvm.MethodName)) ∈ lw_tbl := lw_at lw_m6 18 rfl
theorem q1337 : (Jvm.Cond.instanceMethod ({ cls := "RapTable$Held", name := "isIn", desc := "([[II)Z" } : Jvm.MethodName)) ∈ lw_all := lw_g (lw_at lw_m6 19 rfl) rfl
theorem q1338 : (Jvm.Cond.code ({ cls := "RapTable$Held", name := "isIn", desc := "([[II)Z" } : Jvm.MethodName) prog_9_method_2_code (3 : Nat) (Option.some Jvm.ClassFile.FieldType.boolean)) ∈ lw_all := lw_g (lw_at lw_m6 20 rfl) rfl
theorem q1350 : (Jvm.Cond.selects "RapTable$Held" ({ cls := "RapTable$Report", name := "isHonest", desc := "()Z" } : Jvm.MethodName) ({ cls := "RapTable$Held", name := "isHonest", desc := "()Z" } : Jvm.MethodName)) ∈ lw_all := lw_g (lw_at lw_m6 32 rfl) rfl
theorem q1351 : (Jvm.Cond.instanceMethod ({ cls := "RapTable$Held", name := "isHonest", desc := "()Z" } : Jvm.MethodName)) ∈ lw_all := lw_g (lw_at lw_m6 33 rfl) rfl
theorem q1352 : (Jvm.Cond.code ({ cls := "RapTable$Held", name := "isHonest", desc := "()Z" } : Jvm.MethodName) prog_9_method_4_code (3 : Nat) (Option.some Jvm.ClassFile.FieldType.boolean)) ∈ lw_all := lw_g (lw_at lw_m6 34 rfl) rfl
theorem q1364 : (Jvm.Cond.selects "RapTable$Held" ({ cls := "RapTable$Report", name := "agrees", desc := "(LRapTable$Report;)Z" } : Jvm.MethodName) ({ cls := "RapTable$Held", name := "agrees", desc := "(LRapTable$Report;)Z" } : Jvm.MethodName)) ∈ lw_all := lw_g (lw_at lw_m6 46 rfl) rfl
theorem q1365 : (Jvm.Cond.instanceMethod ({ cls := "RapTable$Held", name := "agrees", desc := "(LRapTable$Report;)Z" } : Jvm.MethodName)) ∈ lw_all := lw_g (lw_at lw_m6 47 rfl) rfl
theorem q1366 : (Jvm.Cond.code ({ cls := "RapTable$Held", name := "agrees", desc := "(LRapTable$Report;)Z" } : Jvm.MethodName) prog_9_method_5_code (2 : Nat) (Option.some Jvm.ClassFile.FieldType.boolean)) ∈ lw_all := lw_g (lw_at lw_m6 48 rfl) rfl
theorem q1367 : (Jvm.Cond.classLink "RapTable$Held" (2 : Nat) "RapTable$Held") ∈ lw_all := lw_g (lw_at lw_m6 49 rfl) rfl
theorem q2240 : (Jvm.Cond.castable "RapTable$Held" "RapTable$Report") ∈ lw_tbl := lw_at lw_m9 202 rfl
theorem q2260 : (Jvm.Cond.castable "RapTable$Held" "java/lang/Object") ∈ lw_tbl := lw_at lw_m9 222 rfl
theorem q153 : (Jvm.Cond.initialized "RapTable$Control") ∈ lw_all := lw_g (lw_at lw_m1 35 rfl) rfl
theorem q641 : (Jvm.Cond.instanceMethod ({ cls := "RapTable$Control", name := "holds", desc := "(I)Z" } : Jvm.MethodName)) ∈ lw_all := lw_g (lw_at lw_m3 43 rfl) rfl
theorem q642 : (Jvm.Cond.sameMethod "RapTable$Control" "RapTable$Control" "holds" "(I)Z") ∈ lw_all := lw_g (lw_at lw_m3 44 rfl) rfl
theorem q646 : (Jvm.Cond.code ({ cls := "RapTable$Control", name := "holds", desc := "(I)Z" } : Jvm.MethodName) prog_5_method_2_code (2 : Nat) (Option.some Jvm.ClassFile.FieldType.boolean)) ∈ lw_all := lw_g (lw_at lw_m3 48 rfl) rfl
theorem q648 : (Jvm.Cond.instanceMethod ({ cls := "RapTable$Control", name := "ties", desc := "(I)Z" } : Jvm.MethodName)) ∈ lw_all := lw_g (lw_at lw_m3 50 rfl) rfl
theorem q649 : (Jvm.Cond.sameMethod "RapTable$Control" "RapTable$Control" "ties" "(I)Z") ∈ lw_all := lw_g (lw_at lw_m3 51 rfl) rfl
theorem q655 : (Jvm.Cond.code ({ cls := "RapTable$Control", name := "ties", desc := "(I)Z" } : Jvm.MethodName) prog_5_method_3_code (2 : Nat) (Option.some Jvm.ClassFile.FieldType.boolean)) ∈ lw_all := lw_g (lw_at lw_m3 57 rfl) rfl
theorem q719 : (Jvm.Cond.instanceMethod ({ cls := "RapTable$Control", name := "lights", desc := "()I" } : Jvm.MethodName)) ∈ lw_all := lw_g (lw_at lw_m3 121 rfl) rfl
theorem q720 : (Jvm.Cond.sameMethod "RapTable$Control" "RapTable$Control" "lights" "()I") ∈ lw_all := lw_g (lw_at lw_m3 122 rfl) rfl
theorem q726 : (Jvm.Cond.code ({ cls := "RapTable$Control", name := "lights", desc := "()I" } : Jvm.MethodName) prog_5_method_4_code (1 : Nat) (Option.some Jvm.ClassFile.FieldType.int)) ∈ lw_all := lw_g (lw_at lw_m3 128 rfl) rfl
theorem q737 : (Jvm.Cond.instanceMethod ({ cls := "RapTable$Control", name := "watched", desc := "(I)I" } : Jvm.MethodName)) ∈ lw_all := lw_g (lw_at lw_m3 139 rfl) rfl
theorem q738 : (Jvm.Cond.sameMethod "RapTable$Control" "RapTable$Control" "watched" "(I)I") ∈ lw_all := lw_g (lw_at lw_m3 140 rfl) rfl
theorem q744 : (Jvm.Cond.code ({ cls := "RapTable$Control", name := "watched", desc := "(I)I" } : Jvm.MethodName) prog_5_method_5_code (2 : Nat) (Option.some Jvm.ClassFile.FieldType.int)) ∈ lw_all := lw_g (lw_at lw_m3 146 rfl) rfl
theorem q1456 : (Jvm.Cond.instanceMethod ({ cls := "RapTable$Control", name := "<init>", desc := "(LRapTable;III)V" } : Jvm.MethodName)) ∈ lw_all := lw_g (lw_at lw_m6 138 rfl) rfl
theorem q1457 : (Jvm.Cond.code ({ cls := "RapTable$Control", name := "<init>", desc := "(LRapTable;III)V" } : Jvm.MethodName) prog_5_method_1_code (5 : Nat) (Option.none : Option Jvm.ClassFile.FieldType)) ∈ lw_all := lw_g (lw_at lw_m6 139 rfl) rfl
theorem q1458 : (Jvm.Cond.methodLink "RapTable$Control" (9 : Nat) ({ cls := "java/lang/Object", name := "<init>", desc := "()V" } : Jvm.MethodName)) ∈ lw_all := lw_g (lw_at lw_m6 140 rfl) rfl
theorem q1461 : (Jvm.Cond.fieldLink "RapTable$Control" (15 : Nat) "RapTable$Control" "from" "I") ∈ lw_all := lw_g (lw_at lw_m6 143 rfl) rfl
theorem q1462 : (Jvm.Cond.fieldLink "RapTable$Control" (19 : Nat) "RapTable$Control" "to" "I") ∈ lw_all := lw_g (lw_at lw_m6 144 rfl) rfl
theorem q1463 : (Jvm.Cond.fieldLink "RapTable$Control" (22 : Nat) "RapTable$Control" "cost" "I") ∈ lw_all := lw_g (lw_at lw_m6 145 rfl) rfl
theorem q1465 : (Jvm.Cond.fieldLink "RapTable$Control" (3 : Nat) "RapTable$Control" "this$0" "LRapTable;") ∈ lw_all := lw_g (lw_at lw_m6 147 rfl) rfl
theorem q1471 : (Jvm.Cond.soleField "RapTable$Control" "from") ∈ lw_all := lw_g (lw_at lw_m6 153 rfl) rfl
theorem q1473 : (Jvm.Cond.soleField "RapTable$Control" "to") ∈ lw_all := lw_g (lw_at lw_m6 155 rfl) rfl
theorem q1475 : (Jvm.Cond.soleField "RapTable$Control" "cost") ∈ lw_all := lw_g (lw_at lw_m6 157 rfl) rfl
theorem q1477 : (Jvm.Cond.soleField "RapTable$Control" "this$0") ∈ lw_all := lw_g (lw_at lw_m6 159 rfl) rfl
theorem q154 : (Jvm.Cond.initialized "RapTable$Tie") ∈ lw_all := lw_g (lw_at lw_m1 36 rfl) rfl
theorem q558 : (Jvm.Cond.selects "RapTable$Tie" ({ cls := "java/lang/Object", name := "getClass", desc := "()Ljava/lang/Class;" } : Jvm.MethodName) ({ cls := "java/lang/Object", name := "getClass", desc := "()Ljava/lang/Class;" } : Jvm.MethodName)) ∈ lw_all := lw_g (lw_at lw_m2 200 rfl) rfl
theorem q644 : (Jvm.Cond.selects "RapTable$Tie" ({ cls := "RapTable$Control", name := "holds", desc := "(I)Z" } : Jvm.MethodName) ({ cls := "RapTable$Control", name := "holds", desc := "(I)Z" } : Jvm.MethodName)) ∈ lw_all := lw_g (lw_at lw_m3 46 rfl) rfl
theorem q651 : (Jvm.Cond.selects "RapTable$Tie" ({ cls := "RapTable$Control", name := "ties", desc := "(I)Z" } : Jvm.MethodName) ({ cls := "RapTable$Tie", name := "ties", desc := "(I)Z" } : Jvm.MethodName)) ∈ lw_all := lw_g (lw_at lw_m3 53 rfl) rfl
theorem q652 : (Jvm.Cond.instanceMethod ({ cls := "RapTable$Tie", name := "ties", desc := "(I)Z" } : Jvm.MethodName)) ∈ lw_all := lw_g (lw_at lw_m3 54 rfl) rfl
theorem q653 : (Jvm.Cond.code ({ cls := "RapTable$Tie", name := "ties", desc := "(I)Z" } : Jvm.MethodName) prog_21_method_2_code (2 : Nat) (Option.some Jvm.ClassFile.FieldType.boolean)) ∈ lw_all := lw_g (lw_at lw_m3 55 rfl) rfl
theorem q724 : (Jvm.Cond.selects "RapTable$Tie" ({ cls := "RapTable$Control", name := "lights", desc := "()I" } : Jvm.MethodName) ({ cls := "RapTable$Control", name := "lights", desc := "()I" } : Jvm.MethodName)) ∈ lw_all := lw_g (lw_at lw_m3 126 rfl) rfl
theorem q740 : (Jvm.Cond.selects "RapTable$Tie" ({ cls := "RapTable$Control", name := "watched", desc := "(I)I" } : Jvm.MethodName) ({ cls := "RapTable$Control", name := "watched", desc := "(I)I" } : Jvm.MethodName)) ∈ lw_all := lw_g (lw_at lw_m3 142 rfl) rfl
theorem q1451 : (Jvm.Cond.instantiable "RapTable$Tie" (6 : Nat)) ∈ lw_all := lw_g (lw_at lw_m6 133 rfl) rfl
theorem q1453 : (Jvm.Cond.instanceMethod ({ cls := "RapTable$Tie", name := "<init>", desc := "(LRapTable;IIII)V" } : Jvm.MethodName)) ∈ lw_all := lw_g (lw_at lw_m6 135 rfl) rfl
theorem q1454 : (Jvm.Cond.code ({ cls := "RapTable$Tie", name := "<init>", desc := "(LRapTable;IIII)V" } : Jvm.MethodName) prog_21_method_1_code (6 : Nat) (Option.none : Option Jvm.ClassFile.FieldType)) ∈ lw_all := lw_g (lw_at lw_m6 136 rfl) rfl
theorem q1455 : (Jvm.Cond.methodLink "RapTable$Tie" (7 : Nat) ({ cls := "RapTable$Control", name := "<init>", desc := "(LRapTable;III)V" } : Jvm.MethodName)) ∈ lw_all := lw_g (lw_at lw_m6 137 rfl) rfl
theorem q1459 : (Jvm.Cond.fieldLink "RapTable$Tie" (13 : Nat) "RapTable$Tie" "hand" "I") ∈ lw_all := lw_g (lw_at lw_m6 141 rfl) rfl
theorem q1460 : (Jvm.Cond.fieldLink "RapTable$Tie" (1 : Nat) "RapTable$Tie" "this$0" "LRapTable;") ∈ lw_all := lw_g (lw_at lw_m6 142 rfl) rfl
theorem q1466 : (Jvm.Cond.laysFinal "RapTable$Tie" "RapTable$Tie" "hand" "I") ∈ lw_all := lw_g (lw_at lw_m6 148 rfl) rfl
theorem q1467 : (Jvm.Cond.soleField "RapTable$Tie" "hand") ∈ lw_all := lw_g (lw_at lw_m6 149 rfl) rfl
theorem q1468 : (Jvm.Cond.laysFinal "RapTable$Tie" "RapTable$Tie" "this$0" "LRapTable;") ∈ lw_all := lw_g (lw_at lw_m6 150 rfl) rfl
theorem q1469 : (Jvm.Cond.soleField "RapTable$Tie" "this$0") ∈ lw_all := lw_g (lw_at lw_m6 151 rfl) rfl
theorem q1470 : (Jvm.Cond.laysFinal "RapTable$Tie" "RapTable$Control" "from" "I") ∈ lw_all := lw_g (lw_at lw_m6 152 rfl) rfl
theorem q1472 : (Jvm.Cond.laysFinal "RapTable$Tie" "RapTable$Control" "to" "I") ∈ lw_all := lw_g (lw_at lw_m6 154 rfl) rfl
theorem q1474 : (Jvm.Cond.laysFinal "RapTable$Tie" "RapTable$Control" "cost" "I") ∈ lw_all := lw_g (lw_at lw_m6 156 rfl) rfl
theorem q1476 : (Jvm.Cond.laysFinal "RapTable$Tie" "RapTable$Control" "this$0" "LRapTable;") ∈ lw_all := lw_g (lw_at lw_m6 158 rfl) rfl
theorem q1478 : (Jvm.Cond.superclass "RapTable$Tie" "RapTable$Control") ∈ lw_all := lw_g (lw_at lw_m6 160 rfl) rfl
theorem q2229 : (Jvm.Cond.castable "RapTable$Tie" "RapTable$Control") ∈ lw_tbl := lw_at lw_m9 191 rfl
theorem q2261 : (Jvm.Cond.castable "RapTable$Tie" "java/lang/Object") ∈ lw_tbl := lw_at lw_m9 223 rfl
theorem q155 : (Jvm.Cond.initialized "RapTable$Lamp") ∈ lw_all := lw_g (lw_at lw_m1 37 rfl) rfl
theorem q549 : (Jvm.Cond.selects "RapTable$Lamp" ({ cls := "java/lang/Object", name := "getClass", desc := "()Ljava/lang/Class;" } : Jvm.MethodName) ({ cls := "java/lang/Object", name := "getClass", desc := "()Ljava/lang/Class;" } : Jvm.MethodName)) ∈ lw_all := lw_g (lw_at lw_m2 191 rfl) rfl
theorem q643 : (Jvm.Cond.selects "RapTable$Lamp" ({ cls := "RapTable$Control", name := "holds", desc := "(I)Z" } : Jvm.MethodName) ({ cls := "RapTable$Control", name := "holds", desc := "(I)Z" } : Jvm.MethodName)) ∈ lw_all := lw_g (lw_at lw_m3 45 rfl) rfl
theorem q650 : (Jvm.Cond.selects "RapTable$Lamp" ({ cls := "RapTable$Control", name := "ties", desc := "(I)Z" } : Jvm.MethodName) ({ cls := "RapTable$Control", name := "ties", desc := "(I)Z" } : Jvm.MethodName)) ∈ lw_all := lw_g (lw_at lw_m3 52 rfl) rfl
theorem q721 : (Jvm.Cond.selects "RapTable$Lamp" ({ cls := "RapTable$Control", name := "lights", desc := "()I" } : Jvm.MethodName) ({ cls := "RapTable$Lamp", name := "lights", desc := "()I" } : Jvm.MethodName)) ∈ lw_all := lw_g (lw_at lw_m3 123 rfl) rfl
theorem q722 : (Jvm.Cond.instanceMethod ({ cls := "RapTable$Lamp", name := "lights", desc := "()I" } : Jvm.MethodName)) ∈ lw_all := lw_g (lw_at lw_m3 124 rfl) rfl
theorem q723 : (Jvm.Cond.code ({ cls := "RapTable$Lamp", name := "lights", desc := "()I" } : Jvm.MethodName) prog_10_method_2_code (1 : Nat) (Option.some Jvm.ClassFile.FieldType.int)) ∈ lw_all := lw_g (lw_at lw_m3 125 rfl) rfl
theorem q739 : (Jvm.Cond.selects "RapTable$Lamp" ({ cls := "RapTable$Control", name := "watched", desc := "(I)I" } : Jvm.MethodName) ({ cls := "RapTable$Control", name := "watched", desc := "(I)I" } : Jvm.MethodName)) ∈ lw_all := lw_g (lw_at lw_m3 141 rfl) rfl
theorem q1480 : (Jvm.Cond.instantiable "RapTable$Lamp" (6 : Nat)) ∈ lw_all := lw_g (lw_at lw_m6 162 rfl) rfl
theorem q1482 : (Jvm.Cond.instanceMethod ({ cls := "RapTable$Lamp", name := "<init>", desc := "(LRapTable;IIII)V" } : Jvm.MethodName)) ∈ lw_all := lw_g (lw_at lw_m6 164 rfl) rfl
theorem q1483 : (Jvm.Cond.code ({ cls := "RapTable$Lamp", name := "<init>", desc := "(LRapTable;IIII)V" } : Jvm.MethodName) prog_10_method_1_code (6 : Nat) (Option.none : Option Jvm.ClassFile.FieldType)) ∈ lw_all := lw_g (lw_at lw_m6 165 rfl) rfl
theorem q1484 : (Jvm.Cond.methodLink "RapTable$Lamp" (7 : Nat) ({ cls := "RapTable$Control", name := "<init>", desc := "(LRapTable;III)V" } : Jvm.MethodName)) ∈ lw_all := lw_g (lw_at lw_m6 166 rfl) rfl
theorem q1485 : (Jvm.Cond.fieldLink "RapTable$Lamp" (13 : Nat) "RapTable$Lamp" "light" "I") ∈ lw_all := lw_g (lw_at lw_m6 167 rfl) rfl
theorem q1486 : (Jvm.Cond.fieldLink "RapTable$Lamp" (1 : Nat) "RapTable$Lamp" "this$0" "LRapTable;") ∈ lw_all := lw_g (lw_at lw_m6 168 rfl) rfl
theorem q1487 : (Jvm.Cond.laysFinal "RapTable$Lamp" "RapTable$Lamp" "light" "I") ∈ lw_all := lw_g (lw_at lw_m6 169 rfl) rfl
theorem q1488 : (Jvm.Cond.soleField "RapTable$Lamp" "light") ∈ lw_all := lw_g (lw_at lw_m6 170 rfl) rfl
theorem q1489 : (Jvm.Cond.laysFinal "RapTable$Lamp" "RapTable$Lamp" "this$0" "LRapTable;") ∈ lw_all := lw_g (lw_at lw_m6 171 rfl) rfl
theorem q1490 : (Jvm.Cond.soleField "RapTable$Lamp" "this$0") ∈ lw_all := lw_g (lw_at lw_m6 172 rfl) rfl
theorem q1491 : (Jvm.Cond.laysFinal "RapTable$Lamp" "RapTable$Control" "from" "I") ∈ lw_all := lw_g (lw_at lw_m6 173 rfl) rfl
theorem q1492 : (Jvm.Cond.laysFinal "RapTable$Lamp" "RapTable$Control" "to" "I") ∈ lw_all := lw_g (lw_at lw_m6 174 rfl) rfl
theorem q1493 : (Jvm.Cond.laysFinal "RapTable$Lamp" "RapTable$Control" "cost" "I") ∈ lw_all := lw_g (lw_at lw_m6 175 rfl) rfl
theorem q1494 : (Jvm.Cond.laysFinal "RapTable$Lamp" "RapTable$Control" "this$0" "LRapTable;") ∈ lw_all := lw_g (lw_at lw_m6 176 rfl) rfl
theorem q1495 : (Jvm.Cond.superclass "RapTable$Lamp" "RapTable$Control") ∈ lw_all := lw_g (lw_at lw_m6 177 rfl) rfl
theorem q2228 : (Jvm.Cond.castable "RapTable$Lamp" "RapTable$Control") ∈ lw_tbl := lw_at lw_m9 190 rfl
theorem q2262 : (Jvm.Cond.castable "RapTable$Lamp" "java/lang/Object") ∈ lw_tbl := lw_at lw_m9 224 rfl
theorem q156 : (Jvm.Cond.initialized "RapTable$Watch") ∈ lw_all := lw_g (lw_at lw_m1 38 rfl) rfl
theorem q560 : (Jvm.Cond.selects "RapTable$Watch" ({ cls := "java/lang/Object", name := "getClass", desc := "()Ljava/lang/Class;" } : Jvm.MethodName) ({ cls := "java/lang/Object", name := "getClass", desc := "()Ljava/lang/Class;" } : Jvm.MethodName)) ∈ lw_all := lw_g (lw_at lw_m2 202 rfl) rfl
theorem q645 : (Jvm.Cond.selects "RapTable$Watch" ({ cls := "RapTable$Control", name := "holds", desc := "(I)Z" } : Jvm.MethodName) ({ cls := "RapTable$Control", name := "holds", desc := "(I)Z" } : Jvm.MethodName)) ∈ lw_all := lw_g (lw_at lw_m3 47 rfl) rfl
theorem q654 : (Jvm.Cond.selects "RapTable$Watch" ({ cls := "RapTable$Control", name := "ties", desc := "(I)Z" } : Jvm.MethodName) ({ cls := "RapTable$Control", name := "ties", desc := "(I)Z" } : Jvm.MethodName)) ∈ lw_all := lw_g (lw_at lw_m3 56 rfl) rfl
theorem q725 : (Jvm.Cond.selects "RapTable$Watch" ({ cls := "RapTable$Control", name := "lights", desc := "()I" } : Jvm.MethodName) ({ cls := "RapTable$Control", name := "lights", desc := "()I" } : Jvm.MethodName)) ∈ lw_all := lw_g (lw_at lw_m3 127 rfl) rfl
theorem q741 : (Jvm.Cond.selects "RapTable$Watch" ({ cls := "RapTable$Control", name := "watched", desc := "(I)I" } : Jvm.MethodName) ({ cls := "RapTable$Watch", name := "watched", desc := "(I)I" } : Jvm.MethodName)) ∈ lw_all := lw_g (lw_at lw_m3 143 rfl) rfl
theorem q742 : (Jvm.Cond.instanceMethod ({ cls := "RapTable$Watch", name := "watched", desc := "(I)I" } : Jvm.MethodName)) ∈ lw_all := lw_g (lw_at lw_m3 144 rfl) rfl
theorem q743 : (Jvm.Cond.code ({ cls := "RapTable$Watch", name := "watched", desc := "(I)I" } : Jvm.MethodName) prog_23_method_2_code (2 : Nat) (Option.some Jvm.ClassFile.FieldType.int)) ∈ lw_all := lw_g (lw_at lw_m3 145 rfl) rfl
theorem q1497 : (Jvm.Cond.instantiable "RapTable$Watch" (7 : Nat)) ∈ lw_all := lw_g (lw_at lw_m6 179 rfl) rfl
theorem q1499 : (Jvm.Cond.instanceMethod ({ cls := "RapTable$Watch", name := "<init>", desc := "(LRapTable;IIIII)V" } : Jvm.MethodName)) ∈ lw_all := lw_g (lw_at lw_m6 181 rfl) rfl
theorem q1500 : (Jvm.Cond.code ({ cls := "RapTable$Watch", name := "<init>", desc := "(LRapTable;IIIII)V" } : Jvm.MethodName) prog_23_method_1_code (7 : Nat) (Option.none : Option Jvm.ClassFile.FieldType)) ∈ lw_all := lw_g (lw_at lw_m6 182 rfl) rfl
theorem q1501 : (Jvm.Cond.methodLink "RapTable$Watch" (9 : Nat) ({ cls := "RapTable$Control", name := "<init>", desc := "(LRapTable;III)V" } : Jvm.MethodName)) ∈ lw_all := lw_g (lw_at lw_m6 183 rfl) rfl
theorem q1502 : (Jvm.Cond.fieldLink "RapTable$Watch" (15 : Nat) "RapTable$Watch" "person" "I") ∈ lw_all := lw_g (lw_at lw_m6 184 rfl) rfl
theorem q1503 : (Jvm.Cond.fieldLink "RapTable$Watch" (19 : Nat) "RapTable$Watch" "spot" "I") ∈ lw_all := lw_g (lw_at lw_m6 185 rfl) rfl
theorem q1504 : (Jvm.Cond.fieldLink "RapTable$Watch" (3 : Nat) "RapTable$Watch" "this$0" "LRapTable;") ∈ lw_all := lw_g (lw_at lw_m6 186 rfl) rfl
theorem q1505 : (Jvm.Cond.laysFinal "RapTable$Watch" "RapTable$Watch" "person" "I") ∈ lw_all := lw_g (lw_at lw_m6 187 rfl) rfl
theorem q1506 : (Jvm.Cond.soleField "RapTable$Watch" "person") ∈ lw_all := lw_g (lw_at lw_m6 188 rfl) rfl
theorem q1507 : (Jvm.Cond.laysFinal "RapTable$Watch" "RapTable$Watch" "spot" "I") ∈ lw_all := lw_g (lw_at lw_m6 189 rfl) rfl
theorem q1508 : (Jvm.Cond.soleField "RapTable$Watch" "spot") ∈ lw_all := lw_g (lw_at lw_m6 190 rfl) rfl
theorem q1509 : (Jvm.Cond.laysFinal "RapTable$Watch" "RapTable$Watch" "this$0" "LRapTable;") ∈ lw_all := lw_g (lw_at lw_m6 191 rfl) rfl
theorem q1510 : (Jvm.Cond.soleField "RapTable$Watch" "this$0") ∈ lw_all := lw_g (lw_at lw_m6 192 rfl) rfl
theorem q1511 : (Jvm.Cond.laysFinal "RapTable$Watch" "RapTable$Control" "from" "I") ∈ lw_all := lw_g (lw_at lw_m6 193 rfl) rfl
theorem q1512 : (Jvm.Cond.laysFinal "RapTable$Watch" "RapTable$Control" "to" "I") ∈ lw_all := lw_g (lw_at lw_m6 194 rfl) rfl
theorem q1513 : (Jvm.Cond.laysFinal "RapTable$Watch" "RapTable$Control" "cost" "I") ∈ lw_all := lw_g (lw_at lw_m6 195 rfl) rfl
theorem q1514 : (Jvm.Cond.laysFinal "RapTable$Watch" "RapTable$Control" "this$0" "LRapTable;") ∈ lw_all := lw_g (lw_at lw_m6 196 rfl) rfl
theorem q1515 : (Jvm.Cond.superclass "RapTable$Watch" "RapTable$Control") ∈ lw_all := lw_g (lw_at lw_m6 197 rfl) rfl
theorem q2230 : (Jvm.Cond.castable "RapTable$Watch" "RapTable$Control") ∈ lw_tbl := lw_at lw_m9 192 rfl
theorem q2263 : (Jvm.Cond.castable "RapTable$Watch" "java/lang/Object") ∈ lw_tbl := lw_at lw_m9 225 rfl
theorem q125 : (Jvm.Cond.initialized "RapTable$Pass") ∈ lw_all := lw_g (lw_at lw_m1 7 rfl) rfl
theorem q309 : (Jvm.Cond.instantiable "RapTable$Pass" (13 : Nat)) ∈ lw_all := lw_g (lw_at lw_m1 191 rfl) rfl
theorem q311 : (Jvm.Cond.instanceMethod ({ cls := "RapTable$Pass", name := "<init>", desc := "(LRapTable;)V" } : Jvm.MethodName)) ∈ lw_all := lw_g (lw_at lw_m1 193 rfl) rfl
theorem q312 : (Jvm.Cond.code ({ cls := "RapTable$Pass", name := "<init>", desc := "(LRapTable;)V" } : Jvm.MethodName) prog_13_method_1_code (2 : Nat) (Option.none : Option Jvm.ClassFile.FieldType)) ∈ lw_all := lw_g (lw_at lw_m1 194 rfl) rfl
theorem q313 : (Jvm.Cond.methodLink "RapTable$Pass" (9 : Nat) ({ cls := "java/lang/Object", name := "<init>", desc := "()V" } : Jvm.MethodName)) ∈ lw_all := lw_g (lw_at lw_m1 195 rfl) rfl
theorem q314 : (Jvm.Cond.classLink "RapTable$Pass" (30 : Nat) "[[I") ∈ lw_all := lw_g (lw_at lw_m1 196 rfl) rfl
theorem q315 : (Jvm.Cond.classLink "RapTable$Pass" (35 : Nat) "[[[Z") ∈ lw_all := lw_g (lw_at lw_m1 197 rfl) rfl
theorem q318 : (Jvm.Cond.fieldLink "RapTable$Pass" (59 : Nat) "RapTable$Pass" "persons" "I") ∈ lw_all := lw_g (lw_at lw_m1 200 rfl) rfl
theorem q319 : (Jvm.Cond.fieldLink "RapTable$Pass" (72 : Nat) "RapTable$Pass" "a" "I") ∈ lw_all := lw_g (lw_at lw_m1 201 rfl) rfl
theorem q320 : (Jvm.Cond.fieldLink "RapTable$Pass" (75 : Nat) "RapTable$Pass" "b" "I") ∈ lw_all := lw_g (lw_at lw_m1 202 rfl) rfl
theorem q321 : (Jvm.Cond.fieldLink "RapTable$Pass" (69 : Nat) "RapTable$Pass" "goal" "I") ∈ lw_all := lw_g (lw_at lw_m1 203 rfl) rfl
theorem q322 : (Jvm.Cond.fieldLink "RapTable$Pass" (78 : Nat) "RapTable$Pass" "hops" "I") ∈ lw_all := lw_g (lw_at lw_m1 204 rfl) rfl
theorem q323 : (Jvm.Cond.fieldLink "RapTable$Pass" (15 : Nat) "RapTable$Pass" "free" "[Z") ∈ lw_all := lw_g (lw_at lw_m1 205 rfl) rfl
theorem q324 : (Jvm.Cond.fieldLink "RapTable$Pass" (19 : Nat) "RapTable$Pass" "vouching" "[I") ∈ lw_all := lw_g (lw_at lw_m1 206 rfl) rfl
theorem q325 : (Jvm.Cond.fieldLink "RapTable$Pass" (23 : Nat) "RapTable$Pass" "seeing" "[I") ∈ lw_all := lw_g (lw_at lw_m1 207 rfl) rfl
theorem q326 : (Jvm.Cond.fieldLink "RapTable$Pass" (26 : Nat) "RapTable$Pass" "hands" "[B") ∈ lw_all := lw_g (lw_at lw_m1 208 rfl) rfl
theorem q327 : (Jvm.Cond.fieldLink "RapTable$Pass" (32 : Nat) "RapTable$Pass" "soonest" "[[I") ∈ lw_all := lw_g (lw_at lw_m1 209 rfl) rfl
theorem q328 : (Jvm.Cond.fieldLink "RapTable$Pass" (37 : Nat) "RapTable$Pass" "leads" "[[[Z") ∈ lw_all := lw_g (lw_at lw_m1 210 rfl) rfl
theorem q329 : (Jvm.Cond.fieldLink "RapTable$Pass" (40 : Nat) "RapTable$Pass" "row" "[I") ∈ lw_all := lw_g (lw_at lw_m1 211 rfl) rfl
theorem q331 : (Jvm.Cond.fieldLink "RapTable$Pass" (3 : Nat) "RapTable$Pass" "this$0" "LRapTable;") ∈ lw_all := lw_g (lw_at lw_m1 213 rfl) rfl
theorem q332 : (Jvm.Cond.lays "RapTable$Pass" "RapTable$Pass" "persons" "I") ∈ lw_all := lw_g (lw_at lw_m1 214 rfl) rfl
theorem q333 : (Jvm.Cond.soleField "RapTable$Pass" "persons") ∈ lw_all := lw_g (lw_at lw_m1 215 rfl) rfl
theorem q334 : (Jvm.Cond.lays "RapTable$Pass" "RapTable$Pass" "a" "I") ∈ lw_all := lw_g (lw_at lw_m1 216 rfl) rfl
theorem q335 : (Jvm.Cond.soleField "RapTable$Pass" "a") ∈ lw_all := lw_g (lw_at lw_m1 217 rfl) rfl
theorem q336 : (Jvm.Cond.lays "RapTable$Pass" "RapTable$Pass" "b" "I") ∈ lw_all := lw_g (lw_at lw_m1 218 rfl) rfl
theorem q337 : (Jvm.Cond.soleField "RapTable$Pass" "b") ∈ lw_all := lw_g (lw_at lw_m1 219 rfl) rfl
theorem q338 : (Jvm.Cond.lays "RapTable$Pass" "RapTable$Pass" "goal" "I") ∈ lw_all := lw_g (lw_at lw_m1 220 rfl) rfl
theorem q339 : (Jvm.Cond.soleField "RapTable$Pass" "goal") ∈ lw_all := lw_g (lw_at lw_m1 221 rfl) rfl
theorem q340 : (Jvm.Cond.lays "RapTable$Pass" "RapTable$Pass" "hops" "I") ∈ lw_all := lw_g (lw_at lw_m1 222 rfl) rfl
theorem q341 : (Jvm.Cond.soleField "RapTable$Pass" "hops") ∈ lw_all := lw_g (lw_at lw_m1 223 rfl) rfl
theorem q342 : (Jvm.Cond.laysFinal "RapTable$Pass" "RapTable$Pass" "free" "[Z") ∈ lw_all := lw_g (lw_at lw_m1 224 rfl) rfl
theorem q343 : (Jvm.Cond.soleField "RapTable$Pass" "free") ∈ lw_all := lw_g (lw_at lw_m1 225 rfl) rfl
theorem q344 : (Jvm.Cond.laysFinal "RapTable$Pass" "RapTable$Pass" "vouching" "[I") ∈ lw_all := lw_g (lw_at lw_m1 226 rfl) rfl
theorem q345 : (Jvm.Cond.soleField "RapTable$Pass" "vouching") ∈ lw_all := lw_g (lw_at lw_m1 227 rfl) rfl
theorem q346 : (Jvm.Cond.laysFinal "RapTable$Pass" "RapTable$Pass" "seeing" "[I") ∈ lw_all := lw_g (lw_at lw_m1 228 rfl) rfl
theorem q347 : (Jvm.Cond.soleField "RapTable$Pass" "seeing") ∈ lw_all := lw_g (lw_at lw_m1 229 rfl) rfl
theorem q348 : (Jvm.Cond.laysFinal "RapTable$Pass" "RapTable$Pass" "hands" "[B") ∈ lw_all := lw_g (lw_at lw_m1 230 rfl) rfl
theorem q349 : (Jvm.Cond.soleField "RapTable$Pass" "hands") ∈ lw_all := lw_g (lw_at lw_m1 231 rfl) rfl
theorem q350 : (Jvm.Cond.laysFinal "RapTable$Pass" "RapTable$Pass" "soonest" "[[I") ∈ lw_all := lw_g (lw_at lw_m1 232 rfl) rfl
theorem q351 : (Jvm.Cond.soleField "RapTable$Pass" "soonest") ∈ lw_all := lw_g (lw_at lw_m1 233 rfl) rfl
theorem q352 : (Jvm.Cond.laysFinal "RapTable$Pass" "RapTable$Pass" "leads" "[[[Z") ∈ lw_all := lw_g (lw_at lw_m1 234 rfl) rfl
theorem q353 : (Jvm.Cond.soleField "RapTable$Pass" "leads") ∈ lw_all := lw_g (lw_at lw_m1 235 rfl) rfl
theorem q354 : (Jvm.Cond.laysFinal "RapTable$Pass" "RapTable$Pass" "row" "[I") ∈ lw_all := lw_g (lw_at lw_m1 236 rfl) rfl
theorem q355 : (Jvm.Cond.soleField "RapTable$Pass" "row") ∈ lw_all := lw_g (lw_at lw_m1 237 rfl) rfl
theorem q356 : (Jvm.Cond.laysFinal "RapTable$Pass" "RapTable$Pass" "this$0" "LRapTable;") ∈ lw_all := lw_g (lw_at lw_m1 238 rfl) rfl
theorem q357 : (Jvm.Cond.soleField "RapTable$Pass" "this$0") ∈ lw_all := lw_g (lw_at lw_m1 239 rfl) rfl
theorem q358 : (Jvm.Cond.superclass "RapTable$Pass" "java/lang/Object") ∈ lw_all := lw_g (lw_at lw_m2 0 rfl) rfl
theorem q362 : (Jvm.Cond.fieldLinkNest "RapTable$Pass" (43 : Nat) "RapTable" "seats" "I" "RapTable") ∈ lw_tbl := lw_at lw_m2 4 rfl
theorem q552 : (Jvm.Cond.selects "RapTable$Pass" ({ cls := "java/lang/Object", name := "getClass", desc := "()Ljava/lang/Class;" } : Jvm.MethodName) ({ cls := "java/lang/Object", name := "getClass", desc := "()Ljava/lang/Class;" } : Jvm.MethodName)) ∈ lw_all := lw_g (lw_at lw_m2 194 rfl) rfl
theorem q1402 : (Jvm.Cond.instanceMethod ({ cls := "RapTable$Pass", name := "look", desc := "()V" } : Jvm.MethodName)) ∈ lw_all := lw_g (lw_at lw_m6 84 rfl) rfl
theorem q1403 : (Jvm.Cond.selects "RapTable$Pass" ({ cls := "RapTable$Pass", name := "look", desc := "()V" } : Jvm.MethodName) ({ cls := "RapTable$Pass", name := "look", desc := "()V" } : Jvm.MethodName)) ∈ lw_all := lw_g (lw_at lw_m6 85 rfl) rfl
theorem q1404 : (Jvm.Cond.code ({ cls := "RapTable$Pass", name := "look", desc := "()V" } : Jvm.MethodName) prog_13_method_2_code (4 : Nat) (Option.none : Option Jvm.ClassFile.FieldType)) ∈ lw_all := lw_g (lw_at lw_m6 86 rfl) rfl
theorem q1405 : (Jvm.Cond.methodLinkNest "RapTable$Pass" (47 : Nat) ({ cls := "RapTable", name := "isFree", desc := "(II)Z" } : Jvm.MethodName) "RapTable") ∈ lw_tbl := lw_at lw_m6 87 rfl
theorem q1406 : (Jvm.Cond.methodLinkNest "RapTable$Pass" (51 : Nat) ({ cls := "RapTable", name := "vouchers", desc := "(IIZ)I" } : Jvm.MethodName) "RapTable") ∈ lw_tbl := lw_at lw_m6 88 rfl
theorem q1407 : (Jvm.Cond.methodLinkNest "RapTable$Pass" (55 : Nat) ({ cls := "RapTable", name := "sees", desc := "(III)Z" } : Jvm.MethodName) "RapTable") ∈ lw_tbl := lw_at lw_m6 89 rfl
theorem q1409 : (Jvm.Cond.instanceMethod ({ cls := "RapTable$Pass", name := "gather", desc := "(I)V" } : Jvm.MethodName)) ∈ lw_all := lw_g (lw_at lw_m6 91 rfl) rfl
theorem q1410 : (Jvm.Cond.selects "RapTable$Pass" ({ cls := "RapTable$Pass", name := "gather", desc := "(I)V" } : Jvm.MethodName) ({ cls := "RapTable$Pass", name := "gather", desc := "(I)V" } : Jvm.MethodName)) ∈ lw_all := lw_g (lw_at lw_m6 92 rfl) rfl
theorem q1411 : (Jvm.Cond.code ({ cls := "RapTable$Pass", name := "gather", desc := "(I)V" } : Jvm.MethodName) prog_13_method_4_code (5 : Nat) (Option.none : Option Jvm.ClassFile.FieldType)) ∈ lw_all := lw_g (lw_at lw_m6 93 rfl) rfl
theorem q1412 : (Jvm.Cond.methodLink "RapTable$Pass" (65 : Nat) ({ cls := "RapTable$Pass", name := "least", desc := "(III)I" } : Jvm.MethodName)) ∈ lw_all := lw_g (lw_at lw_m6 94 rfl) rfl
theorem q1413 : (Jvm.Cond.privateMethod ({ cls := "RapTable$Pass", name := "least", desc := "(III)I" } : Jvm.MethodName)) ∈ lw_tbl := lw_at lw_m6 95 rfl
theorem q1414 : (Jvm.Cond.instanceMethod ({ cls := "RapTable$Pass", name := "least", desc := "(III)I" } : Jvm.MethodName)) ∈ lw_all := lw_g (lw_at lw_m6 96 rfl) rfl
theorem q1415 : (Jvm.Cond.code ({ cls := "RapTable$Pass", name := "least", desc := "(III)I" } : Jvm.MethodName) prog_13_method_3_code (6 : Nat) (Option.some Jvm.ClassFile.FieldType.int)) ∈ lw_all := lw_g (lw_at lw_m6 97 rfl) rfl
theorem q1416 : (Jvm.Cond.methodLinkNest "RapTable$Pass" (62 : Nat) ({ cls := "RapTable", name := "reaches", desc := "(II)Z" } : Jvm.MethodName) "RapTable") ∈ lw_tbl := lw_at lw_m6 98 rfl
theorem q1418 : (Jvm.Cond.instanceMethod ({ cls := "RapTable$Pass", name := "seek", desc := "(IIII)I" } : Jvm.MethodName)) ∈ lw_all := lw_g (lw_at lw_m6 100 rfl) rfl
theorem q1419 : (Jvm.Cond.selects "RapTable$Pass" ({ cls := "RapTable$Pass", name := "seek", desc := "(IIII)I" } : Jvm.MethodName) ({ cls := "RapTable$Pass", name := "seek", desc := "(IIII)I" } : Jvm.MethodName)) ∈ lw_all := lw_g (lw_at lw_m6 101 rfl) rfl
theorem q1420 : (Jvm.Cond.code ({ cls := "RapTable$Pass", name := "seek", desc := "(IIII)I" } : Jvm.MethodName) prog_13_method_6_code (7 : Nat) (Option.some Jvm.ClassFile.FieldType.int)) ∈ lw_all := lw_g (lw_at lw_m6 102 rfl) rfl
theorem q1421 : (Jvm.Cond.methodLink "RapTable$Pass" (81 : Nat) ({ cls := "RapTable$Pass", name := "goesOn", desc := "(I)V" } : Jvm.MethodName)) ∈ lw_all := lw_g (lw_at lw_m6 103 rfl) rfl
theorem q1422 : (Jvm.Cond.privateMethod ({ cls := "RapTable$Pass", name := "goesOn", desc := "(I)V" } : Jvm.MethodName)) ∈ lw_tbl := lw_at lw_m6 104 rfl
theorem q1423 : (Jvm.Cond.instanceMethod ({ cls := "RapTable$Pass", name := "goesOn", desc := "(I)V" } : Jvm.MethodName)) ∈ lw_all := lw_g (lw_at lw_m6 105 rfl) rfl
theorem q1424 : (Jvm.Cond.code ({ cls := "RapTable$Pass", name := "goesOn", desc := "(I)V" } : Jvm.MethodName) prog_13_method_7_code (4 : Nat) (Option.none : Option Jvm.ClassFile.FieldType)) ∈ lw_all := lw_g (lw_at lw_m6 106 rfl) rfl
theorem q1425 : (Jvm.Cond.methodLink "RapTable$Pass" (85 : Nat) ({ cls := "RapTable$Pass", name := "hand", desc := "(III)I" } : Jvm.MethodName)) ∈ lw_all := lw_g (lw_at lw_m6 107 rfl) rfl
theorem q1426 : (Jvm.Cond.privateMethod ({ cls := "RapTable$Pass", name := "hand", desc := "(III)I" } : Jvm.MethodName)) ∈ lw_tbl := lw_at lw_m6 108 rfl
theorem q1427 : (Jvm.Cond.instanceMethod ({ cls := "RapTable$Pass", name := "hand", desc := "(III)I" } : Jvm.MethodName)) ∈ lw_all := lw_g (lw_at lw_m6 109 rfl) rfl
theorem q1428 : (Jvm.Cond.code ({ cls := "RapTable$Pass", name := "hand", desc := "(III)I" } : Jvm.MethodName) prog_13_method_5_code (4 : Nat) (Option.some Jvm.ClassFile.FieldType.int)) ∈ lw_all := lw_g (lw_at lw_m6 110 rfl) rfl
theorem q1430 : (Jvm.Cond.instanceMethod ({ cls := "RapTable$Pass", name := "lay", desc := "(I)V" } : Jvm.MethodName)) ∈ lw_all := lw_g (lw_at lw_m6 112 rfl) rfl
theorem q1431 : (Jvm.Cond.selects "RapTable$Pass" ({ cls := "RapTable$Pass", name := "lay", desc := "(I)V" } : Jvm.MethodName) ({ cls := "RapTable$Pass", name := "lay", desc := "(I)V" } : Jvm.MethodName)) ∈ lw_all := lw_g (lw_at lw_m6 113 rfl) rfl
theorem q1432 : (Jvm.Cond.code ({ cls := "RapTable$Pass", name := "lay", desc := "(I)V" } : Jvm.MethodName) prog_13_method_8_code (10 : Nat) (Option.none : Option Jvm.ClassFile.FieldType)) ∈ lw_all := lw_g (lw_at lw_m6 114 rfl) rfl
theorem q1433 : (Jvm.Cond.methodLink "RapTable$Pass" (88 : Nat) ({ cls := "RapTable$Pass", name := "isHop", desc := "(III)Z" } : Jvm.MethodName)) ∈ lw_all := lw_g (lw_at lw_m6 115 rfl) rfl
theorem q1434 : (Jvm.Cond.privateMethod ({ cls := "RapTable$Pass", name := "isHop", desc := "(III)Z" } : Jvm.MethodName)) ∈ lw_tbl := lw_at lw_m6 116 rfl
theorem q1435 : (Jvm.Cond.instanceMethod ({ cls := "RapTable$Pass", name := "isHop", desc := "(III)Z" } : Jvm.MethodName)) ∈ lw_all := lw_g (lw_at lw_m6 117 rfl) rfl
theorem q1436 : (Jvm.Cond.code ({ cls := "RapTable$Pass", name := "isHop", desc := "(III)Z" } : Jvm.MethodName) prog_13_method_9_code (5 : Nat) (Option.some Jvm.ClassFile.FieldType.boolean)) ∈ lw_all := lw_g (lw_at lw_m6 118 rfl) rfl
theorem q2245 : (Jvm.Cond.castable "RapTable$Pass" "java/lang/Object") ∈ lw_tbl := lw_at lw_m9 207 rfl
theorem q126 : (Jvm.Cond.initialized "RapTableModel") ∈ lw_all := lw_g (lw_at lw_m1 8 rfl) rfl
theorem q562 : (Jvm.Cond.selects "RapTableModel" ({ cls := "java/lang/Object", name := "getClass", desc := "()Ljava/lang/Class;" } : Jvm.MethodName) ({ cls := "java/lang/Object", name := "getClass", desc := "()Ljava/lang/Class;" } : Jvm.MethodName)) ∈ lw_all := lw_g (lw_at lw_m2 204 rfl) rfl
theorem q1588 : (Jvm.Cond.instantiable "RapTableModel" (62 : Nat)) ∈ lw_all := lw_g (lw_at lw_m7 30 rfl) rfl
theorem q1590 : (Jvm.Cond.instanceMethod ({ cls := "RapTableModel", name := "<init>", desc := "()V" } : Jvm.MethodName)) ∈ lw_all := lw_g (lw_at lw_m7 32 rfl) rfl
theorem q1591 : (Jvm.Cond.code ({ cls := "RapTableModel", name := "<init>", desc := "()V" } : Jvm.MethodName) prog_26_method_7_code (1 : Nat) (Option.none : Option Jvm.ClassFile.FieldType)) ∈ lw_all := lw_g (lw_at lw_m7 33 rfl) rfl
theorem q1592 : (Jvm.Cond.methodLink "RapTableModel" (11 : Nat) ({ cls := "java/lang/Object", name := "<init>", desc := "()V" } : Jvm.MethodName)) ∈ lw_all := lw_g (lw_at lw_m7 34 rfl) rfl
theorem q1593 : (Jvm.Cond.methodLink "RapTableModel" (115 : Nat) ({ cls := "RapTableModel", name := "begins", desc := "(I)V" } : Jvm.MethodName)) ∈ lw_all := lw_g (lw_at lw_m7 35 rfl) rfl
theorem q1594 : (Jvm.Cond.privateMethod ({ cls := "RapTableModel", name := "begins", desc := "(I)V" } : Jvm.MethodName)) ∈ lw_tbl := lw_at lw_m7 36 rfl
theorem q1595 : (Jvm.Cond.instanceMethod ({ cls := "RapTableModel", name := "begins", desc := "(I)V" } : Jvm.MethodName)) ∈ lw_all := lw_g (lw_at lw_m7 37 rfl) rfl
theorem q1596 : (Jvm.Cond.code ({ cls := "RapTableModel", name := "begins", desc := "(I)V" } : Jvm.MethodName) prog_26_method_8_code (3 : Nat) (Option.none : Option Jvm.ClassFile.FieldType)) ∈ lw_all := lw_g (lw_at lw_m7 38 rfl) rfl
theorem q1597 : (Jvm.Cond.fieldLink "RapTableModel" (1 : Nat) "RapTableModel" "thrown" "I") ∈ lw_all := lw_g (lw_at lw_m7 39 rfl) rfl
theorem q1598 : (Jvm.Cond.fieldLink "RapTableModel" (7 : Nat) "RapTableModel" "refused" "[I") ∈ lw_all := lw_g (lw_at lw_m7 40 rfl) rfl
theorem q1599 : (Jvm.Cond.fieldLink "RapTableModel" (17 : Nat) "RapTableModel" "all" "[I") ∈ lw_all := lw_g (lw_at lw_m7 41 rfl) rfl
theorem q1600 : (Jvm.Cond.fieldLink "RapTableModel" (20 : Nat) "RapTableModel" "hasImage" "[Z") ∈ lw_all := lw_g (lw_at lw_m7 42 rfl) rfl
theorem q1601 : (Jvm.Cond.fieldLink "RapTableModel" (24 : Nat) "RapTableModel" "seats" "I") ∈ lw_all := lw_g (lw_at lw_m7 43 rfl) rfl
theorem q1602 : (Jvm.Cond.fieldLink "RapTableModel" (27 : Nat) "RapTableModel" "lit" "[I") ∈ lw_all := lw_g (lw_at lw_m7 44 rfl) rfl
theorem q1603 : (Jvm.Cond.fieldLink "RapTableModel" (30 : Nat) "RapTableModel" "eyed" "[I") ∈ lw_all := lw_g (lw_at lw_m7 45 rfl) rfl
theorem q1604 : (Jvm.Cond.fieldLink "RapTableModel" (33 : Nat) "RapTableModel" "watched" "[I") ∈ lw_all := lw_g (lw_at lw_m7 46 rfl) rfl
theorem q1605 : (Jvm.Cond.fieldLink "RapTableModel" (36 : Nat) "RapTableModel" "vouched" "[I") ∈ lw_all := lw_g (lw_at lw_m7 47 rfl) rfl
theorem q1606 : (Jvm.Cond.fieldLink "RapTableModel" (39 : Nat) "RapTableModel" "heldBy" "[I") ∈ lw_all := lw_g (lw_at lw_m7 48 rfl) rfl
theorem q1607 : (Jvm.Cond.fieldLink "RapTableModel" (42 : Nat) "RapTableModel" "ruled" "[I") ∈ lw_all := lw_g (lw_at lw_m7 49 rfl) rfl
theorem q1608 : (Jvm.Cond.fieldLink "RapTableModel" (45 : Nat) "RapTableModel" "isFree" "[Z") ∈ lw_all := lw_g (lw_at lw_m7 50 rfl) rfl
theorem q1609 : (Jvm.Cond.fieldLink "RapTableModel" (48 : Nat) "RapTableModel" "isTied" "[Z") ∈ lw_all := lw_g (lw_at lw_m7 51 rfl) rfl
theorem q1610 : (Jvm.Cond.fieldLink "RapTableModel" (51 : Nat) "RapTableModel" "tape" "[I") ∈ lw_all := lw_g (lw_at lw_m7 52 rfl) rfl
theorem q1611 : (Jvm.Cond.fieldLink "RapTableModel" (202 : Nat) "RapTableModel" "taped" "I") ∈ lw_all := lw_g (lw_at lw_m7 53 rfl) rfl
theorem q1612 : (Jvm.Cond.fieldLink "RapTableModel" (297 : Nat) "RapTableModel" "ways" "I") ∈ lw_all := lw_g (lw_at lw_m7 54 rfl) rfl
theorem q1613 : (Jvm.Cond.fieldLink "RapTableModel" (300 : Nat) "RapTableModel" "loss" "I") ∈ lw_all := lw_g (lw_at lw_m7 55 rfl) rfl
theorem q1614 : (Jvm.Cond.fieldLink "RapTableModel" (303 : Nat) "RapTableModel" "smooth" "I") ∈ lw_all := lw_g (lw_at lw_m7 56 rfl) rfl
theorem q1615 : (Jvm.Cond.fieldLink "RapTableModel" (54 : Nat) "RapTableModel" "steps" "[I") ∈ lw_all := lw_g (lw_at lw_m7 57 rfl) rfl
theorem q1616 : (Jvm.Cond.fieldLink "RapTableModel" (57 : Nat) "RapTableModel" "kindOf" "[I") ∈ lw_all := lw_g (lw_at lw_m7 58 rfl) rfl
theorem q1617 : (Jvm.Cond.fieldLink "RapTableModel" (60 : Nat) "RapTableModel" "sideOf" "[I") ∈ lw_all := lw_g (lw_at lw_m7 59 rfl) rfl
theorem q1618 : (Jvm.Cond.fieldLink "RapTableModel" (63 : Nat) "RapTableModel" "manyOf" "[I") ∈ lw_all := lw_g (lw_at lw_m7 60 rfl) rfl
theorem q1619 : (Jvm.Cond.fieldLink "RapTableModel" (66 : Nat) "RapTableModel" "nameOf" "[J") ∈ lw_all := lw_g (lw_at lw_m7 61 rfl) rfl
theorem q1620 : (Jvm.Cond.fieldLink "RapTableModel" (273 : Nat) "RapTableModel" "newWays" "I") ∈ lw_all := lw_g (lw_at lw_m7 62 rfl) rfl
theorem q1621 : (Jvm.Cond.fieldLink "RapTableModel" (285 : Nat) "RapTableModel" "newLoss" "I") ∈ lw_all := lw_g (lw_at lw_m7 63 rfl) rfl
theorem q1622 : (Jvm.Cond.fieldLink "RapTableModel" (288 : Nat) "RapTableModel" "newSmooth" "I") ∈ lw_all := lw_g (lw_at lw_m7 64 rfl) rfl
theorem q1623 : (Jvm.Cond.fieldLink "RapTableModel" (220 : Nat) "RapTableModel" "at" "I") ∈ lw_all := lw_g (lw_at lw_m7 65 rfl) rfl
theorem q1624 : (Jvm.Cond.fieldLink "RapTableModel" (223 : Nat) "RapTableModel" "behind" "I") ∈ lw_all := lw_g (lw_at lw_m7 66 rfl) rfl
theorem q1625 : (Jvm.Cond.fieldLink "RapTableModel" (205 : Nat) "RapTableModel" "size" "I") ∈ lw_all := lw_g (lw_at lw_m7 67 rfl) rfl
theorem q1626 : (Jvm.Cond.fieldLink "RapTableModel" (229 : Nat) "RapTableModel" "kind" "I") ∈ lw_all := lw_g (lw_at lw_m7 68 rfl) rfl
theorem q1627 : (Jvm.Cond.fieldLink "RapTableModel" (249 : Nat) "RapTableModel" "number" "I") ∈ lw_all := lw_g (lw_at lw_m7 69 rfl) rfl
theorem q1628 : (Jvm.Cond.fieldLink "RapTableModel" (252 : Nat) "RapTableModel" "wrong" "I") ∈ lw_all := lw_g (lw_at lw_m7 70 rfl) rfl
theorem q1629 : (Jvm.Cond.fieldLink "RapTableModel" (255 : Nat) "RapTableModel" "wrongAt" "I") ∈ lw_all := lw_g (lw_at lw_m7 71 rfl) rfl
theorem q1630 : (Jvm.Cond.fieldLink "RapTableModel" (235 : Nat) "RapTableModel" "name" "J") ∈ lw_all := lw_g (lw_at lw_m7 72 rfl) rfl
theorem q1631 : (Jvm.Cond.fieldLink "RapTableModel" (294 : Nat) "RapTableModel" "faultKind" "I") ∈ lw_all := lw_g (lw_at lw_m7 73 rfl) rfl
theorem q1632 : (Jvm.Cond.fieldLink "RapTableModel" (70 : Nat) "RapTableModel" "faultPlace" "I") ∈ lw_all := lw_g (lw_at lw_m7 74 rfl) rfl
theorem q1633 : (Jvm.Cond.fieldLink "RapTableModel" (309 : Nat) "RapTableModel" "runner" "I") ∈ lw_all := lw_g (lw_at lw_m7 75 rfl) rfl
theorem q1634 : (Jvm.Cond.fieldLink "RapTableModel" (318 : Nat) "RapTableModel" "withThem" "I") ∈ lw_all := lw_g (lw_at lw_m7 76 rfl) rfl
theorem q1635 : (Jvm.Cond.fieldLink "RapTableModel" (327 : Nat) "RapTableModel" "lies" "I") ∈ lw_all := lw_g (lw_at lw_m7 77 rfl) rfl
theorem q1636 : (Jvm.Cond.fieldLink "RapTableModel" (330 : Nat) "RapTableModel" "goal" "I") ∈ lw_all := lw_g (lw_at lw_m7 78 rfl) rfl
theorem q1637 : (Jvm.Cond.fieldLink "RapTableModel" (312 : Nat) "RapTableModel" "called" "I") ∈ lw_all := lw_g (lw_at lw_m7 79 rfl) rfl
theorem q1638 : (Jvm.Cond.fieldLink "RapTableModel" (321 : Nat) "RapTableModel" "swapped" "I") ∈ lw_all := lw_g (lw_at lw_m7 80 rfl) rfl
theorem q1639 : (Jvm.Cond.fieldLink "RapTableModel" (119 : Nat) "RapTableModel" "reports" "I") ∈ lw_all := lw_g (lw_at lw_m7 81 rfl) rfl
theorem q1640 : (Jvm.Cond.fieldLink "RapTableModel" (73 : Nat) "RapTableModel" "told" "[I") ∈ lw_all := lw_g (lw_at lw_m7 82 rfl) rfl
theorem q1641 : (Jvm.Cond.fieldLink "RapTableModel" (76 : Nat) "RapTableModel" "soonest" "[I") ∈ lw_all := lw_g (lw_at lw_m7 83 rfl) rfl
theorem q1642 : (Jvm.Cond.fieldLink "RapTableModel" (79 : Nat) "RapTableModel" "latest" "[I") ∈ lw_all := lw_g (lw_at lw_m7 84 rfl) rfl
theorem q1643 : (Jvm.Cond.fieldLink "RapTableModel" (82 : Nat) "RapTableModel" "hops" "[I") ∈ lw_all := lw_g (lw_at lw_m7 85 rfl) rfl
theorem q1644 : (Jvm.Cond.fieldLink "RapTableModel" (401 : Nat) "RapTableModel" "hopMany" "I") ∈ lw_all := lw_g (lw_at lw_m7 86 rfl) rfl
theorem q1645 : (Jvm.Cond.fieldLink "RapTableModel" (122 : Nat) "RapTableModel" "controls" "I") ∈ lw_all := lw_g (lw_at lw_m7 87 rfl) rfl
theorem q1646 : (Jvm.Cond.fieldLink "RapTableModel" (85 : Nat) "RapTableModel" "controlKind" "[I") ∈ lw_all := lw_g (lw_at lw_m7 88 rfl) rfl
theorem q1647 : (Jvm.Cond.fieldLink "RapTableModel" (88 : Nat) "RapTableModel" "controlWhat" "[I") ∈ lw_all := lw_g (lw_at lw_m7 89 rfl) rfl
theorem q1648 : (Jvm.Cond.fieldLink "RapTableModel" (91 : Nat) "RapTableModel" "controlV" "[I") ∈ lw_all := lw_g (lw_at lw_m7 90 rfl) rfl
theorem q1649 : (Jvm.Cond.fieldLink "RapTableModel" (94 : Nat) "RapTableModel" "controlFrom" "[I") ∈ lw_all := lw_g (lw_at lw_m7 91 rfl) rfl
theorem q1650 : (Jvm.Cond.fieldLink "RapTableModel" (97 : Nat) "RapTableModel" "controlTo" "[I") ∈ lw_all := lw_g (lw_at lw_m7 92 rfl) rfl
theorem q1651 : (Jvm.Cond.fieldLink "RapTableModel" (100 : Nat) "RapTableModel" "controlCost" "[I") ∈ lw_all := lw_g (lw_at lw_m7 93 rfl) rfl
theorem q1652 : (Jvm.Cond.fieldLink "RapTableModel" (103 : Nat) "RapTableModel" "fitted" "[Z") ∈ lw_all := lw_g (lw_at lw_m7 94 rfl) rfl
theorem q1653 : (Jvm.Cond.fieldLink "RapTableModel" (125 : Nat) "RapTableModel" "trials" "I") ∈ lw_all := lw_g (lw_at lw_m7 95 rfl) rfl
theorem q1654 : (Jvm.Cond.fieldLink "RapTableModel" (106 : Nat) "RapTableModel" "answers" "[I") ∈ lw_all := lw_g (lw_at lw_m7 96 rfl) rfl
theorem q1655 : (Jvm.Cond.fieldLink "RapTableModel" (109 : Nat) "RapTableModel" "hitsOf" "[I") ∈ lw_all := lw_g (lw_at lw_m7 97 rfl) rfl
theorem q1656 : (Jvm.Cond.fieldLink "RapTableModel" (112 : Nat) "RapTableModel" "rows" "[J") ∈ lw_all := lw_g (lw_at lw_m7 98 rfl) rfl
theorem q1657 : (Jvm.Cond.fieldLink "RapTableModel" (456 : Nat) "RapTableModel" "eased" "I") ∈ lw_all := lw_g (lw_at lw_m7 99 rfl) rfl
theorem q1658 : (Jvm.Cond.fieldLink "RapTableModel" (459 : Nat) "RapTableModel" "easedSet" "I") ∈ lw_all := lw_g (lw_at lw_m7 100 rfl) rfl
theorem q1659 : (Jvm.Cond.lays "RapTableModel" "RapTableModel" "thrown" "I") ∈ lw_all := lw_g (lw_at lw_m7 101 rfl) rfl
theorem q1660 : (Jvm.Cond.soleField "RapTableModel" "thrown") ∈ lw_all := lw_g (lw_at lw_m7 102 rfl) rfl
theorem q1661 : (Jvm.Cond.laysFinal "RapTableModel" "RapTableModel" "refused" "[I") ∈ lw_all := lw_g (lw_at lw_m7 103 rfl) rfl
theorem q1662 : (Jvm.Cond.soleField "RapTableModel" "refused") ∈ lw_all := lw_g (lw_at lw_m7 104 rfl) rfl
theorem q1663 : (Jvm.Cond.laysFinal "RapTableModel" "RapTableModel" "all" "[I") ∈ lw_all := lw_g (lw_at lw_m7 105 rfl) rfl
theorem q1664 : (Jvm.Cond.soleField "RapTableModel" "all") ∈ lw_all := lw_g (lw_at lw_m7 106 rfl) rfl
theorem q1665 : (Jvm.Cond.laysFinal "RapTableModel" "RapTableModel" "hasImage" "[Z") ∈ lw_all := lw_g (lw_at lw_m7 107 rfl) rfl
theorem q1666 : (Jvm.Cond.soleField "RapTableModel" "hasImage") ∈ lw_all := lw_g (lw_at lw_m7 108 rfl) rfl
theorem q1667 : (Jvm.Cond.lays "RapTableModel" "RapTableModel" "seats" "I") ∈ lw_all := lw_g (lw_at lw_m7 109 rfl) rfl
theorem q1668 : (Jvm.Cond.soleField "RapTableModel" "seats") ∈ lw_all := lw_g (lw_at lw_m7 110 rfl) rfl
theorem q1669 : (Jvm.Cond.laysFinal "RapTableModel" "RapTableModel" "lit" "[I") ∈ lw_all := lw_g (lw_at lw_m7 111 rfl) rfl
theorem q1670 : (Jvm.Cond.soleField "RapTableModel" "lit") ∈ lw_all := lw_g (lw_at lw_m7 112 rfl) rfl
theorem q1671 : (Jvm.Cond.laysFinal "RapTableModel" "RapTableModel" "eyed" "[I") ∈ lw_all := lw_g (lw_at lw_m7 113 rfl) rfl
theorem q1672 : (Jvm.Cond.soleField "RapTableModel" "eyed") ∈ lw_all := lw_g (lw_at lw_m7 114 rfl) rfl
theorem q1673 : (Jvm.Cond.laysFinal "RapTableModel" "RapTableModel" "watched" "[I") ∈ lw_all := lw_g (lw_at lw_m7 115 rfl) rfl
theorem q1674 : (Jvm.Cond.soleField "RapTableModel" "watched") ∈ lw_all := lw_g (lw_at lw_m7 116 rfl) rfl
theorem q1675 : (Jvm.Cond.laysFinal "RapTableModel" "RapTableModel" "vouched" "[I") ∈ lw_all := lw_g (lw_at lw_m7 117 rfl) rfl
theorem q1676 : (Jvm.Cond.soleField "RapTableModel" "vouched") ∈ lw_all := lw_g (lw_at lw_m7 118 rfl) rfl
theorem q1677 : (Jvm.Cond.laysFinal "RapTableModel" "RapTableModel" "heldBy" "[I") ∈ lw_all := lw_g (lw_at lw_m7 119 rfl) rfl
theorem q1678 : (Jvm.Cond.soleField "RapTableModel" "heldBy") ∈ lw_all := lw_g (lw_at lw_m7 120 rfl) rfl
theorem q1679 : (Jvm.Cond.laysFinal "RapTableModel" "RapTableModel" "ruled" "[I") ∈ lw_all := lw_g (lw_at lw_m7 121 rfl) rfl
theorem q1680 : (Jvm.Cond.soleField "RapTableModel" "ruled") ∈ lw_all := lw_g (lw_at lw_m7 122 rfl) rfl
theorem q1681 : (Jvm.Cond.laysFinal "RapTableModel" "RapTableModel" "isFree" "[Z") ∈ lw_all := lw_g (lw_at lw_m7 123 rfl) rfl
theorem q1682 : (Jvm.Cond.soleField "RapTableModel" "isFree") ∈ lw_all := lw_g (lw_at lw_m7 124 rfl) rfl
theorem q1683 : (Jvm.Cond.laysFinal "RapTableModel" "RapTableModel" "isTied" "[Z") ∈ lw_all := lw_g (lw_at lw_m7 125 rfl) rfl
theorem q1684 : (Jvm.Cond.soleField "RapTableModel" "isTied") ∈ lw_all := lw_g (lw_at lw_m7 126 rfl) rfl
theorem q1685 : (Jvm.Cond.laysFinal "RapTableModel" "RapTableModel" "tape" "[I") ∈ lw_all := lw_g (lw_at lw_m7 127 rfl) rfl
theorem q1686 : (Jvm.Cond.soleField "RapTableModel" "tape") ∈ lw_all := lw_g (lw_at lw_m7 128 rfl) rfl
theorem q1687 : (Jvm.Cond.lays "RapTableModel" "RapTableModel" "taped" "I") ∈ lw_all := lw_g (lw_at lw_m7 129 rfl) rfl
theorem q1688 : (Jvm.Cond.soleField "RapTableModel" "taped") ∈ lw_all := lw_g (lw_at lw_m7 130 rfl) rfl
theorem q1689 : (Jvm.Cond.lays "RapTableModel" "RapTableModel" "ways" "I") ∈ lw_all := lw_g (lw_at lw_m7 131 rfl) rfl
theorem q1690 : (Jvm.Cond.soleField "RapTableModel" "ways") ∈ lw_all := lw_g (lw_at lw_m7 132 rfl) rfl
theorem q1691 : (Jvm.Cond.lays "RapTableModel" "RapTableModel" "loss" "I") ∈ lw_all := lw_g (lw_at lw_m7 133 rfl) rfl
theorem q1692 : (Jvm.Cond.soleField "RapTableModel" "loss") ∈ lw_all := lw_g (lw_at lw_m7 134 rfl) rfl
theorem q1693 : (Jvm.Cond.lays "RapTableModel" "RapTableModel" "smooth" "I") ∈ lw_all := lw_g (lw_at lw_m7 135 rfl) rfl
theorem q1694 : (Jvm.Cond.soleField "RapTableModel" "smooth") ∈ lw_all := lw_g (lw_at lw_m7 136 rfl) rfl
theorem q1695 : (Jvm.Cond.laysFinal "RapTableModel" "RapTableModel" "steps" "[I") ∈ lw_all := lw_g (lw_at lw_m7 137 rfl) rfl
theorem q1696 : (Jvm.Cond.soleField "RapTableModel" "steps") ∈ lw_all := lw_g (lw_at lw_m7 138 rfl) rfl
theorem q1697 : (Jvm.Cond.laysFinal "RapTableModel" "RapTableModel" "kindOf" "[I") ∈ lw_all := lw_g (lw_at lw_m7 139 rfl) rfl
theorem q1698 : (Jvm.Cond.soleField "RapTableModel" "kindOf") ∈ lw_all := lw_g (lw_at lw_m7 140 rfl) rfl
theorem q1699 : (Jvm.Cond.laysFinal "RapTableModel" "RapTableModel" "sideOf" "[I") ∈ lw_all := lw_g (lw_at lw_m7 141 rfl) rfl
theorem q1700 : (Jvm.Cond.soleField "RapTableModel" "sideOf") ∈ lw_all := lw_g (lw_at lw_m7 142 rfl) rfl
theorem q1701 : (Jvm.Cond.laysFinal "RapTableModel" "RapTableModel" "manyOf" "[I") ∈ lw_all := lw_g (lw_at lw_m7 143 rfl) rfl
theorem q1702 : (Jvm.Cond.soleField "RapTableModel" "manyOf") ∈ lw_all := lw_g (lw_at lw_m7 144 rfl) rfl
theorem q1703 : (Jvm.Cond.laysFinal "RapTableModel" "RapTableModel" "nameOf" "[J") ∈ lw_all := lw_g (lw_at lw_m7 145 rfl) rfl
theorem q1704 : (Jvm.Cond.soleField "RapTableModel" "nameOf") ∈ lw_all := lw_g (lw_at lw_m7 146 rfl) rfl
theorem q1705 : (Jvm.Cond.lays "RapTableModel" "RapTableModel" "newWays" "I") ∈ lw_all := lw_g (lw_at lw_m7 147 rfl) rfl
theorem q1706 : (Jvm.Cond.soleField "RapTableModel" "newWays") ∈ lw_all := lw_g (lw_at lw_m7 148 rfl) rfl
theorem q1707 : (Jvm.Cond.lays "RapTableModel" "RapTableModel" "newLoss" "I") ∈ lw_all := lw_g (lw_at lw_m7 149 rfl) rfl
theorem q1708 : (Jvm.Cond.soleField "RapTableModel" "newLoss") ∈ lw_all := lw_g (lw_at lw_m7 150 rfl) rfl
theorem q1709 : (Jvm.Cond.lays "RapTableModel" "RapTableModel" "newSmooth" "I") ∈ lw_all := lw_g (lw_at lw_m7 151 rfl) rfl
theorem q1710 : (Jvm.Cond.soleField "RapTableModel" "newSmooth") ∈ lw_all := lw_g (lw_at lw_m7 152 rfl) rfl
theorem q1711 : (Jvm.Cond.lays "RapTableModel" "RapTableModel" "at" "I") ∈ lw_all := lw_g (lw_at lw_m7 153 rfl) rfl
theorem q1712 : (Jvm.Cond.soleField "RapTableModel" "at") ∈ lw_all := lw_g (lw_at lw_m7 154 rfl) rfl
theorem q1713 : (Jvm.Cond.lays "RapTableModel" "RapTableModel" "behind" "I") ∈ lw_all := lw_g (lw_at lw_m7 155 rfl) rfl
theorem q1714 : (Jvm.Cond.soleField "RapTableModel" "behind") ∈ lw_all := lw_g (lw_at lw_m7 156 rfl) rfl
theorem q1715 : (Jvm.Cond.lays "RapTableModel" "RapTableModel" "size" "I") ∈ lw_all := lw_g (lw_at lw_m7 157 rfl) rfl
theorem q1716 : (Jvm.Cond.soleField "RapTableModel" "size") ∈ lw_all := lw_g (lw_at lw_m7 158 rfl) rfl
theorem q1717 : (Jvm.Cond.lays "RapTableModel" "RapTableModel" "kind" "I") ∈ lw_all := lw_g (lw_at lw_m7 159 rfl) rfl
theorem q1718 : (Jvm.Cond.soleField "RapTableModel" "kind") ∈ lw_all := lw_g (lw_at lw_m7 160 rfl) rfl
theorem q1719 : (Jvm.Cond.lays "RapTableModel" "RapTableModel" "number" "I") ∈ lw_all := lw_g (lw_at lw_m7 161 rfl) rfl
theorem q1720 : (Jvm.Cond.soleField "RapTableModel" "number") ∈ lw_all := lw_g (lw_at lw_m7 162 rfl) rfl
theorem q1721 : (Jvm.Cond.lays "RapTableModel" "RapTableModel" "wrong" "I") ∈ lw_all := lw_g (lw_at lw_m7 163 rfl) rfl
theorem q1722 : (Jvm.Cond.soleField "RapTableModel" "wrong") ∈ lw_all := lw_g (lw_at lw_m7 164 rfl) rfl
theorem q1723 : (Jvm.Cond.lays "RapTableModel" "RapTableModel" "wrongAt" "I") ∈ lw_all := lw_g (lw_at lw_m7 165 rfl) rfl
theorem q1724 : (Jvm.Cond.soleField "RapTableModel" "wrongAt") ∈ lw_all := lw_g (lw_at lw_m7 166 rfl) rfl
theorem q1725 : (Jvm.Cond.lays "RapTableModel" "RapTableModel" "name" "J") ∈ lw_all := lw_g (lw_at lw_m7 167 rfl) rfl
theorem q1726 : (Jvm.Cond.soleField "RapTableModel" "name") ∈ lw_all := lw_g (lw_at lw_m7 168 rfl) rfl
theorem q1727 : (Jvm.Cond.lays "RapTableModel" "RapTableModel" "faultKind" "I") ∈ lw_all := lw_g (lw_at lw_m7 169 rfl) rfl
theorem q1728 : (Jvm.Cond.soleField "RapTableModel" "faultKind") ∈ lw_all := lw_g (lw_at lw_m7 170 rfl) rfl
theorem q1729 : (Jvm.Cond.lays "RapTableModel" "RapTableModel" "faultPlace" "I") ∈ lw_all := lw_g (lw_at lw_m7 171 rfl) rfl
theorem q1730 : (Jvm.Cond.soleField "RapTableModel" "faultPlace") ∈ lw_all := lw_g (lw_at lw_m7 172 rfl) rfl
theorem q1731 : (Jvm.Cond.lays "RapTableModel" "RapTableModel" "runner" "I") ∈ lw_all := lw_g (lw_at lw_m7 173 rfl) rfl
theorem q1732 : (Jvm.Cond.soleField "RapTableModel" "runner") ∈ lw_all := lw_g (lw_at lw_m7 174 rfl) rfl
theorem q1733 : (Jvm.Cond.lays "RapTableModel" "RapTableModel" "withThem" "I") ∈ lw_all := lw_g (lw_at lw_m7 175 rfl) rfl
theorem q1734 : (Jvm.Cond.soleField "RapTableModel" "withThem") ∈ lw_all := lw_g (lw_at lw_m7 176 rfl) rfl
theorem q1735 : (Jvm.Cond.lays "RapTableModel" "RapTableModel" "lies" "I") ∈ lw_all := lw_g (lw_at lw_m7 177 rfl) rfl
theorem q1736 : (Jvm.Cond.soleField "RapTableModel" "lies") ∈ lw_all := lw_g (lw_at lw_m7 178 rfl) rfl
theorem q1737 : (Jvm.Cond.lays "RapTableModel" "RapTableModel" "goal" "I") ∈ lw_all := lw_g (lw_at lw_m7 179 rfl) rfl
theorem q1738 : (Jvm.Cond.soleField "RapTableModel" "goal") ∈ lw_all := lw_g (lw_at lw_m7 180 rfl) rfl
theorem q1739 : (Jvm.Cond.lays "RapTableModel" "RapTableModel" "called" "I") ∈ lw_all := lw_g (lw_at lw_m7 181 rfl) rfl
theorem q1740 : (Jvm.Cond.soleField "RapTableModel" "called") ∈ lw_all := lw_g (lw_at lw_m7 182 rfl) rfl
theorem q1741 : (Jvm.Cond.lays "RapTableModel" "RapTableModel" "swapped" "I") ∈ lw_all := lw_g (lw_at lw_m7 183 rfl) rfl
theorem q1742 : (Jvm.Cond.soleField "RapTableModel" "swapped") ∈ lw_all := lw_g (lw_at lw_m7 184 rfl) rfl
theorem q1743 : (Jvm.Cond.lays "RapTableModel" "RapTableModel" "reports" "I") ∈ lw_all := lw_g (lw_at lw_m7 185 rfl) rfl
theorem q1744 : (Jvm.Cond.soleField "RapTableModel" "reports") ∈ lw_all := lw_g (lw_at lw_m7 186 rfl) rfl
theorem q1745 : (Jvm.Cond.laysFinal "RapTableModel" "RapTableModel" "told" "[I") ∈ lw_all := lw_g (lw_at lw_m7 187 rfl) rfl
theorem q1746 : (Jvm.Cond.soleField "RapTableModel" "told") ∈ lw_all := lw_g (lw_at lw_m7 188 rfl) rfl
theorem q1747 : (Jvm.Cond.laysFinal "RapTableModel" "RapTableModel" "soonest" "[I") ∈ lw_all := lw_g (lw_at lw_m7 189 rfl) rfl
theorem q1748 : (Jvm.Cond.soleField "RapTableModel" "soonest") ∈ lw_all := lw_g (lw_at lw_m7 190 rfl) rfl
theorem q1749 : (Jvm.Cond.laysFinal "RapTableModel" "RapTableModel" "latest" "[I") ∈ lw_all := lw_g (lw_at lw_m7 191 rfl) rfl
theorem q1750 : (Jvm.Cond.soleField "RapTableModel" "latest") ∈ lw_all := lw_g (lw_at lw_m7 192 rfl) rfl
theorem q1751 : (Jvm.Cond.laysFinal "RapTableModel" "RapTableModel" "hops" "[I") ∈ lw_all := lw_g (lw_at lw_m7 193 rfl) rfl
theorem q1752 : (Jvm.Cond.soleField "RapTableModel" "hops") ∈ lw_all := lw_g (lw_at lw_m7 194 rfl) rfl
theorem q1753 : (Jvm.Cond.lays "RapTableModel" "RapTableModel" "hopMany" "I") ∈ lw_all := lw_g (lw_at lw_m7 195 rfl) rfl
theorem q1754 : (Jvm.Cond.soleField "RapTableModel" "hopMany") ∈ lw_all := lw_g (lw_at lw_m7 196 rfl) rfl
theorem q1755 : (Jvm.Cond.lays "RapTableModel" "RapTableModel" "controls" "I") ∈ lw_all := lw_g (lw_at lw_m7 197 rfl) rfl
theorem q1756 : (Jvm.Cond.soleField "RapTableModel" "controls") ∈ lw_all := lw_g (lw_at lw_m7 198 rfl) rfl
theorem q1757 : (Jvm.Cond.laysFinal "RapTableModel" "RapTableModel" "controlKind" "[I") ∈ lw_all := lw_g (lw_at lw_m7 199 rfl) rfl
theorem q1758 : (Jvm.Cond.soleField "RapTableModel" "controlKind") ∈ lw_all := lw_g (lw_at lw_m7 200 rfl) rfl
theorem q1759 : (Jvm.Cond.laysFinal "RapTableModel" "RapTableModel" "controlWhat" "[I") ∈ lw_all := lw_g (lw_at lw_m7 201 rfl) rfl
theorem q1760 : (Jvm.Cond.soleField "RapTableModel" "controlWhat") ∈ lw_all := lw_g (lw_at lw_m7 202 rfl) rfl
theorem q1761 : (Jvm.Cond.laysFinal "RapTableModel" "RapTableModel" "controlV" "[I") ∈ lw_all := lw_g (lw_at lw_m7 203 rfl) rfl
theorem q1762 : (Jvm.Cond.soleField "RapTableModel" "controlV") ∈ lw_all := lw_g (lw_at lw_m7 204 rfl) rfl
theorem q1763 : (Jvm.Cond.laysFinal "RapTableModel" "RapTableModel" "controlFrom" "[I") ∈ lw_all := lw_g (lw_at lw_m7 205 rfl) rfl
theorem q1764 : (Jvm.Cond.soleField "RapTableModel" "controlFrom") ∈ lw_all := lw_g (lw_at lw_m7 206 rfl) rfl
theorem q1765 : (Jvm.Cond.laysFinal "RapTableModel" "RapTableModel" "controlTo" "[I") ∈ lw_all := lw_g (lw_at lw_m7 207 rfl) rfl
theorem q1766 : (Jvm.Cond.soleField "RapTableModel" "controlTo") ∈ lw_all := lw_g (lw_at lw_m7 208 rfl) rfl
theorem q1767 : (Jvm.Cond.laysFinal "RapTableModel" "RapTableModel" "controlCost" "[I") ∈ lw_all := lw_g (lw_at lw_m7 209 rfl) rfl
theorem q1768 : (Jvm.Cond.soleField "RapTableModel" "controlCost") ∈ lw_all := lw_g (lw_at lw_m7 210 rfl) rfl
theorem q1769 : (Jvm.Cond.laysFinal "RapTableModel" "RapTableModel" "fitted" "[Z") ∈ lw_all := lw_g (lw_at lw_m7 211 rfl) rfl
theorem q1770 : (Jvm.Cond.soleField "RapTableModel" "fitted") ∈ lw_all := lw_g (lw_at lw_m7 212 rfl) rfl
theorem q1771 : (Jvm.Cond.lays "RapTableModel" "RapTableModel" "trials" "I") ∈ lw_all := lw_g (lw_at lw_m7 213 rfl) rfl
theorem q1772 : (Jvm.Cond.soleField "RapTableModel" "trials") ∈ lw_all := lw_g (lw_at lw_m7 214 rfl) rfl
theorem q1773 : (Jvm.Cond.laysFinal "RapTableModel" "RapTableModel" "answers" "[I") ∈ lw_all := lw_g (lw_at lw_m7 215 rfl) rfl
theorem q1774 : (Jvm.Cond.soleField "RapTableModel" "answers") ∈ lw_all := lw_g (lw_at lw_m7 216 rfl) rfl
theorem q1775 : (Jvm.Cond.laysFinal "RapTableModel" "RapTableModel" "hitsOf" "[I") ∈ lw_all := lw_g (lw_at lw_m7 217 rfl) rfl
theorem q1776 : (Jvm.Cond.soleField "RapTableModel" "hitsOf") ∈ lw_all := lw_g (lw_at lw_m7 218 rfl) rfl
theorem q1777 : (Jvm.Cond.laysFinal "RapTableModel" "RapTableModel" "rows" "[J") ∈ lw_all := lw_g (lw_at lw_m7 219 rfl) rfl
theorem q1778 : (Jvm.Cond.soleField "RapTableModel" "rows") ∈ lw_all := lw_g (lw_at lw_m7 220 rfl) rfl
theorem q1779 : (Jvm.Cond.lays "RapTableModel" "RapTableModel" "eased" "I") ∈ lw_all := lw_g (lw_at lw_m7 221 rfl) rfl
theorem q1780 : (Jvm.Cond.soleField "RapTableModel" "eased") ∈ lw_all := lw_g (lw_at lw_m7 222 rfl) rfl
theorem q1781 : (Jvm.Cond.lays "RapTableModel" "RapTableModel" "easedSet" "I") ∈ lw_all := lw_g (lw_at lw_m7 223 rfl) rfl
theorem q1782 : (Jvm.Cond.soleField "RapTableModel" "easedSet") ∈ lw_all := lw_g (lw_at lw_m7 224 rfl) rfl
theorem q1783 : (Jvm.Cond.superclass "RapTableModel" "java/lang/Object") ∈ lw_all := lw_g (lw_at lw_m7 225 rfl) rfl
theorem q1785 : (Jvm.Cond.instanceMethod ({ cls := "RapTableModel", name := "room", desc := "(I)Z" } : Jvm.MethodName)) ∈ lw_all := lw_g (lw_at lw_m7 227 rfl) rfl
theorem q1786 : (Jvm.Cond.selects "RapTableModel" ({ cls := "RapTableModel", name := "room", desc := "(I)Z" } : Jvm.MethodName) ({ cls := "RapTableModel", name := "room", desc := "(I)Z" } : Jvm.MethodName)) ∈ lw_all := lw_g (lw_at lw_m7 228 rfl) rfl
theorem q1787 : (Jvm.Cond.code ({ cls := "RapTableModel", name := "room", desc := "(I)Z" } : Jvm.MethodName) prog_26_method_16_code (2 : Nat) (Option.some Jvm.ClassFile.FieldType.boolean)) ∈ lw_all := lw_g (lw_at lw_m7 229 rfl) rfl
theorem q1788 : (Jvm.Cond.constantLong "RapTableModel" (136 : Nat) (3 : Int64)) ∈ lw_all := lw_g (lw_at lw_m7 230 rfl) rfl
theorem q1789 : (Jvm.Cond.constantLong "RapTableModel" (138 : Nat) (9 : Int64)) ∈ lw_all := lw_g (lw_at lw_m7 231 rfl) rfl
theorem q1790 : (Jvm.Cond.methodLink "RapTableModel" (140 : Nat) ({ cls := "RapTableModel", name := "within", desc := "(JJJ)Z" } : Jvm.MethodName)) ∈ lw_all := lw_g (lw_at lw_m7 232 rfl) rfl
theorem q1791 : (Jvm.Cond.static ({ cls := "RapTableModel", name := "within", desc := "(JJJ)Z" } : Jvm.MethodName)) ∈ lw_all := lw_g (lw_at lw_m7 233 rfl) rfl
theorem q1792 : (Jvm.Cond.code ({ cls := "RapTableModel", name := "within", desc := "(JJJ)Z" } : Jvm.MethodName) prog_26_method_2_code (6 : Nat) (Option.some Jvm.ClassFile.FieldType.boolean)) ∈ lw_all := lw_g (lw_at lw_m7 234 rfl) rfl
theorem q1793 : (Jvm.Cond.methodLink "RapTableModel" (144 : Nat) ({ cls := "RapTableModel", name := "refuses", desc := "(I)Z" } : Jvm.MethodName)) ∈ lw_all := lw_g (lw_at lw_m7 235 rfl) rfl
theorem q1794 : (Jvm.Cond.privateMethod ({ cls := "RapTableModel", name := "refuses", desc := "(I)Z" } : Jvm.MethodName)) ∈ lw_tbl := lw_at lw_m7 236 rfl
theorem q1795 : (Jvm.Cond.instanceMethod ({ cls := "RapTableModel", name := "refuses", desc := "(I)Z" } : Jvm.MethodName)) ∈ lw_all := lw_g (lw_at lw_m7 237 rfl) rfl
theorem q1796 : (Jvm.Cond.code ({ cls := "RapTableModel", name := "refuses", desc := "(I)Z" } : Jvm.MethodName) prog_26_method_6_code (2 : Nat) (Option.some Jvm.ClassFile.FieldType.boolean)) ∈ lw_all := lw_g (lw_at lw_m7 238 rfl) rfl
theorem q1798 : (Jvm.Cond.instanceMethod ({ cls := "RapTableModel", name := "person", desc := "(III)Z" } : Jvm.MethodName)) ∈ lw_all := lw_g (lw_at lw_m8 0 rfl) rfl
theorem q1799 : (Jvm.Cond.selects "RapTableModel" ({ cls := "RapTableModel", name := "person", desc := "(III)Z" } : Jvm.MethodName) ({ cls := "RapTableModel", name := "person", desc := "(III)Z" } : Jvm.MethodName)) ∈ lw_all := lw_g (lw_at lw_m8 1 rfl) rfl
theorem q1800 : (Jvm.Cond.code ({ cls := "RapTableModel", name := "person", desc := "(III)Z" } : Jvm.MethodName) prog_26_method_17_code (4 : Nat) (Option.some Jvm.ClassFile.FieldType.boolean)) ∈ lw_all := lw_g (lw_at lw_m8 2 rfl) rfl
theorem q1801 : (Jvm.Cond.methodLink "RapTableModel" (147 : Nat) ({ cls := "RapTableModel", name := "isPerson", desc := "(I)Z" } : Jvm.MethodName)) ∈ lw_all := lw_g (lw_at lw_m8 3 rfl) rfl
theorem q1802 : (Jvm.Cond.privateMethod ({ cls := "RapTableModel", name := "isPerson", desc := "(I)Z" } : Jvm.MethodName)) ∈ lw_tbl := lw_at lw_m8 4 rfl
theorem q1803 : (Jvm.Cond.instanceMethod ({ cls := "RapTableModel", name := "isPerson", desc := "(I)Z" } : Jvm.MethodName)) ∈ lw_all := lw_g (lw_at lw_m8 5 rfl) rfl
theorem q1804 : (Jvm.Cond.code ({ cls := "RapTableModel", name := "isPerson", desc := "(I)Z" } : Jvm.MethodName) prog_26_method_9_code (2 : Nat) (Option.some Jvm.ClassFile.FieldType.boolean)) ∈ lw_all := lw_g (lw_at lw_m8 6 rfl) rfl
theorem q1806 : (Jvm.Cond.instanceMethod ({ cls := "RapTableModel", name := "light", desc := "(III)Z" } : Jvm.MethodName)) ∈ lw_all := lw_g (lw_at lw_m8 8 rfl) rfl
theorem q1807 : (Jvm.Cond.selects "RapTableModel" ({ cls := "RapTableModel", name := "light", desc := "(III)Z" } : Jvm.MethodName) ({ cls := "RapTableModel", name := "light", desc := "(III)Z" } : Jvm.MethodName)) ∈ lw_all := lw_g (lw_at lw_m8 9 rfl) rfl
theorem q1808 : (Jvm.Cond.code ({ cls := "RapTableModel", name := "light", desc := "(III)Z" } : Jvm.MethodName) prog_26_method_18_code (5 : Nat) (Option.some Jvm.ClassFile.FieldType.boolean)) ∈ lw_all := lw_g (lw_at lw_m8 10 rfl) rfl
theorem q1809 : (Jvm.Cond.methodLink "RapTableModel" (150 : Nat) ({ cls := "RapTableModel", name := "areSeconds", desc := "(II)Z" } : Jvm.MethodName)) ∈ lw_all := lw_g (lw_at lw_m8 11 rfl) rfl
theorem q1810 : (Jvm.Cond.static ({ cls := "RapTableModel", name := "areSeconds", desc := "(II)Z" } : Jvm.MethodName)) ∈ lw_all := lw_g (lw_at lw_m8 12 rfl) rfl
theorem q1811 : (Jvm.Cond.code ({ cls := "RapTableModel", name := "areSeconds", desc := "(II)Z" } : Jvm.MethodName) prog_26_method_13_code (2 : Nat) (Option.some Jvm.ClassFile.FieldType.boolean)) ∈ lw_all := lw_g (lw_at lw_m8 13 rfl) rfl
theorem q1812 : (Jvm.Cond.methodLink "RapTableModel" (128 : Nat) ({ cls := "RapTableModel", name := "isSecond", desc := "(I)Z" } : Jvm.MethodName)) ∈ lw_all := lw_g (lw_at lw_m8 14 rfl) rfl
theorem q1813 : (Jvm.Cond.static ({ cls := "RapTableModel", name := "isSecond", desc := "(I)Z" } : Jvm.MethodName)) ∈ lw_all := lw_g (lw_at lw_m8 15 rfl) rfl
theorem q1814 : (Jvm.Cond.code ({ cls := "RapTableModel", name := "isSecond", desc := "(I)Z" } : Jvm.MethodName) prog_26_method_12_code (1 : Nat) (Option.some Jvm.ClassFile.FieldType.boolean)) ∈ lw_all := lw_g (lw_at lw_m8 16 rfl) rfl
theorem q1816 : (Jvm.Cond.instanceMethod ({ cls := "RapTableModel", name := "attend", desc := "(IIII)Z" } : Jvm.MethodName)) ∈ lw_all := lw_g (lw_at lw_m8 18 rfl) rfl
theorem q1817 : (Jvm.Cond.selects "RapTableModel" ({ cls := "RapTableModel", name := "attend", desc := "(IIII)Z" } : Jvm.MethodName) ({ cls := "RapTableModel", name := "attend", desc := "(IIII)Z" } : Jvm.MethodName)) ∈ lw_all := lw_g (lw_at lw_m8 19 rfl) rfl
theorem q1818 : (Jvm.Cond.code ({ cls := "RapTableModel", name := "attend", desc := "(IIII)Z" } : Jvm.MethodName) prog_26_method_19_code (6 : Nat) (Option.some Jvm.ClassFile.FieldType.boolean)) ∈ lw_all := lw_g (lw_at lw_m8 20 rfl) rfl
theorem q1819 : (Jvm.Cond.methodLink "RapTableModel" (153 : Nat) ({ cls := "RapTableModel", name := "isSpot", desc := "(I)Z" } : Jvm.MethodName)) ∈ lw_all := lw_g (lw_at lw_m8 21 rfl) rfl
theorem q1820 : (Jvm.Cond.privateMethod ({ cls := "RapTableModel", name := "isSpot", desc := "(I)Z" } : Jvm.MethodName)) ∈ lw_tbl := lw_at lw_m8 22 rfl
theorem q1821 : (Jvm.Cond.instanceMethod ({ cls := "RapTableModel", name := "isSpot", desc := "(I)Z" } : Jvm.MethodName)) ∈ lw_all := lw_g (lw_at lw_m8 23 rfl) rfl
theorem q1822 : (Jvm.Cond.code ({ cls := "RapTableModel", name := "isSpot", desc := "(I)Z" } : Jvm.MethodName) prog_26_method_11_code (2 : Nat) (Option.some Jvm.ClassFile.FieldType.boolean)) ∈ lw_all := lw_g (lw_at lw_m8 24 rfl) rfl
theorem q1824 : (Jvm.Cond.instanceMethod ({ cls := "RapTableModel", name := "lead", desc := "(IIII)I" } : Jvm.MethodName)) ∈ lw_all := lw_g (lw_at lw_m8 26 rfl) rfl
theorem q1825 : (Jvm.Cond.selects "RapTableModel" ({ cls := "RapTableModel", name := "lead", desc := "(IIII)I" } : Jvm.MethodName) ({ cls := "RapTableModel", name := "lead", desc := "(IIII)I" } : Jvm.MethodName)) ∈ lw_all := lw_g (lw_at lw_m8 27 rfl) rfl
theorem q1826 : (Jvm.Cond.code ({ cls := "RapTableModel", name := "lead", desc := "(IIII)I" } : Jvm.MethodName) prog_26_method_20_code (6 : Nat) (Option.some Jvm.ClassFile.FieldType.int)) ∈ lw_all := lw_g (lw_at lw_m8 28 rfl) rfl
theorem q1827 : (Jvm.Cond.methodLink "RapTableModel" (156 : Nat) ({ cls := "RapTableModel", name := "refuse", desc := "(I)I" } : Jvm.MethodName)) ∈ lw_all := lw_g (lw_at lw_m8 29 rfl) rfl
theorem q1828 : (Jvm.Cond.privateMethod ({ cls := "RapTableModel", name := "refuse", desc := "(I)I" } : Jvm.MethodName)) ∈ lw_tbl := lw_at lw_m8 30 rfl
theorem q1829 : (Jvm.Cond.instanceMethod ({ cls := "RapTableModel", name := "refuse", desc := "(I)I" } : Jvm.MethodName)) ∈ lw_all := lw_g (lw_at lw_m8 31 rfl) rfl
theorem q1830 : (Jvm.Cond.code ({ cls := "RapTableModel", name := "refuse", desc := "(I)I" } : Jvm.MethodName) prog_26_method_5_code (2 : Nat) (Option.some Jvm.ClassFile.FieldType.int)) ∈ lw_all := lw_g (lw_at lw_m8 32 rfl) rfl
theorem q1832 : (Jvm.Cond.instanceMethod ({ cls := "RapTableModel", name := "hold", desc := "(IIIII)Z" } : Jvm.MethodName)) ∈ lw_all := lw_g (lw_at lw_m8 34 rfl) rfl
theorem q1833 : (Jvm.Cond.selects "RapTableModel" ({ cls := "RapTableModel", name := "hold", desc := "(IIIII)Z" } : Jvm.MethodName) ({ cls := "RapTableModel", name := "hold", desc := "(IIIII)Z" } : Jvm.MethodName)) ∈ lw_all := lw_g (lw_at lw_m8 35 rfl) rfl
theorem q1834 : (Jvm.Cond.code ({ cls := "RapTableModel", name := "hold", desc := "(IIIII)Z" } : Jvm.MethodName) prog_26_method_21_code (8 : Nat) (Option.some Jvm.ClassFile.FieldType.boolean)) ∈ lw_all := lw_g (lw_at lw_m8 36 rfl) rfl
theorem q1835 : (Jvm.Cond.methodLink "RapTableModel" (160 : Nat) ({ cls := "RapTableModel", name := "isHand", desc := "(I)Z" } : Jvm.MethodName)) ∈ lw_all := lw_g (lw_at lw_m8 37 rfl) rfl
theorem q1836 : (Jvm.Cond.privateMethod ({ cls := "RapTableModel", name := "isHand", desc := "(I)Z" } : Jvm.MethodName)) ∈ lw_tbl := lw_at lw_m8 38 rfl
theorem q1837 : (Jvm.Cond.instanceMethod ({ cls := "RapTableModel", name := "isHand", desc := "(I)Z" } : Jvm.MethodName)) ∈ lw_all := lw_g (lw_at lw_m8 39 rfl) rfl
theorem q1838 : (Jvm.Cond.code ({ cls := "RapTableModel", name := "isHand", desc := "(I)Z" } : Jvm.MethodName) prog_26_method_10_code (2 : Nat) (Option.some Jvm.ClassFile.FieldType.boolean)) ∈ lw_all := lw_g (lw_at lw_m8 40 rfl) rfl
theorem q1839 : (Jvm.Cond.methodLink "RapTableModel" (132 : Nat) ({ cls := "RapTableModel", name := "isBeside", desc := "(II)Z" } : Jvm.MethodName)) ∈ lw_all := lw_g (lw_at lw_m8 41 rfl) rfl
theorem q1840 : (Jvm.Cond.privateMethod ({ cls := "RapTableModel", name := "isBeside", desc := "(II)Z" } : Jvm.MethodName)) ∈ lw_tbl := lw_at lw_m8 42 rfl
theorem q1841 : (Jvm.Cond.instanceMethod ({ cls := "RapTableModel", name := "isBeside", desc := "(II)Z" } : Jvm.MethodName)) ∈ lw_all := lw_g (lw_at lw_m8 43 rfl) rfl
theorem q1842 : (Jvm.Cond.code ({ cls := "RapTableModel", name := "isBeside", desc := "(II)Z" } : Jvm.MethodName) prog_26_method_14_code (3 : Nat) (Option.some Jvm.ClassFile.FieldType.boolean)) ∈ lw_all := lw_g (lw_at lw_m8 44 rfl) rfl
theorem q1844 : (Jvm.Cond.instanceMethod ({ cls := "RapTableModel", name := "thing", desc := "(I)I" } : Jvm.MethodName)) ∈ lw_all := lw_g (lw_at lw_m8 46 rfl) rfl
theorem q1845 : (Jvm.Cond.selects "RapTableModel" ({ cls := "RapTableModel", name := "thing", desc := "(I)I" } : Jvm.MethodName) ({ cls := "RapTableModel", name := "thing", desc := "(I)I" } : Jvm.MethodName)) ∈ lw_all := lw_g (lw_at lw_m8 47 rfl) rfl
theorem q1846 : (Jvm.Cond.code ({ cls := "RapTableModel", name := "thing", desc := "(I)I" } : Jvm.MethodName) prog_26_method_22_code (2 : Nat) (Option.some Jvm.ClassFile.FieldType.int)) ∈ lw_all := lw_g (lw_at lw_m8 48 rfl) rfl
theorem q1848 : (Jvm.Cond.instanceMethod ({ cls := "RapTableModel", name := "move", desc := "(IIII)I" } : Jvm.MethodName)) ∈ lw_all := lw_g (lw_at lw_m8 50 rfl) rfl
theorem q1849 : (Jvm.Cond.selects "RapTableModel" ({ cls := "RapTableModel", name := "move", desc := "(IIII)I" } : Jvm.MethodName) ({ cls := "RapTableModel", name := "move", desc := "(IIII)I" } : Jvm.MethodName)) ∈ lw_all := lw_g (lw_at lw_m8 51 rfl) rfl
theorem q1850 : (Jvm.Cond.code ({ cls := "RapTableModel", name := "move", desc := "(IIII)I" } : Jvm.MethodName) prog_26_method_26_code (8 : Nat) (Option.some Jvm.ClassFile.FieldType.int)) ∈ lw_all := lw_g (lw_at lw_m8 52 rfl) rfl
theorem q1851 : (Jvm.Cond.methodLink "RapTableModel" (167 : Nat) ({ cls := "RapTableModel", name := "isThing", desc := "(I)Z" } : Jvm.MethodName)) ∈ lw_all := lw_g (lw_at lw_m8 53 rfl) rfl
theorem q1852 : (Jvm.Cond.privateMethod ({ cls := "RapTableModel", name := "isThing", desc := "(I)Z" } : Jvm.MethodName)) ∈ lw_tbl := lw_at lw_m8 54 rfl
theorem q1853 : (Jvm.Cond.instanceMethod ({ cls := "RapTableModel", name := "isThing", desc := "(I)Z" } : Jvm.MethodName)) ∈ lw_all := lw_g (lw_at lw_m8 55 rfl) rfl
theorem q1854 : (Jvm.Cond.code ({ cls := "RapTableModel", name := "isThing", desc := "(I)Z" } : Jvm.MethodName) prog_26_method_23_code (2 : Nat) (Option.some Jvm.ClassFile.FieldType.boolean)) ∈ lw_all := lw_g (lw_at lw_m8 56 rfl) rfl
theorem q1855 : (Jvm.Cond.methodLink "RapTableModel" (170 : Nat) ({ cls := "RapTableModel", name := "lays", desc := "(I)V" } : Jvm.MethodName)) ∈ lw_all := lw_g (lw_at lw_m8 57 rfl) rfl
theorem q1856 : (Jvm.Cond.privateMethod ({ cls := "RapTableModel", name := "lays", desc := "(I)V" } : Jvm.MethodName)) ∈ lw_tbl := lw_at lw_m8 58 rfl
theorem q1857 : (Jvm.Cond.instanceMethod ({ cls := "RapTableModel", name := "lays", desc := "(I)V" } : Jvm.MethodName)) ∈ lw_all := lw_g (lw_at lw_m8 59 rfl) rfl
theorem q1858 : (Jvm.Cond.code ({ cls := "RapTableModel", name := "lays", desc := "(I)V" } : Jvm.MethodName) prog_26_method_33_code (5 : Nat) (Option.none : Option Jvm.ClassFile.FieldType)) ∈ lw_all := lw_g (lw_at lw_m8 60 rfl) rfl
theorem q1859 : (Jvm.Cond.methodLink "RapTableModel" (179 : Nat) ({ cls := "RapTableModel", name := "has", desc := "(II)Z" } : Jvm.MethodName)) ∈ lw_all := lw_g (lw_at lw_m8 61 rfl) rfl
theorem q1860 : (Jvm.Cond.static ({ cls := "RapTableModel", name := "has", desc := "(II)Z" } : Jvm.MethodName)) ∈ lw_all := lw_g (lw_at lw_m8 62 rfl) rfl
theorem q1861 : (Jvm.Cond.code ({ cls := "RapTableModel", name := "has", desc := "(II)Z" } : Jvm.MethodName) prog_26_method_3_code (2 : Nat) (Option.some Jvm.ClassFile.FieldType.boolean)) ∈ lw_all := lw_g (lw_at lw_m8 63 rfl) rfl
theorem q1862 : (Jvm.Cond.methodLink "RapTableModel" (192 : Nat) ({ cls := "RapTableModel", name := "eyesOf", desc := "(III)I" } : Jvm.MethodName)) ∈ lw_all := lw_g (lw_at lw_m8 64 rfl) rfl
theorem q1863 : (Jvm.Cond.privateMethod ({ cls := "RapTableModel", name := "eyesOf", desc := "(III)I" } : Jvm.MethodName)) ∈ lw_tbl := lw_at lw_m8 65 rfl
theorem q1864 : (Jvm.Cond.instanceMethod ({ cls := "RapTableModel", name := "eyesOf", desc := "(III)I" } : Jvm.MethodName)) ∈ lw_all := lw_g (lw_at lw_m8 66 rfl) rfl
theorem q1865 : (Jvm.Cond.code ({ cls := "RapTableModel", name := "eyesOf", desc := "(III)I" } : Jvm.MethodName) prog_26_method_32_code (6 : Nat) (Option.some Jvm.ClassFile.FieldType.int)) ∈ lw_all := lw_g (lw_at lw_m8 67 rfl) rfl
theorem q1866 : (Jvm.Cond.methodLink "RapTableModel" (185 : Nat) ({ cls := "RapTableModel", name := "ruler", desc := "(III)I" } : Jvm.MethodName)) ∈ lw_all := lw_g (lw_at lw_m8 68 rfl) rfl
theorem q1867 : (Jvm.Cond.privateMethod ({ cls := "RapTableModel", name := "ruler", desc := "(III)I" } : Jvm.MethodName)) ∈ lw_tbl := lw_at lw_m8 69 rfl
theorem q1868 : (Jvm.Cond.instanceMethod ({ cls := "RapTableModel", name := "ruler", desc := "(III)I" } : Jvm.MethodName)) ∈ lw_all := lw_g (lw_at lw_m8 70 rfl) rfl
theorem q1869 : (Jvm.Cond.code ({ cls := "RapTableModel", name := "ruler", desc := "(III)I" } : Jvm.MethodName) prog_26_method_31_code (5 : Nat) (Option.some Jvm.ClassFile.FieldType.int)) ∈ lw_all := lw_g (lw_at lw_m8 71 rfl) rfl
theorem q1870 : (Jvm.Cond.methodLink "RapTableModel" (189 : Nat) ({ cls := "RapTableModel", name := "leadOf", desc := "(II)I" } : Jvm.MethodName)) ∈ lw_all := lw_g (lw_at lw_m8 72 rfl) rfl
theorem q1871 : (Jvm.Cond.privateMethod ({ cls := "RapTableModel", name := "leadOf", desc := "(II)I" } : Jvm.MethodName)) ∈ lw_tbl := lw_at lw_m8 73 rfl
theorem q1872 : (Jvm.Cond.instanceMethod ({ cls := "RapTableModel", name := "leadOf", desc := "(II)I" } : Jvm.MethodName)) ∈ lw_all := lw_g (lw_at lw_m8 74 rfl) rfl
theorem q1873 : (Jvm.Cond.code ({ cls := "RapTableModel", name := "leadOf", desc := "(II)I" } : Jvm.MethodName) prog_26_method_30_code (6 : Nat) (Option.some Jvm.ClassFile.FieldType.int)) ∈ lw_all := lw_g (lw_at lw_m8 75 rfl) rfl
theorem q1874 : (Jvm.Cond.methodLink "RapTableModel" (173 : Nat) ({ cls := "RapTableModel", name := "ahead", desc := "(II)I" } : Jvm.MethodName)) ∈ lw_all := lw_g (lw_at lw_m8 76 rfl) rfl
theorem q1875 : (Jvm.Cond.privateMethod ({ cls := "RapTableModel", name := "ahead", desc := "(II)I" } : Jvm.MethodName)) ∈ lw_tbl := lw_at lw_m8 77 rfl
theorem q1876 : (Jvm.Cond.instanceMethod ({ cls := "RapTableModel", name := "ahead", desc := "(II)I" } : Jvm.MethodName)) ∈ lw_all := lw_g (lw_at lw_m8 78 rfl) rfl
theorem q1877 : (Jvm.Cond.code ({ cls := "RapTableModel", name := "ahead", desc := "(II)I" } : Jvm.MethodName) prog_26_method_25_code (5 : Nat) (Option.some Jvm.ClassFile.FieldType.int)) ∈ lw_all := lw_g (lw_at lw_m8 79 rfl) rfl
theorem q1878 : (Jvm.Cond.methodLink "RapTableModel" (163 : Nat) ({ cls := "RapTableModel", name := "moveOf", desc := "(II)I" } : Jvm.MethodName)) ∈ lw_all := lw_g (lw_at lw_m8 80 rfl) rfl
theorem q1879 : (Jvm.Cond.privateMethod ({ cls := "RapTableModel", name := "moveOf", desc := "(II)I" } : Jvm.MethodName)) ∈ lw_tbl := lw_at lw_m8 81 rfl
theorem q1880 : (Jvm.Cond.instanceMethod ({ cls := "RapTableModel", name := "moveOf", desc := "(II)I" } : Jvm.MethodName)) ∈ lw_all := lw_g (lw_at lw_m8 82 rfl) rfl
theorem q1881 : (Jvm.Cond.code ({ cls := "RapTableModel", name := "moveOf", desc := "(II)I" } : Jvm.MethodName) prog_26_method_24_code (3 : Nat) (Option.some Jvm.ClassFile.FieldType.int)) ∈ lw_all := lw_g (lw_at lw_m8 83 rfl) rfl
theorem q1882 : (Jvm.Cond.methodLink "RapTableModel" (176 : Nat) ({ cls := "RapTableModel", name := "reaches", desc := "(II)Z" } : Jvm.MethodName)) ∈ lw_all := lw_g (lw_at lw_m8 84 rfl) rfl
theorem q1883 : (Jvm.Cond.privateMethod ({ cls := "RapTableModel", name := "reaches", desc := "(II)Z" } : Jvm.MethodName)) ∈ lw_tbl := lw_at lw_m8 85 rfl
theorem q1884 : (Jvm.Cond.instanceMethod ({ cls := "RapTableModel", name := "reaches", desc := "(II)Z" } : Jvm.MethodName)) ∈ lw_all := lw_g (lw_at lw_m8 86 rfl) rfl
theorem q1885 : (Jvm.Cond.code ({ cls := "RapTableModel", name := "reaches", desc := "(II)Z" } : Jvm.MethodName) prog_26_method_15_code (3 : Nat) (Option.some Jvm.ClassFile.FieldType.boolean)) ∈ lw_all := lw_g (lw_at lw_m8 87 rfl) rfl
theorem q1887 : (Jvm.Cond.instanceMethod ({ cls := "RapTableModel", name := "where", desc := "(II)I" } : Jvm.MethodName)) ∈ lw_all := lw_g (lw_at lw_m8 89 rfl) rfl
theorem q1888 : (Jvm.Cond.selects "RapTableModel" ({ cls := "RapTableModel", name := "where", desc := "(II)I" } : Jvm.MethodName) ({ cls := "RapTableModel", name := "where", desc := "(II)I" } : Jvm.MethodName)) ∈ lw_all := lw_g (lw_at lw_m8 90 rfl) rfl
theorem q1889 : (Jvm.Cond.code ({ cls := "RapTableModel", name := "where", desc := "(II)I" } : Jvm.MethodName) prog_26_method_27_code (3 : Nat) (Option.some Jvm.ClassFile.FieldType.int)) ∈ lw_all := lw_g (lw_at lw_m8 91 rfl) rfl
theorem q1891 : (Jvm.Cond.instanceMethod ({ cls := "RapTableModel", name := "saw", desc := "(II)I" } : Jvm.MethodName)) ∈ lw_all := lw_g (lw_at lw_m8 93 rfl) rfl
theorem q1892 : (Jvm.Cond.selects "RapTableModel" ({ cls := "RapTableModel", name := "saw", desc := "(II)I" } : Jvm.MethodName) ({ cls := "RapTableModel", name := "saw", desc := "(II)I" } : Jvm.MethodName)) ∈ lw_all := lw_g (lw_at lw_m8 94 rfl) rfl
theorem q1893 : (Jvm.Cond.code ({ cls := "RapTableModel", name := "saw", desc := "(II)I" } : Jvm.MethodName) prog_26_method_29_code (3 : Nat) (Option.some Jvm.ClassFile.FieldType.int)) ∈ lw_all := lw_g (lw_at lw_m8 95 rfl) rfl
theorem q1894 : (Jvm.Cond.methodLink "RapTableModel" (182 : Nat) ({ cls := "RapTableModel", name := "sawIt", desc := "(II)Z" } : Jvm.MethodName)) ∈ lw_all := lw_g (lw_at lw_m8 96 rfl) rfl
theorem q1895 : (Jvm.Cond.privateMethod ({ cls := "RapTableModel", name := "sawIt", desc := "(II)Z" } : Jvm.MethodName)) ∈ lw_tbl := lw_at lw_m8 97 rfl
theorem q1896 : (Jvm.Cond.instanceMethod ({ cls := "RapTableModel", name := "sawIt", desc := "(II)Z" } : Jvm.MethodName)) ∈ lw_all := lw_g (lw_at lw_m8 98 rfl) rfl
theorem q1897 : (Jvm.Cond.code ({ cls := "RapTableModel", name := "sawIt", desc := "(II)Z" } : Jvm.MethodName) prog_26_method_28_code (4 : Nat) (Option.some Jvm.ClassFile.FieldType.boolean)) ∈ lw_all := lw_g (lw_at lw_m8 99 rfl) rfl
theorem q1899 : (Jvm.Cond.instanceMethod ({ cls := "RapTableModel", name := "at", desc := "(III)I" } : Jvm.MethodName)) ∈ lw_all := lw_g (lw_at lw_m8 101 rfl) rfl
theorem q1900 : (Jvm.Cond.selects "RapTableModel" ({ cls := "RapTableModel", name := "at", desc := "(III)I" } : Jvm.MethodName) ({ cls := "RapTableModel", name := "at", desc := "(III)I" } : Jvm.MethodName)) ∈ lw_all := lw_g (lw_at lw_m8 102 rfl) rfl
theorem q1901 : (Jvm.Cond.code ({ cls := "RapTableModel", name := "at", desc := "(III)I" } : Jvm.MethodName) prog_26_method_35_code (4 : Nat) (Option.some Jvm.ClassFile.FieldType.int)) ∈ lw_all := lw_g (lw_at lw_m8 103 rfl) rfl
theorem q1902 : (Jvm.Cond.constantLong "RapTableModel" (195 : Nat) (5 : Int64)) ∈ lw_all := lw_g (lw_at lw_m8 104 rfl) rfl
theorem q1904 : (Jvm.Cond.instanceMethod ({ cls := "RapTableModel", name := "vouch", desc := "(IIZ)I" } : Jvm.MethodName)) ∈ lw_all := lw_g (lw_at lw_m8 106 rfl) rfl
theorem q1905 : (Jvm.Cond.selects "RapTableModel" ({ cls := "RapTableModel", name := "vouch", desc := "(IIZ)I" } : Jvm.MethodName) ({ cls := "RapTableModel", name := "vouch", desc := "(IIZ)I" } : Jvm.MethodName)) ∈ lw_all := lw_g (lw_at lw_m8 107 rfl) rfl
theorem q1906 : (Jvm.Cond.code ({ cls := "RapTableModel", name := "vouch", desc := "(IIZ)I" } : Jvm.MethodName) prog_26_method_36_code (4 : Nat) (Option.some Jvm.ClassFile.FieldType.int)) ∈ lw_all := lw_g (lw_at lw_m8 108 rfl) rfl
theorem q1907 : (Jvm.Cond.methodLink "RapTableModel" (197 : Nat) ({ cls := "RapTableModel", name := "sayers", desc := "(II)I" } : Jvm.MethodName)) ∈ lw_all := lw_g (lw_at lw_m8 109 rfl) rfl
theorem q1908 : (Jvm.Cond.privateMethod ({ cls := "RapTableModel", name := "sayers", desc := "(II)I" } : Jvm.MethodName)) ∈ lw_tbl := lw_at lw_m8 110 rfl
theorem q1909 : (Jvm.Cond.instanceMethod ({ cls := "RapTableModel", name := "sayers", desc := "(II)I" } : Jvm.MethodName)) ∈ lw_all := lw_g (lw_at lw_m8 111 rfl) rfl
theorem q1910 : (Jvm.Cond.code ({ cls := "RapTableModel", name := "sayers", desc := "(II)I" } : Jvm.MethodName) prog_26_method_34_code (5 : Nat) (Option.some Jvm.ClassFile.FieldType.int)) ∈ lw_all := lw_g (lw_at lw_m8 112 rfl) rfl
theorem q1912 : (Jvm.Cond.instanceMethod ({ cls := "RapTableModel", name := "gap", desc := "(IZI)I" } : Jvm.MethodName)) ∈ lw_all := lw_g (lw_at lw_m8 114 rfl) rfl
theorem q1913 : (Jvm.Cond.selects "RapTableModel" ({ cls := "RapTableModel", name := "gap", desc := "(IZI)I" } : Jvm.MethodName) ({ cls := "RapTableModel", name := "gap", desc := "(IZI)I" } : Jvm.MethodName)) ∈ lw_all := lw_g (lw_at lw_m8 115 rfl) rfl
theorem q1914 : (Jvm.Cond.code ({ cls := "RapTableModel", name := "gap", desc := "(IZI)I" } : Jvm.MethodName) prog_26_method_37_code (11 : Nat) (Option.some Jvm.ClassFile.FieldType.int)) ∈ lw_all := lw_g (lw_at lw_m8 116 rfl) rfl
theorem q1916 : (Jvm.Cond.instanceMethod ({ cls := "RapTableModel", name := "image", desc := "(I)Z" } : Jvm.MethodName)) ∈ lw_all := lw_g (lw_at lw_m8 118 rfl) rfl
theorem q1917 : (Jvm.Cond.selects "RapTableModel" ({ cls := "RapTableModel", name := "image", desc := "(I)Z" } : Jvm.MethodName) ({ cls := "RapTableModel", name := "image", desc := "(I)Z" } : Jvm.MethodName)) ∈ lw_all := lw_g (lw_at lw_m8 119 rfl) rfl
theorem q1918 : (Jvm.Cond.code ({ cls := "RapTableModel", name := "image", desc := "(I)Z" } : Jvm.MethodName) prog_26_method_38_code (3 : Nat) (Option.some Jvm.ClassFile.FieldType.boolean)) ∈ lw_all := lw_g (lw_at lw_m8 120 rfl) rfl
theorem q1919 : (Jvm.Cond.constantLong "RapTableModel" (200 : Nat) (2 : Int64)) ∈ lw_all := lw_g (lw_at lw_m8 121 rfl) rfl
theorem q1921 : (Jvm.Cond.instanceMethod ({ cls := "RapTableModel", name := "restore", desc := "(I)Z" } : Jvm.MethodName)) ∈ lw_all := lw_g (lw_at lw_m8 123 rfl) rfl
theorem q1922 : (Jvm.Cond.selects "RapTableModel" ({ cls := "RapTableModel", name := "restore", desc := "(I)Z" } : Jvm.MethodName) ({ cls := "RapTableModel", name := "restore", desc := "(I)Z" } : Jvm.MethodName)) ∈ lw_all := lw_g (lw_at lw_m8 124 rfl) rfl
theorem q1923 : (Jvm.Cond.code ({ cls := "RapTableModel", name := "restore", desc := "(I)Z" } : Jvm.MethodName) prog_26_method_39_code (3 : Nat) (Option.some Jvm.ClassFile.FieldType.boolean)) ∈ lw_all := lw_g (lw_at lw_m8 125 rfl) rfl
theorem q1925 : (Jvm.Cond.instanceMethod ({ cls := "RapTableModel", name := "feed", desc := "(IIIII)I" } : Jvm.MethodName)) ∈ lw_all := lw_g (lw_at lw_m8 127 rfl) rfl
theorem q1926 : (Jvm.Cond.selects "RapTableModel" ({ cls := "RapTableModel", name := "feed", desc := "(IIIII)I" } : Jvm.MethodName) ({ cls := "RapTableModel", name := "feed", desc := "(IIIII)I" } : Jvm.MethodName)) ∈ lw_all := lw_g (lw_at lw_m8 128 rfl) rfl
theorem q1927 : (Jvm.Cond.code ({ cls := "RapTableModel", name := "feed", desc := "(IIIII)I" } : Jvm.MethodName) prog_26_method_40_code (8 : Nat) (Option.some Jvm.ClassFile.FieldType.int)) ∈ lw_all := lw_g (lw_at lw_m8 129 rfl) rfl
theorem q1929 : (Jvm.Cond.instanceMethod ({ cls := "RapTableModel", name := "text", desc := "(I)I" } : Jvm.MethodName)) ∈ lw_all := lw_g (lw_at lw_m8 131 rfl) rfl
theorem q1930 : (Jvm.Cond.selects "RapTableModel" ({ cls := "RapTableModel", name := "text", desc := "(I)I" } : Jvm.MethodName) ({ cls := "RapTableModel", name := "text", desc := "(I)I" } : Jvm.MethodName)) ∈ lw_all := lw_g (lw_at lw_m8 132 rfl) rfl
theorem q1931 : (Jvm.Cond.code ({ cls := "RapTableModel", name := "text", desc := "(I)I" } : Jvm.MethodName) prog_26_method_53_code (3 : Nat) (Option.some Jvm.ClassFile.FieldType.int)) ∈ lw_all := lw_g (lw_at lw_m8 133 rfl) rfl
theorem q1932 : (Jvm.Cond.methodLink "RapTableModel" (261 : Nat) ({ cls := "RapTableModel", name := "next", desc := "()V" } : Jvm.MethodName)) ∈ lw_all := lw_g (lw_at lw_m8 134 rfl) rfl
theorem q1933 : (Jvm.Cond.privateMethod ({ cls := "RapTableModel", name := "next", desc := "()V" } : Jvm.MethodName)) ∈ lw_tbl := lw_at lw_m8 135 rfl
theorem q1934 : (Jvm.Cond.instanceMethod ({ cls := "RapTableModel", name := "next", desc := "()V" } : Jvm.MethodName)) ∈ lw_all := lw_g (lw_at lw_m8 136 rfl) rfl
theorem q1935 : (Jvm.Cond.code ({ cls := "RapTableModel", name := "next", desc := "()V" } : Jvm.MethodName) prog_26_method_45_code (1 : Nat) (Option.none : Option Jvm.ClassFile.FieldType)) ∈ lw_all := lw_g (lw_at lw_m8 137 rfl) rfl
theorem q1936 : (Jvm.Cond.methodLink "RapTableModel" (226 : Nat) ({ cls := "RapTableModel", name := "see", desc := "(I)I" } : Jvm.MethodName)) ∈ lw_all := lw_g (lw_at lw_m8 138 rfl) rfl
theorem q1937 : (Jvm.Cond.privateMethod ({ cls := "RapTableModel", name := "see", desc := "(I)I" } : Jvm.MethodName)) ∈ lw_tbl := lw_at lw_m8 139 rfl
theorem q1938 : (Jvm.Cond.instanceMethod ({ cls := "RapTableModel", name := "see", desc := "(I)I" } : Jvm.MethodName)) ∈ lw_all := lw_g (lw_at lw_m8 140 rfl) rfl
theorem q1939 : (Jvm.Cond.code ({ cls := "RapTableModel", name := "see", desc := "(I)I" } : Jvm.MethodName) prog_26_method_41_code (2 : Nat) (Option.some Jvm.ClassFile.FieldType.int)) ∈ lw_all := lw_g (lw_at lw_m8 141 rfl) rfl
theorem q1940 : (Jvm.Cond.methodLink "RapTableModel" (232 : Nat) ({ cls := "RapTableModel", name := "isSmall", desc := "(I)Z" } : Jvm.MethodName)) ∈ lw_all := lw_g (lw_at lw_m8 142 rfl) rfl
theorem q1941 : (Jvm.Cond.static ({ cls := "RapTableModel", name := "isSmall", desc := "(I)Z" } : Jvm.MethodName)) ∈ lw_all := lw_g (lw_at lw_m8 143 rfl) rfl
theorem q1942 : (Jvm.Cond.code ({ cls := "RapTableModel", name := "isSmall", desc := "(I)Z" } : Jvm.MethodName) prog_26_method_42_code (1 : Nat) (Option.some Jvm.ClassFile.FieldType.boolean)) ∈ lw_all := lw_g (lw_at lw_m8 144 rfl) rfl
theorem q1943 : (Jvm.Cond.constantLong "RapTableModel" (239 : Nat) (27 : Int64)) ∈ lw_all := lw_g (lw_at lw_m8 145 rfl) rfl
theorem q1944 : (Jvm.Cond.constantLong "RapTableModel" (241 : Nat) (97 : Int64)) ∈ lw_all := lw_g (lw_at lw_m8 146 rfl) rfl
theorem q1945 : (Jvm.Cond.methodLink "RapTableModel" (243 : Nat) ({ cls := "RapTableModel", name := "keyAt", desc := "()I" } : Jvm.MethodName)) ∈ lw_all := lw_g (lw_at lw_m8 147 rfl) rfl
theorem q1946 : (Jvm.Cond.privateMethod ({ cls := "RapTableModel", name := "keyAt", desc := "()I" } : Jvm.MethodName)) ∈ lw_tbl := lw_at lw_m8 148 rfl
theorem q1947 : (Jvm.Cond.instanceMethod ({ cls := "RapTableModel", name := "keyAt", desc := "()I" } : Jvm.MethodName)) ∈ lw_all := lw_g (lw_at lw_m8 149 rfl) rfl
theorem q1948 : (Jvm.Cond.code ({ cls := "RapTableModel", name := "keyAt", desc := "()I" } : Jvm.MethodName) prog_26_method_44_code (4 : Nat) (Option.some Jvm.ClassFile.FieldType.int)) ∈ lw_all := lw_g (lw_at lw_m8 150 rfl) rfl
theorem q1949 : (Jvm.Cond.stringRef "RapTableModel" (208 : Nat) " free move wait dark away swap call ready way memory left right ") ∈ lw_tbl := lw_at lw_m8 151 rfl
theorem q1950 : (Jvm.Cond.methodLink "RapTableModel" (210 : Nat) ({ cls := "java/lang/String", name := "length", desc := "()I" } : Jvm.MethodName)) ∈ lw_all := lw_g (lw_at lw_m8 152 rfl) rfl
theorem q1951 : (Jvm.Cond.methodLink "RapTableModel" (216 : Nat) ({ cls := "java/lang/String", name := "charAt", desc := "(I)C" } : Jvm.MethodName)) ∈ lw_all := lw_g (lw_at lw_m8 153 rfl) rfl
theorem q1952 : (Jvm.Cond.methodLink "RapTableModel" (246 : Nat) ({ cls := "RapTableModel", name := "isDigit", desc := "(I)Z" } : Jvm.MethodName)) ∈ lw_all := lw_g (lw_at lw_m8 154 rfl) rfl
theorem q1953 : (Jvm.Cond.static ({ cls := "RapTableModel", name := "isDigit", desc := "(I)Z" } : Jvm.MethodName)) ∈ lw_all := lw_g (lw_at lw_m8 155 rfl) rfl
theorem q1954 : (Jvm.Cond.code ({ cls := "RapTableModel", name := "isDigit", desc := "(I)Z" } : Jvm.MethodName) prog_26_method_43_code (1 : Nat) (Option.some Jvm.ClassFile.FieldType.boolean)) ∈ lw_all := lw_g (lw_at lw_m8 156 rfl) rfl
theorem q1955 : (Jvm.Cond.methodLink "RapTableModel" (258 : Nat) ({ cls := "RapTableModel", name := "is", desc := "(I)Z" } : Jvm.MethodName)) ∈ lw_all := lw_g (lw_at lw_m8 157 rfl) rfl
theorem q1956 : (Jvm.Cond.privateMethod ({ cls := "RapTableModel", name := "is", desc := "(I)Z" } : Jvm.MethodName)) ∈ lw_tbl := lw_at lw_m8 158 rfl
theorem q1957 : (Jvm.Cond.instanceMethod ({ cls := "RapTableModel", name := "is", desc := "(I)Z" } : Jvm.MethodName)) ∈ lw_all := lw_g (lw_at lw_m8 159 rfl) rfl
theorem q1958 : (Jvm.Cond.code ({ cls := "RapTableModel", name := "is", desc := "(I)Z" } : Jvm.MethodName) prog_26_method_47_code (2 : Nat) (Option.some Jvm.ClassFile.FieldType.boolean)) ∈ lw_all := lw_g (lw_at lw_m8 160 rfl) rfl
theorem q1959 : (Jvm.Cond.methodLink "RapTableModel" (291 : Nat) ({ cls := "RapTableModel", name := "readsWay", desc := "()V" } : Jvm.MethodName)) ∈ lw_all := lw_g (lw_at lw_m8 161 rfl) rfl
theorem q1960 : (Jvm.Cond.privateMethod ({ cls := "RapTableModel", name := "readsWay", desc := "()V" } : Jvm.MethodName)) ∈ lw_tbl := lw_at lw_m8 162 rfl
theorem q1961 : (Jvm.Cond.instanceMethod ({ cls := "RapTableModel", name := "readsWay", desc := "()V" } : Jvm.MethodName)) ∈ lw_all := lw_g (lw_at lw_m8 163 rfl) rfl
theorem q1962 : (Jvm.Cond.code ({ cls := "RapTableModel", name := "readsWay", desc := "()V" } : Jvm.MethodName) prog_26_method_52_code (2 : Nat) (Option.none : Option Jvm.ClassFile.FieldType)) ∈ lw_all := lw_g (lw_at lw_m8 164 rfl) rfl
theorem q1963 : (Jvm.Cond.methodLink "RapTableModel" (264 : Nat) ({ cls := "RapTableModel", name := "fails", desc := "(I)V" } : Jvm.MethodName)) ∈ lw_all := lw_g (lw_at lw_m8 165 rfl) rfl
theorem q1964 : (Jvm.Cond.privateMethod ({ cls := "RapTableModel", name := "fails", desc := "(I)V" } : Jvm.MethodName)) ∈ lw_tbl := lw_at lw_m8 166 rfl
theorem q1965 : (Jvm.Cond.instanceMethod ({ cls := "RapTableModel", name := "fails", desc := "(I)V" } : Jvm.MethodName)) ∈ lw_all := lw_g (lw_at lw_m8 167 rfl) rfl
theorem q1966 : (Jvm.Cond.code ({ cls := "RapTableModel", name := "fails", desc := "(I)V" } : Jvm.MethodName) prog_26_method_46_code (2 : Nat) (Option.none : Option Jvm.ClassFile.FieldType)) ∈ lw_all := lw_g (lw_at lw_m8 168 rfl) rfl
theorem q1967 : (Jvm.Cond.constantLong "RapTableModel" (276 : Nat) (7 : Int64)) ∈ lw_all := lw_g (lw_at lw_m8 169 rfl) rfl
theorem q1968 : (Jvm.Cond.methodLink "RapTableModel" (278 : Nat) ({ cls := "RapTableModel", name := "readsStep", desc := "(II)V" } : Jvm.MethodName)) ∈ lw_all := lw_g (lw_at lw_m8 170 rfl) rfl
theorem q1969 : (Jvm.Cond.privateMethod ({ cls := "RapTableModel", name := "readsStep", desc := "(II)V" } : Jvm.MethodName)) ∈ lw_tbl := lw_at lw_m8 171 rfl
theorem q1970 : (Jvm.Cond.instanceMethod ({ cls := "RapTableModel", name := "readsStep", desc := "(II)V" } : Jvm.MethodName)) ∈ lw_all := lw_g (lw_at lw_m8 172 rfl) rfl
theorem q1971 : (Jvm.Cond.code ({ cls := "RapTableModel", name := "readsStep", desc := "(II)V" } : Jvm.MethodName) prog_26_method_51_code (5 : Nat) (Option.none : Option Jvm.ClassFile.FieldType)) ∈ lw_all := lw_g (lw_at lw_m8 173 rfl) rfl
theorem q1972 : (Jvm.Cond.methodLink "RapTableModel" (267 : Nat) ({ cls := "RapTableModel", name := "readsSide", desc := "()I" } : Jvm.MethodName)) ∈ lw_all := lw_g (lw_at lw_m8 174 rfl) rfl
theorem q1973 : (Jvm.Cond.privateMethod ({ cls := "RapTableModel", name := "readsSide", desc := "()I" } : Jvm.MethodName)) ∈ lw_tbl := lw_at lw_m8 175 rfl
theorem q1974 : (Jvm.Cond.instanceMethod ({ cls := "RapTableModel", name := "readsSide", desc := "()I" } : Jvm.MethodName)) ∈ lw_all := lw_g (lw_at lw_m8 176 rfl) rfl
theorem q1975 : (Jvm.Cond.code ({ cls := "RapTableModel", name := "readsSide", desc := "()I" } : Jvm.MethodName) prog_26_method_50_code (2 : Nat) (Option.some Jvm.ClassFile.FieldType.int)) ∈ lw_all := lw_g (lw_at lw_m8 177 rfl) rfl
theorem q1976 : (Jvm.Cond.methodLink "RapTableModel" (270 : Nat) ({ cls := "RapTableModel", name := "reads", desc := "(II)I" } : Jvm.MethodName)) ∈ lw_all := lw_g (lw_at lw_m8 178 rfl) rfl
theorem q1977 : (Jvm.Cond.privateMethod ({ cls := "RapTableModel", name := "reads", desc := "(II)I" } : Jvm.MethodName)) ∈ lw_tbl := lw_at lw_m8 179 rfl
theorem q1978 : (Jvm.Cond.instanceMethod ({ cls := "RapTableModel", name := "reads", desc := "(II)I" } : Jvm.MethodName)) ∈ lw_all := lw_g (lw_at lw_m8 180 rfl) rfl
theorem q1979 : (Jvm.Cond.code ({ cls := "RapTableModel", name := "reads", desc := "(II)I" } : Jvm.MethodName) prog_26_method_49_code (4 : Nat) (Option.some Jvm.ClassFile.FieldType.int)) ∈ lw_all := lw_g (lw_at lw_m8 181 rfl) rfl
theorem q1980 : (Jvm.Cond.methodLink "RapTableModel" (282 : Nat) ({ cls := "RapTableModel", name := "needs", desc := "(I)V" } : Jvm.MethodName)) ∈ lw_all := lw_g (lw_at lw_m8 182 rfl) rfl
theorem q1981 : (Jvm.Cond.privateMethod ({ cls := "RapTableModel", name := "needs", desc := "(I)V" } : Jvm.MethodName)) ∈ lw_tbl := lw_at lw_m8 183 rfl
theorem q1982 : (Jvm.Cond.instanceMethod ({ cls := "RapTableModel", name := "needs", desc := "(I)V" } : Jvm.MethodName)) ∈ lw_all := lw_g (lw_at lw_m8 184 rfl) rfl
theorem q1983 : (Jvm.Cond.code ({ cls := "RapTableModel", name := "needs", desc := "(I)V" } : Jvm.MethodName) prog_26_method_48_code (2 : Nat) (Option.none : Option Jvm.ClassFile.FieldType)) ∈ lw_all := lw_g (lw_at lw_m8 185 rfl) rfl
theorem q1985 : (Jvm.Cond.instanceMethod ({ cls := "RapTableModel", name := "fault", desc := "(I)I" } : Jvm.MethodName)) ∈ lw_all := lw_g (lw_at lw_m8 187 rfl) rfl
theorem q1986 : (Jvm.Cond.selects "RapTableModel" ({ cls := "RapTableModel", name := "fault", desc := "(I)I" } : Jvm.MethodName) ({ cls := "RapTableModel", name := "fault", desc := "(I)I" } : Jvm.MethodName)) ∈ lw_all := lw_g (lw_at lw_m8 188 rfl) rfl
theorem q1987 : (Jvm.Cond.code ({ cls := "RapTableModel", name := "fault", desc := "(I)I" } : Jvm.MethodName) prog_26_method_54_code (2 : Nat) (Option.some Jvm.ClassFile.FieldType.int)) ∈ lw_all := lw_g (lw_at lw_m8 189 rfl) rfl
theorem q1989 : (Jvm.Cond.instanceMethod ({ cls := "RapTableModel", name := "way", desc := "(II)I" } : Jvm.MethodName)) ∈ lw_all := lw_g (lw_at lw_m8 191 rfl) rfl
theorem q1990 : (Jvm.Cond.selects "RapTableModel" ({ cls := "RapTableModel", name := "way", desc := "(II)I" } : Jvm.MethodName) ({ cls := "RapTableModel", name := "way", desc := "(II)I" } : Jvm.MethodName)) ∈ lw_all := lw_g (lw_at lw_m8 192 rfl) rfl
theorem q1991 : (Jvm.Cond.code ({ cls := "RapTableModel", name := "way", desc := "(II)I" } : Jvm.MethodName) prog_26_method_56_code (3 : Nat) (Option.some Jvm.ClassFile.FieldType.int)) ∈ lw_all := lw_g (lw_at lw_m8 193 rfl) rfl
theorem q1992 : (Jvm.Cond.methodLink "RapTableModel" (306 : Nat) ({ cls := "RapTableModel", name := "takes", desc := "(I)I" } : Jvm.MethodName)) ∈ lw_all := lw_g (lw_at lw_m8 194 rfl) rfl
theorem q1993 : (Jvm.Cond.privateMethod ({ cls := "RapTableModel", name := "takes", desc := "(I)I" } : Jvm.MethodName)) ∈ lw_tbl := lw_at lw_m8 195 rfl
theorem q1994 : (Jvm.Cond.instanceMethod ({ cls := "RapTableModel", name := "takes", desc := "(I)I" } : Jvm.MethodName)) ∈ lw_all := lw_g (lw_at lw_m8 196 rfl) rfl
theorem q1995 : (Jvm.Cond.code ({ cls := "RapTableModel", name := "takes", desc := "(I)I" } : Jvm.MethodName) prog_26_method_55_code (4 : Nat) (Option.some Jvm.ClassFile.FieldType.int)) ∈ lw_all := lw_g (lw_at lw_m8 197 rfl) rfl
theorem q1997 : (Jvm.Cond.instanceMethod ({ cls := "RapTableModel", name := "fits", desc := "(IIIIIII)I" } : Jvm.MethodName)) ∈ lw_all := lw_g (lw_at lw_m8 199 rfl) rfl
theorem q1998 : (Jvm.Cond.selects "RapTableModel" ({ cls := "RapTableModel", name := "fits", desc := "(IIIIIII)I" } : Jvm.MethodName) ({ cls := "RapTableModel", name := "fits", desc := "(IIIIIII)I" } : Jvm.MethodName)) ∈ lw_all := lw_g (lw_at lw_m8 200 rfl) rfl
theorem q1999 : (Jvm.Cond.code ({ cls := "RapTableModel", name := "fits", desc := "(IIIIIII)I" } : Jvm.MethodName) prog_26_method_66_code (8 : Nat) (Option.some Jvm.ClassFile.FieldType.int)) ∈ lw_all := lw_g (lw_at lw_m8 201 rfl) rfl
theorem q2000 : (Jvm.Cond.methodLink "RapTableModel" (351 : Nat) ({ cls := "RapTableModel", name := "isTask", desc := "(IIII)Z" } : Jvm.MethodName)) ∈ lw_all := lw_g (lw_at lw_m8 202 rfl) rfl
theorem q2001 : (Jvm.Cond.privateMethod ({ cls := "RapTableModel", name := "isTask", desc := "(IIII)Z" } : Jvm.MethodName)) ∈ lw_tbl := lw_at lw_m8 203 rfl
theorem q2002 : (Jvm.Cond.instanceMethod ({ cls := "RapTableModel", name := "isTask", desc := "(IIII)Z" } : Jvm.MethodName)) ∈ lw_all := lw_g (lw_at lw_m8 204 rfl) rfl
theorem q2003 : (Jvm.Cond.code ({ cls := "RapTableModel", name := "isTask", desc := "(IIII)Z" } : Jvm.MethodName) prog_26_method_65_code (5 : Nat) (Option.some Jvm.ClassFile.FieldType.boolean)) ∈ lw_all := lw_g (lw_at lw_m8 205 rfl) rfl
theorem q2004 : (Jvm.Cond.methodLink "RapTableModel" (354 : Nat) ({ cls := "RapTableModel", name := "fitsAt", desc := "(IIIIIII)I" } : Jvm.MethodName)) ∈ lw_all := lw_g (lw_at lw_m8 206 rfl) rfl
theorem q2005 : (Jvm.Cond.privateMethod ({ cls := "RapTableModel", name := "fitsAt", desc := "(IIIIIII)I" } : Jvm.MethodName)) ∈ lw_tbl := lw_at lw_m8 207 rfl
theorem q2006 : (Jvm.Cond.instanceMethod ({ cls := "RapTableModel", name := "fitsAt", desc := "(IIIIIII)I" } : Jvm.MethodName)) ∈ lw_all := lw_g (lw_at lw_m8 208 rfl) rfl
theorem q2007 : (Jvm.Cond.code ({ cls := "RapTableModel", name := "fitsAt", desc := "(IIIIIII)I" } : Jvm.MethodName) prog_26_method_64_code (9 : Nat) (Option.some Jvm.ClassFile.FieldType.int)) ∈ lw_all := lw_g (lw_at lw_m8 209 rfl) rfl
theorem q2008 : (Jvm.Cond.methodLink "RapTableModel" (347 : Nat) ({ cls := "RapTableModel", name := "runs", desc := "(IIIIIII)Z" } : Jvm.MethodName)) ∈ lw_all := lw_g (lw_at lw_m8 210 rfl) rfl
theorem q2009 : (Jvm.Cond.privateMethod ({ cls := "RapTableModel", name := "runs", desc := "(IIIIIII)Z" } : Jvm.MethodName)) ∈ lw_tbl := lw_at lw_m8 211 rfl
theorem q2010 : (Jvm.Cond.instanceMethod ({ cls := "RapTableModel", name := "runs", desc := "(IIIIIII)Z" } : Jvm.MethodName)) ∈ lw_all := lw_g (lw_at lw_m8 212 rfl) rfl
theorem q2011 : (Jvm.Cond.code ({ cls := "RapTableModel", name := "runs", desc := "(IIIIIII)Z" } : Jvm.MethodName) prog_26_method_63_code (13 : Nat) (Option.some Jvm.ClassFile.FieldType.boolean)) ∈ lw_all := lw_g (lw_at lw_m8 213 rfl) rfl
theorem q2012 : (Jvm.Cond.methodLink "RapTableModel" (340 : Nat) ({ cls := "RapTableModel", name := "goesUnseen", desc := "(II)Z" } : Jvm.MethodName)) ∈ lw_all := lw_g (lw_at lw_m8 214 rfl) rfl
theorem q2013 : (Jvm.Cond.privateMethod ({ cls := "RapTableModel", name := "goesUnseen", desc := "(II)Z" } : Jvm.MethodName)) ∈ lw_tbl := lw_at lw_m8 215 rfl
theorem q2014 : (Jvm.Cond.instanceMethod ({ cls := "RapTableModel", name := "goesUnseen", desc := "(II)Z" } : Jvm.MethodName)) ∈ lw_all := lw_g (lw_at lw_m8 216 rfl) rfl
theorem q2015 : (Jvm.Cond.code ({ cls := "RapTableModel", name := "goesUnseen", desc := "(II)Z" } : Jvm.MethodName) prog_26_method_60_code (4 : Nat) (Option.some Jvm.ClassFile.FieldType.boolean)) ∈ lw_all := lw_g (lw_at lw_m8 217 rfl) rfl
theorem q2016 : (Jvm.Cond.methodLink "RapTableModel" (324 : Nat) ({ cls := "RapTableModel", name := "seers", desc := "(II)I" } : Jvm.MethodName)) ∈ lw_all := lw_g (lw_at lw_m8 218 rfl) rfl
theorem q2017 : (Jvm.Cond.privateMethod ({ cls := "RapTableModel", name := "seers", desc := "(II)I" } : Jvm.MethodName)) ∈ lw_tbl := lw_at lw_m8 219 rfl
theorem q2018 : (Jvm.Cond.instanceMethod ({ cls := "RapTableModel", name := "seers", desc := "(II)I" } : Jvm.MethodName)) ∈ lw_all := lw_g (lw_at lw_m8 220 rfl) rfl
theorem q2019 : (Jvm.Cond.code ({ cls := "RapTableModel", name := "seers", desc := "(II)I" } : Jvm.MethodName) prog_26_method_58_code (6 : Nat) (Option.some Jvm.ClassFile.FieldType.int)) ∈ lw_all := lw_g (lw_at lw_m8 221 rfl) rfl
theorem q2020 : (Jvm.Cond.methodLink "RapTableModel" (315 : Nat) ({ cls := "RapTableModel", name := "ledBy", desc := "(I)I" } : Jvm.MethodName)) ∈ lw_all := lw_g (lw_at lw_m8 222 rfl) rfl
theorem q2021 : (Jvm.Cond.privateMethod ({ cls := "RapTableModel", name := "ledBy", desc := "(I)I" } : Jvm.MethodName)) ∈ lw_tbl := lw_at lw_m8 223 rfl
theorem q2022 : (Jvm.Cond.instanceMethod ({ cls := "RapTableModel", name := "ledBy", desc := "(I)I" } : Jvm.MethodName)) ∈ lw_all := lw_g (lw_at lw_m8 224 rfl) rfl
theorem q2023 : (Jvm.Cond.code ({ cls := "RapTableModel", name := "ledBy", desc := "(I)I" } : Jvm.MethodName) prog_26_method_57_code (4 : Nat) (Option.some Jvm.ClassFile.FieldType.int)) ∈ lw_all := lw_g (lw_at lw_m8 225 rfl) rfl
theorem q2024 : (Jvm.Cond.methodLink "RapTableModel" (343 : Nat) ({ cls := "RapTableModel", name := "can", desc := "(IIII)Z" } : Jvm.MethodName)) ∈ lw_all := lw_g (lw_at lw_m8 226 rfl) rfl
theorem q2025 : (Jvm.Cond.privateMethod ({ cls := "RapTableModel", name := "can", desc := "(IIII)Z" } : Jvm.MethodName)) ∈ lw_tbl := lw_at lw_m8 227 rfl
theorem q2026 : (Jvm.Cond.instanceMethod ({ cls := "RapTableModel", name := "can", desc := "(IIII)Z" } : Jvm.MethodName)) ∈ lw_all := lw_g (lw_at lw_m8 228 rfl) rfl
theorem q2027 : (Jvm.Cond.code ({ cls := "RapTableModel", name := "can", desc := "(IIII)Z" } : Jvm.MethodName) prog_26_method_62_code (8 : Nat) (Option.some Jvm.ClassFile.FieldType.boolean)) ∈ lw_all := lw_g (lw_at lw_m8 229 rfl) rfl
theorem q2028 : (Jvm.Cond.methodLink "RapTableModel" (333 : Nat) ({ cls := "RapTableModel", name := "wasReady", desc := "(III)Z" } : Jvm.MethodName)) ∈ lw_all := lw_g (lw_at lw_m8 230 rfl) rfl
theorem q2029 : (Jvm.Cond.privateMethod ({ cls := "RapTableModel", name := "wasReady", desc := "(III)Z" } : Jvm.MethodName)) ∈ lw_tbl := lw_at lw_m8 231 rfl
theorem q2030 : (Jvm.Cond.instanceMethod ({ cls := "RapTableModel", name := "wasReady", desc := "(III)Z" } : Jvm.MethodName)) ∈ lw_all := lw_g (lw_at lw_m8 232 rfl) rfl
theorem q2031 : (Jvm.Cond.code ({ cls := "RapTableModel", name := "wasReady", desc := "(III)Z" } : Jvm.MethodName) prog_26_method_61_code (5 : Nat) (Option.some Jvm.ClassFile.FieldType.boolean)) ∈ lw_all := lw_g (lw_at lw_m8 233 rfl) rfl
theorem q2032 : (Jvm.Cond.methodLink "RapTableModel" (337 : Nat) ({ cls := "RapTableModel", name := "isFreeNow", desc := "(II)Z" } : Jvm.MethodName)) ∈ lw_all := lw_g (lw_at lw_m8 234 rfl) rfl
theorem q2033 : (Jvm.Cond.privateMethod ({ cls := "RapTableModel", name := "isFreeNow", desc := "(II)Z" } : Jvm.MethodName)) ∈ lw_tbl := lw_at lw_m8 235 rfl
theorem q2034 : (Jvm.Cond.instanceMethod ({ cls := "RapTableModel", name := "isFreeNow", desc := "(II)Z" } : Jvm.MethodName)) ∈ lw_all := lw_g (lw_at lw_m8 236 rfl) rfl
theorem q2035 : (Jvm.Cond.code ({ cls := "RapTableModel", name := "isFreeNow", desc := "(II)Z" } : Jvm.MethodName) prog_26_method_59_code (4 : Nat) (Option.some Jvm.ClassFile.FieldType.boolean)) ∈ lw_all := lw_g (lw_at lw_m8 237 rfl) rfl
theorem q2037 : (Jvm.Cond.instanceMethod ({ cls := "RapTableModel", name := "report", desc := "(IIIIIII)I" } : Jvm.MethodName)) ∈ lw_all := lw_g (lw_at lw_m8 239 rfl) rfl
theorem q2038 : (Jvm.Cond.selects "RapTableModel" ({ cls := "RapTableModel", name := "report", desc := "(IIIIIII)I" } : Jvm.MethodName) ({ cls := "RapTableModel", name := "report", desc := "(IIIIIII)I" } : Jvm.MethodName)) ∈ lw_all := lw_g (lw_at lw_m9 0 rfl) rfl
theorem q2039 : (Jvm.Cond.code ({ cls := "RapTableModel", name := "report", desc := "(IIIIIII)I" } : Jvm.MethodName) prog_26_method_68_code (9 : Nat) (Option.some Jvm.ClassFile.FieldType.int)) ∈ lw_all := lw_g (lw_at lw_m9 1 rfl) rfl
theorem q2040 : (Jvm.Cond.constantLong "RapTableModel" (358 : Nat) (30 : Int64)) ∈ lw_all := lw_g (lw_at lw_m9 2 rfl) rfl
theorem q2042 : (Jvm.Cond.instanceMethod ({ cls := "RapTableModel", name := "right", desc := "(I)I" } : Jvm.MethodName)) ∈ lw_all := lw_g (lw_at lw_m9 4 rfl) rfl
theorem q2043 : (Jvm.Cond.selects "RapTableModel" ({ cls := "RapTableModel", name := "right", desc := "(I)I" } : Jvm.MethodName) ({ cls := "RapTableModel", name := "right", desc := "(I)I" } : Jvm.MethodName)) ∈ lw_all := lw_g (lw_at lw_m9 5 rfl) rfl
theorem q2044 : (Jvm.Cond.code ({ cls := "RapTableModel", name := "right", desc := "(I)I" } : Jvm.MethodName) prog_26_method_74_code (2 : Nat) (Option.some Jvm.ClassFile.FieldType.int)) ∈ lw_all := lw_g (lw_at lw_m9 6 rfl) rfl
theorem q2045 : (Jvm.Cond.methodLink "RapTableModel" (360 : Nat) ({ cls := "RapTableModel", name := "isReport", desc := "(I)Z" } : Jvm.MethodName)) ∈ lw_all := lw_g (lw_at lw_m9 7 rfl) rfl
theorem q2046 : (Jvm.Cond.privateMethod ({ cls := "RapTableModel", name := "isReport", desc := "(I)Z" } : Jvm.MethodName)) ∈ lw_tbl := lw_at lw_m9 8 rfl
theorem q2047 : (Jvm.Cond.instanceMethod ({ cls := "RapTableModel", name := "isReport", desc := "(I)Z" } : Jvm.MethodName)) ∈ lw_all := lw_g (lw_at lw_m9 9 rfl) rfl
theorem q2048 : (Jvm.Cond.code ({ cls := "RapTableModel", name := "isReport", desc := "(I)Z" } : Jvm.MethodName) prog_26_method_69_code (2 : Nat) (Option.some Jvm.ClassFile.FieldType.boolean)) ∈ lw_all := lw_g (lw_at lw_m9 10 rfl) rfl
theorem q2049 : (Jvm.Cond.methodLink "RapTableModel" (372 : Nat) ({ cls := "RapTableModel", name := "isRight", desc := "(I)Z" } : Jvm.MethodName)) ∈ lw_all := lw_g (lw_at lw_m9 11 rfl) rfl
theorem q2050 : (Jvm.Cond.privateMethod ({ cls := "RapTableModel", name := "isRight", desc := "(I)Z" } : Jvm.MethodName)) ∈ lw_tbl := lw_at lw_m9 12 rfl
theorem q2051 : (Jvm.Cond.instanceMethod ({ cls := "RapTableModel", name := "isRight", desc := "(I)Z" } : Jvm.MethodName)) ∈ lw_all := lw_g (lw_at lw_m9 13 rfl) rfl
theorem q2052 : (Jvm.Cond.code ({ cls := "RapTableModel", name := "isRight", desc := "(I)Z" } : Jvm.MethodName) prog_26_method_73_code (3 : Nat) (Option.some Jvm.ClassFile.FieldType.boolean)) ∈ lw_all := lw_g (lw_at lw_m9 14 rfl) rfl
theorem q2053 : (Jvm.Cond.methodLink "RapTableModel" (363 : Nat) ({ cls := "RapTableModel", name := "tellsOf", desc := "(II)I" } : Jvm.MethodName)) ∈ lw_all := lw_g (lw_at lw_m9 15 rfl) rfl
theorem q2054 : (Jvm.Cond.privateMethod ({ cls := "RapTableModel", name := "tellsOf", desc := "(II)I" } : Jvm.MethodName)) ∈ lw_tbl := lw_at lw_m9 16 rfl
theorem q2055 : (Jvm.Cond.instanceMethod ({ cls := "RapTableModel", name := "tellsOf", desc := "(II)I" } : Jvm.MethodName)) ∈ lw_all := lw_g (lw_at lw_m9 17 rfl) rfl
theorem q2056 : (Jvm.Cond.code ({ cls := "RapTableModel", name := "tellsOf", desc := "(II)I" } : Jvm.MethodName) prog_26_method_67_code (3 : Nat) (Option.some Jvm.ClassFile.FieldType.int)) ∈ lw_all := lw_g (lw_at lw_m9 18 rfl) rfl
theorem q2057 : (Jvm.Cond.methodLink "RapTableModel" (366 : Nat) ({ cls := "RapTableModel", name := "isSuch", desc := "(III)Z" } : Jvm.MethodName)) ∈ lw_all := lw_g (lw_at lw_m9 19 rfl) rfl
theorem q2058 : (Jvm.Cond.privateMethod ({ cls := "RapTableModel", name := "isSuch", desc := "(III)Z" } : Jvm.MethodName)) ∈ lw_tbl := lw_at lw_m9 20 rfl
theorem q2059 : (Jvm.Cond.instanceMethod ({ cls := "RapTableModel", name := "isSuch", desc := "(III)Z" } : Jvm.MethodName)) ∈ lw_all := lw_g (lw_at lw_m9 21 rfl) rfl
theorem q2060 : (Jvm.Cond.code ({ cls := "RapTableModel", name := "isSuch", desc := "(III)Z" } : Jvm.MethodName) prog_26_method_72_code (4 : Nat) (Option.some Jvm.ClassFile.FieldType.boolean)) ∈ lw_all := lw_g (lw_at lw_m9 22 rfl) rfl
theorem q2061 : (Jvm.Cond.methodLink "RapTableModel" (369 : Nat) ({ cls := "RapTableModel", name := "holdsAt", desc := "(IIII)Z" } : Jvm.MethodName)) ∈ lw_all := lw_g (lw_at lw_m9 23 rfl) rfl
theorem q2062 : (Jvm.Cond.privateMethod ({ cls := "RapTableModel", name := "holdsAt", desc := "(IIII)Z" } : Jvm.MethodName)) ∈ lw_tbl := lw_at lw_m9 24 rfl
theorem q2063 : (Jvm.Cond.instanceMethod ({ cls := "RapTableModel", name := "holdsAt", desc := "(IIII)Z" } : Jvm.MethodName)) ∈ lw_all := lw_g (lw_at lw_m9 25 rfl) rfl
theorem q2064 : (Jvm.Cond.code ({ cls := "RapTableModel", name := "holdsAt", desc := "(IIII)Z" } : Jvm.MethodName) prog_26_method_71_code (5 : Nat) (Option.some Jvm.ClassFile.FieldType.boolean)) ∈ lw_all := lw_g (lw_at lw_m9 26 rfl) rfl
theorem q2066 : (Jvm.Cond.instanceMethod ({ cls := "RapTableModel", name := "honest", desc := "(I)I" } : Jvm.MethodName)) ∈ lw_all := lw_g (lw_at lw_m9 28 rfl) rfl
theorem q2067 : (Jvm.Cond.selects "RapTableModel" ({ cls := "RapTableModel", name := "honest", desc := "(I)I" } : Jvm.MethodName) ({ cls := "RapTableModel", name := "honest", desc := "(I)I" } : Jvm.MethodName)) ∈ lw_all := lw_g (lw_at lw_m9 29 rfl) rfl
theorem q2068 : (Jvm.Cond.code ({ cls := "RapTableModel", name := "honest", desc := "(I)I" } : Jvm.MethodName) prog_26_method_75_code (2 : Nat) (Option.some Jvm.ClassFile.FieldType.int)) ∈ lw_all := lw_g (lw_at lw_m9 30 rfl) rfl
theorem q2069 : (Jvm.Cond.methodLink "RapTableModel" (375 : Nat) ({ cls := "RapTableModel", name := "isHonest", desc := "(I)Z" } : Jvm.MethodName)) ∈ lw_all := lw_g (lw_at lw_m9 31 rfl) rfl
theorem q2070 : (Jvm.Cond.privateMethod ({ cls := "RapTableModel", name := "isHonest", desc := "(I)Z" } : Jvm.MethodName)) ∈ lw_tbl := lw_at lw_m9 32 rfl
theorem q2071 : (Jvm.Cond.instanceMethod ({ cls := "RapTableModel", name := "isHonest", desc := "(I)Z" } : Jvm.MethodName)) ∈ lw_all := lw_g (lw_at lw_m9 33 rfl) rfl
theorem q2072 : (Jvm.Cond.code ({ cls := "RapTableModel", name := "isHonest", desc := "(I)Z" } : Jvm.MethodName) prog_26_method_76_code (5 : Nat) (Option.some Jvm.ClassFile.FieldType.boolean)) ∈ lw_all := lw_g (lw_at lw_m9 34 rfl) rfl
theorem q2074 : (Jvm.Cond.instanceMethod ({ cls := "RapTableModel", name := "agree", desc := "(II)I" } : Jvm.MethodName)) ∈ lw_all := lw_g (lw_at lw_m9 36 rfl) rfl
theorem q2075 : (Jvm.Cond.selects "RapTableModel" ({ cls := "RapTableModel", name := "agree", desc := "(II)I" } : Jvm.MethodName) ({ cls := "RapTableModel", name := "agree", desc := "(II)I" } : Jvm.MethodName)) ∈ lw_all := lw_g (lw_at lw_m9 37 rfl) rfl
theorem q2076 : (Jvm.Cond.code ({ cls := "RapTableModel", name := "agree", desc := "(II)I" } : Jvm.MethodName) prog_26_method_77_code (3 : Nat) (Option.some Jvm.ClassFile.FieldType.int)) ∈ lw_all := lw_g (lw_at lw_m9 38 rfl) rfl
theorem q2078 : (Jvm.Cond.instanceMethod ({ cls := "RapTableModel", name := "stories", desc := "(IZI)I" } : Jvm.MethodName)) ∈ lw_all := lw_g (lw_at lw_m9 40 rfl) rfl
theorem q2079 : (Jvm.Cond.selects "RapTableModel" ({ cls := "RapTableModel", name := "stories", desc := "(IZI)I" } : Jvm.MethodName) ({ cls := "RapTableModel", name := "stories", desc := "(IZI)I" } : Jvm.MethodName)) ∈ lw_all := lw_g (lw_at lw_m9 41 rfl) rfl
theorem q2080 : (Jvm.Cond.code ({ cls := "RapTableModel", name := "stories", desc := "(IZI)I" } : Jvm.MethodName) prog_26_method_80_code (9 : Nat) (Option.some Jvm.ClassFile.FieldType.int)) ∈ lw_all := lw_g (lw_at lw_m9 42 rfl) rfl
theorem q2081 : (Jvm.Cond.methodLink "RapTableModel" (381 : Nat) ({ cls := "RapTableModel", name := "isOfThing", desc := "(I)Z" } : Jvm.MethodName)) ∈ lw_all := lw_g (lw_at lw_m9 43 rfl) rfl
theorem q2082 : (Jvm.Cond.privateMethod ({ cls := "RapTableModel", name := "isOfThing", desc := "(I)Z" } : Jvm.MethodName)) ∈ lw_tbl := lw_at lw_m9 44 rfl
theorem q2083 : (Jvm.Cond.instanceMethod ({ cls := "RapTableModel", name := "isOfThing", desc := "(I)Z" } : Jvm.MethodName)) ∈ lw_all := lw_g (lw_at lw_m9 45 rfl) rfl
theorem q2084 : (Jvm.Cond.code ({ cls := "RapTableModel", name := "isOfThing", desc := "(I)Z" } : Jvm.MethodName) prog_26_method_70_code (2 : Nat) (Option.some Jvm.ClassFile.FieldType.boolean)) ∈ lw_all := lw_g (lw_at lw_m9 46 rfl) rfl
theorem q2085 : (Jvm.Cond.methodLink "RapTableModel" (384 : Nat) ({ cls := "RapTableModel", name := "isStoryWith", desc := "(IIIZ)Z" } : Jvm.MethodName)) ∈ lw_all := lw_g (lw_at lw_m9 47 rfl) rfl
theorem q2086 : (Jvm.Cond.privateMethod ({ cls := "RapTableModel", name := "isStoryWith", desc := "(IIIZ)Z" } : Jvm.MethodName)) ∈ lw_tbl := lw_at lw_m9 48 rfl
theorem q2087 : (Jvm.Cond.instanceMethod ({ cls := "RapTableModel", name := "isStoryWith", desc := "(IIIZ)Z" } : Jvm.MethodName)) ∈ lw_all := lw_g (lw_at lw_m9 49 rfl) rfl
theorem q2088 : (Jvm.Cond.code ({ cls := "RapTableModel", name := "isStoryWith", desc := "(IIIZ)Z" } : Jvm.MethodName) prog_26_method_79_code (7 : Nat) (Option.some Jvm.ClassFile.FieldType.boolean)) ∈ lw_all := lw_g (lw_at lw_m9 50 rfl) rfl
theorem q2089 : (Jvm.Cond.methodLink "RapTableModel" (378 : Nat) ({ cls := "RapTableModel", name := "isStory", desc := "(IIII)Z" } : Jvm.MethodName)) ∈ lw_all := lw_g (lw_at lw_m9 51 rfl) rfl
theorem q2090 : (Jvm.Cond.privateMethod ({ cls := "RapTableModel", name := "isStory", desc := "(IIII)Z" } : Jvm.MethodName)) ∈ lw_tbl := lw_at lw_m9 52 rfl
theorem q2091 : (Jvm.Cond.instanceMethod ({ cls := "RapTableModel", name := "isStory", desc := "(IIII)Z" } : Jvm.MethodName)) ∈ lw_all := lw_g (lw_at lw_m9 53 rfl) rfl
theorem q2092 : (Jvm.Cond.code ({ cls := "RapTableModel", name := "isStory", desc := "(IIII)Z" } : Jvm.MethodName) prog_26_method_78_code (5 : Nat) (Option.some Jvm.ClassFile.FieldType.boolean)) ∈ lw_all := lw_g (lw_at lw_m9 54 rfl) rfl
theorem q2094 : (Jvm.Cond.instanceMethod ({ cls := "RapTableModel", name := "least", desc := "(II)I" } : Jvm.MethodName)) ∈ lw_all := lw_g (lw_at lw_m9 56 rfl) rfl
theorem q2095 : (Jvm.Cond.selects "RapTableModel" ({ cls := "RapTableModel", name := "least", desc := "(II)I" } : Jvm.MethodName) ({ cls := "RapTableModel", name := "least", desc := "(II)I" } : Jvm.MethodName)) ∈ lw_all := lw_g (lw_at lw_m9 57 rfl) rfl
theorem q2096 : (Jvm.Cond.code ({ cls := "RapTableModel", name := "least", desc := "(II)I" } : Jvm.MethodName) prog_26_method_81_code (10 : Nat) (Option.some Jvm.ClassFile.FieldType.int)) ∈ lw_all := lw_g (lw_at lw_m9 58 rfl) rfl
theorem q2097 : (Jvm.Cond.methodLink "RapTableModel" (388 : Nat) ({ cls := "RapTableModel", name := "ones", desc := "(I)I" } : Jvm.MethodName)) ∈ lw_all := lw_g (lw_at lw_m9 59 rfl) rfl
theorem q2098 : (Jvm.Cond.static ({ cls := "RapTableModel", name := "ones", desc := "(I)I" } : Jvm.MethodName)) ∈ lw_all := lw_g (lw_at lw_m9 60 rfl) rfl
theorem q2099 : (Jvm.Cond.code ({ cls := "RapTableModel", name := "ones", desc := "(I)I" } : Jvm.MethodName) prog_26_method_4_code (3 : Nat) (Option.some Jvm.ClassFile.FieldType.int)) ∈ lw_all := lw_g (lw_at lw_m9 61 rfl) rfl
theorem q2101 : (Jvm.Cond.instanceMethod ({ cls := "RapTableModel", name := "pass", desc := "(IIIIII)I" } : Jvm.MethodName)) ∈ lw_all := lw_g (lw_at lw_m9 63 rfl) rfl
theorem q2102 : (Jvm.Cond.selects "RapTableModel" ({ cls := "RapTableModel", name := "pass", desc := "(IIIIII)I" } : Jvm.MethodName) ({ cls := "RapTableModel", name := "pass", desc := "(IIIIII)I" } : Jvm.MethodName)) ∈ lw_all := lw_g (lw_at lw_m9 64 rfl) rfl
theorem q2103 : (Jvm.Cond.code ({ cls := "RapTableModel", name := "pass", desc := "(IIIIII)I" } : Jvm.MethodName) prog_26_method_91_code (7 : Nat) (Option.some Jvm.ClassFile.FieldType.int)) ∈ lw_all := lw_g (lw_at lw_m9 65 rfl) rfl
theorem q2104 : (Jvm.Cond.methodLink "RapTableModel" (419 : Nat) ({ cls := "RapTableModel", name := "findPass", desc := "(IIIII)Z" } : Jvm.MethodName)) ∈ lw_all := lw_g (lw_at lw_m9 66 rfl) rfl
theorem q2105 : (Jvm.Cond.privateMethod ({ cls := "RapTableModel", name := "findPass", desc := "(IIIII)Z" } : Jvm.MethodName)) ∈ lw_tbl := lw_at lw_m9 67 rfl
theorem q2106 : (Jvm.Cond.instanceMethod ({ cls := "RapTableModel", name := "findPass", desc := "(IIIII)Z" } : Jvm.MethodName)) ∈ lw_all := lw_g (lw_at lw_m9 68 rfl) rfl
theorem q2107 : (Jvm.Cond.code ({ cls := "RapTableModel", name := "findPass", desc := "(IIIII)Z" } : Jvm.MethodName) prog_26_method_86_code (10 : Nat) (Option.some Jvm.ClassFile.FieldType.boolean)) ∈ lw_all := lw_g (lw_at lw_m9 69 rfl) rfl
theorem q2108 : (Jvm.Cond.methodLink "RapTableModel" (404 : Nat) ({ cls := "RapTableModel", name := "hopsOn", desc := "(III)V" } : Jvm.MethodName)) ∈ lw_all := lw_g (lw_at lw_m9 70 rfl) rfl
theorem q2109 : (Jvm.Cond.privateMethod ({ cls := "RapTableModel", name := "hopsOn", desc := "(III)V" } : Jvm.MethodName)) ∈ lw_tbl := lw_at lw_m9 71 rfl
theorem q2110 : (Jvm.Cond.instanceMethod ({ cls := "RapTableModel", name := "hopsOn", desc := "(III)V" } : Jvm.MethodName)) ∈ lw_all := lw_g (lw_at lw_m9 72 rfl) rfl
theorem q2111 : (Jvm.Cond.code ({ cls := "RapTableModel", name := "hopsOn", desc := "(III)V" } : Jvm.MethodName) prog_26_method_87_code (10 : Nat) (Option.none : Option Jvm.ClassFile.FieldType)) ∈ lw_all := lw_g (lw_at lw_m9 73 rfl) rfl
theorem q2112 : (Jvm.Cond.methodLink "RapTableModel" (394 : Nat) ({ cls := "RapTableModel", name := "unseen", desc := "(II)I" } : Jvm.MethodName)) ∈ lw_all := lw_g (lw_at lw_m9 74 rfl) rfl
theorem q2113 : (Jvm.Cond.privateMethod ({ cls := "RapTableModel", name := "unseen", desc := "(II)I" } : Jvm.MethodName)) ∈ lw_tbl := lw_at lw_m9 75 rfl
theorem q2114 : (Jvm.Cond.instanceMethod ({ cls := "RapTableModel", name := "unseen", desc := "(II)I" } : Jvm.MethodName)) ∈ lw_all := lw_g (lw_at lw_m9 76 rfl) rfl
theorem q2115 : (Jvm.Cond.code ({ cls := "RapTableModel", name := "unseen", desc := "(II)I" } : Jvm.MethodName) prog_26_method_82_code (5 : Nat) (Option.some Jvm.ClassFile.FieldType.int)) ∈ lw_all := lw_g (lw_at lw_m9 77 rfl) rfl
theorem q2116 : (Jvm.Cond.methodLink "RapTableModel" (397 : Nat) ({ cls := "RapTableModel", name := "bridge", desc := "(IIII)I" } : Jvm.MethodName)) ∈ lw_all := lw_g (lw_at lw_m9 78 rfl) rfl
theorem q2117 : (Jvm.Cond.privateMethod ({ cls := "RapTableModel", name := "bridge", desc := "(IIII)I" } : Jvm.MethodName)) ∈ lw_tbl := lw_at lw_m9 79 rfl
theorem q2118 : (Jvm.Cond.instanceMethod ({ cls := "RapTableModel", name := "bridge", desc := "(IIII)I" } : Jvm.MethodName)) ∈ lw_all := lw_g (lw_at lw_m9 80 rfl) rfl
theorem q2119 : (Jvm.Cond.code ({ cls := "RapTableModel", name := "bridge", desc := "(IIII)I" } : Jvm.MethodName) prog_26_method_84_code (5 : Nat) (Option.some Jvm.ClassFile.FieldType.int)) ∈ lw_all := lw_g (lw_at lw_m9 81 rfl) rfl
theorem q2120 : (Jvm.Cond.methodLink "RapTableModel" (391 : Nat) ({ cls := "RapTableModel", name := "reached", desc := "(I)I" } : Jvm.MethodName)) ∈ lw_all := lw_g (lw_at lw_m9 82 rfl) rfl
theorem q2121 : (Jvm.Cond.privateMethod ({ cls := "RapTableModel", name := "reached", desc := "(I)I" } : Jvm.MethodName)) ∈ lw_tbl := lw_at lw_m9 83 rfl
theorem q2122 : (Jvm.Cond.instanceMethod ({ cls := "RapTableModel", name := "reached", desc := "(I)I" } : Jvm.MethodName)) ∈ lw_all := lw_g (lw_at lw_m9 84 rfl) rfl
theorem q2123 : (Jvm.Cond.code ({ cls := "RapTableModel", name := "reached", desc := "(I)I" } : Jvm.MethodName) prog_26_method_83_code (4 : Nat) (Option.some Jvm.ClassFile.FieldType.int)) ∈ lw_all := lw_g (lw_at lw_m9 85 rfl) rfl
theorem q2124 : (Jvm.Cond.methodLink "RapTableModel" (408 : Nat) ({ cls := "RapTableModel", name := "latestFrom", desc := "(IIIIII)I" } : Jvm.MethodName)) ∈ lw_all := lw_g (lw_at lw_m9 86 rfl) rfl
theorem q2125 : (Jvm.Cond.privateMethod ({ cls := "RapTableModel", name := "latestFrom", desc := "(IIIIII)I" } : Jvm.MethodName)) ∈ lw_tbl := lw_at lw_m9 87 rfl
theorem q2126 : (Jvm.Cond.instanceMethod ({ cls := "RapTableModel", name := "latestFrom", desc := "(IIIIII)I" } : Jvm.MethodName)) ∈ lw_all := lw_g (lw_at lw_m9 88 rfl) rfl
theorem q2127 : (Jvm.Cond.code ({ cls := "RapTableModel", name := "latestFrom", desc := "(IIIIII)I" } : Jvm.MethodName) prog_26_method_89_code (12 : Nat) (Option.some Jvm.ClassFile.FieldType.int)) ∈ lw_all := lw_g (lw_at lw_m9 89 rfl) rfl
theorem q2128 : (Jvm.Cond.methodLink "RapTableModel" (416 : Nat) ({ cls := "RapTableModel", name := "isInTime", desc := "(IIII)Z" } : Jvm.MethodName)) ∈ lw_all := lw_g (lw_at lw_m9 90 rfl) rfl
theorem q2129 : (Jvm.Cond.privateMethod ({ cls := "RapTableModel", name := "isInTime", desc := "(IIII)Z" } : Jvm.MethodName)) ∈ lw_tbl := lw_at lw_m9 91 rfl
theorem q2130 : (Jvm.Cond.instanceMethod ({ cls := "RapTableModel", name := "isInTime", desc := "(IIII)Z" } : Jvm.MethodName)) ∈ lw_all := lw_g (lw_at lw_m9 92 rfl) rfl
theorem q2131 : (Jvm.Cond.code ({ cls := "RapTableModel", name := "isInTime", desc := "(IIII)Z" } : Jvm.MethodName) prog_26_method_88_code (5 : Nat) (Option.some Jvm.ClassFile.FieldType.boolean)) ∈ lw_all := lw_g (lw_at lw_m9 93 rfl) rfl
theorem q2132 : (Jvm.Cond.methodLink "RapTableModel" (412 : Nat) ({ cls := "RapTableModel", name := "choosesHop", desc := "(IIIIII)V" } : Jvm.MethodName)) ∈ lw_all := lw_g (lw_at lw_m9 94 rfl) rfl
theorem q2133 : (Jvm.Cond.privateMethod ({ cls := "RapTableModel", name := "choosesHop", desc := "(IIIIII)V" } : Jvm.MethodName)) ∈ lw_tbl := lw_at lw_m9 95 rfl
theorem q2134 : (Jvm.Cond.instanceMethod ({ cls := "RapTableModel", name := "choosesHop", desc := "(IIIIII)V" } : Jvm.MethodName)) ∈ lw_all := lw_g (lw_at lw_m9 96 rfl) rfl
theorem q2135 : (Jvm.Cond.code ({ cls := "RapTableModel", name := "choosesHop", desc := "(IIIIII)V" } : Jvm.MethodName) prog_26_method_90_code (12 : Nat) (Option.none : Option Jvm.ClassFile.FieldType)) ∈ lw_all := lw_g (lw_at lw_m9 97 rfl) rfl
theorem q2137 : (Jvm.Cond.instanceMethod ({ cls := "RapTableModel", name := "culprits", desc := "(I)I" } : Jvm.MethodName)) ∈ lw_all := lw_g (lw_at lw_m9 99 rfl) rfl
theorem q2138 : (Jvm.Cond.selects "RapTableModel" ({ cls := "RapTableModel", name := "culprits", desc := "(I)I" } : Jvm.MethodName) ({ cls := "RapTableModel", name := "culprits", desc := "(I)I" } : Jvm.MethodName)) ∈ lw_all := lw_g (lw_at lw_m9 100 rfl) rfl
theorem q2139 : (Jvm.Cond.code ({ cls := "RapTableModel", name := "culprits", desc := "(I)I" } : Jvm.MethodName) prog_26_method_92_code (6 : Nat) (Option.some Jvm.ClassFile.FieldType.int)) ∈ lw_all := lw_g (lw_at lw_m9 101 rfl) rfl
theorem q2140 : (Jvm.Cond.methodLink "RapTableModel" (423 : Nat) ({ cls := "RapTableModel", name := "hasPass", desc := "(IIIII)Z" } : Jvm.MethodName)) ∈ lw_all := lw_g (lw_at lw_m9 102 rfl) rfl
theorem q2141 : (Jvm.Cond.privateMethod ({ cls := "RapTableModel", name := "hasPass", desc := "(IIIII)Z" } : Jvm.MethodName)) ∈ lw_tbl := lw_at lw_m9 103 rfl
theorem q2142 : (Jvm.Cond.instanceMethod ({ cls := "RapTableModel", name := "hasPass", desc := "(IIIII)Z" } : Jvm.MethodName)) ∈ lw_all := lw_g (lw_at lw_m9 104 rfl) rfl
theorem q2143 : (Jvm.Cond.code ({ cls := "RapTableModel", name := "hasPass", desc := "(IIIII)Z" } : Jvm.MethodName) prog_26_method_85_code (12 : Nat) (Option.some Jvm.ClassFile.FieldType.boolean)) ∈ lw_all := lw_g (lw_at lw_m9 105 rfl) rfl
theorem q2145 : (Jvm.Cond.instanceMethod ({ cls := "RapTableModel", name := "record", desc := "(II)I" } : Jvm.MethodName)) ∈ lw_all := lw_g (lw_at lw_m9 107 rfl) rfl
theorem q2146 : (Jvm.Cond.selects "RapTableModel" ({ cls := "RapTableModel", name := "record", desc := "(II)I" } : Jvm.MethodName) ({ cls := "RapTableModel", name := "record", desc := "(II)I" } : Jvm.MethodName)) ∈ lw_all := lw_g (lw_at lw_m9 108 rfl) rfl
theorem q2147 : (Jvm.Cond.code ({ cls := "RapTableModel", name := "record", desc := "(II)I" } : Jvm.MethodName) prog_26_method_93_code (7 : Nat) (Option.some Jvm.ClassFile.FieldType.int)) ∈ lw_all := lw_g (lw_at lw_m9 109 rfl) rfl
theorem q2148 : (Jvm.Cond.constantLong "RapTableModel" (426 : Nat) (4 : Int64)) ∈ lw_all := lw_g (lw_at lw_m9 110 rfl) rfl
theorem q2150 : (Jvm.Cond.instanceMethod ({ cls := "RapTableModel", name := "control", desc := "(IIIIII)I" } : Jvm.MethodName)) ∈ lw_all := lw_g (lw_at lw_m9 112 rfl) rfl
theorem q2151 : (Jvm.Cond.selects "RapTableModel" ({ cls := "RapTableModel", name := "control", desc := "(IIIIII)I" } : Jvm.MethodName) ({ cls := "RapTableModel", name := "control", desc := "(IIIIII)I" } : Jvm.MethodName)) ∈ lw_all := lw_g (lw_at lw_m9 113 rfl) rfl
theorem q2152 : (Jvm.Cond.code ({ cls := "RapTableModel", name := "control", desc := "(IIIIII)I" } : Jvm.MethodName) prog_26_method_94_code (7 : Nat) (Option.some Jvm.ClassFile.FieldType.int)) ∈ lw_all := lw_g (lw_at lw_m9 114 rfl) rfl
theorem q2153 : (Jvm.Cond.constantLong "RapTableModel" (428 : Nat) (1000 : Int64)) ∈ lw_all := lw_g (lw_at lw_m9 115 rfl) rfl
theorem q2155 : (Jvm.Cond.instanceMethod ({ cls := "RapTableModel", name := "closes", desc := "(IIIII)I" } : Jvm.MethodName)) ∈ lw_all := lw_g (lw_at lw_m9 117 rfl) rfl
theorem q2156 : (Jvm.Cond.selects "RapTableModel" ({ cls := "RapTableModel", name := "closes", desc := "(IIIII)I" } : Jvm.MethodName) ({ cls := "RapTableModel", name := "closes", desc := "(IIIII)I" } : Jvm.MethodName)) ∈ lw_all := lw_g (lw_at lw_m9 118 rfl) rfl
theorem q2157 : (Jvm.Cond.code ({ cls := "RapTableModel", name := "closes", desc := "(IIIII)I" } : Jvm.MethodName) prog_26_method_97_code (6 : Nat) (Option.some Jvm.ClassFile.FieldType.int)) ∈ lw_all := lw_g (lw_at lw_m9 119 rfl) rfl
theorem q2158 : (Jvm.Cond.methodLink "RapTableModel" (430 : Nat) ({ cls := "RapTableModel", name := "isSet", desc := "(I)Z" } : Jvm.MethodName)) ∈ lw_all := lw_g (lw_at lw_m9 120 rfl) rfl
theorem q2159 : (Jvm.Cond.privateMethod ({ cls := "RapTableModel", name := "isSet", desc := "(I)Z" } : Jvm.MethodName)) ∈ lw_tbl := lw_at lw_m9 121 rfl
theorem q2160 : (Jvm.Cond.instanceMethod ({ cls := "RapTableModel", name := "isSet", desc := "(I)Z" } : Jvm.MethodName)) ∈ lw_all := lw_g (lw_at lw_m9 122 rfl) rfl
theorem q2161 : (Jvm.Cond.code ({ cls := "RapTableModel", name := "isSet", desc := "(I)Z" } : Jvm.MethodName) prog_26_method_95_code (2 : Nat) (Option.some Jvm.ClassFile.FieldType.boolean)) ∈ lw_all := lw_g (lw_at lw_m9 123 rfl) rfl
theorem q2162 : (Jvm.Cond.methodLink "RapTableModel" (433 : Nat) ({ cls := "RapTableModel", name := "doesClose", desc := "(IIIII)Z" } : Jvm.MethodName)) ∈ lw_all := lw_g (lw_at lw_m9 124 rfl) rfl
theorem q2163 : (Jvm.Cond.privateMethod ({ cls := "RapTableModel", name := "doesClose", desc := "(IIIII)Z" } : Jvm.MethodName)) ∈ lw_tbl := lw_at lw_m9 125 rfl
theorem q2164 : (Jvm.Cond.instanceMethod ({ cls := "RapTableModel", name := "doesClose", desc := "(IIIII)Z" } : Jvm.MethodName)) ∈ lw_all := lw_g (lw_at lw_m9 126 rfl) rfl
theorem q2165 : (Jvm.Cond.code ({ cls := "RapTableModel", name := "doesClose", desc := "(IIIII)Z" } : Jvm.MethodName) prog_26_method_96_code (8 : Nat) (Option.some Jvm.ClassFile.FieldType.boolean)) ∈ lw_all := lw_g (lw_at lw_m9 127 rfl) rfl
theorem q2167 : (Jvm.Cond.instanceMethod ({ cls := "RapTableModel", name := "cheapest", desc := "(IIIII)I" } : Jvm.MethodName)) ∈ lw_all := lw_g (lw_at lw_m9 129 rfl) rfl
theorem q2168 : (Jvm.Cond.selects "RapTableModel" ({ cls := "RapTableModel", name := "cheapest", desc := "(IIIII)I" } : Jvm.MethodName) ({ cls := "RapTableModel", name := "cheapest", desc := "(IIIII)I" } : Jvm.MethodName)) ∈ lw_all := lw_g (lw_at lw_m9 130 rfl) rfl
theorem q2169 : (Jvm.Cond.code ({ cls := "RapTableModel", name := "cheapest", desc := "(IIIII)I" } : Jvm.MethodName) prog_26_method_98_code (11 : Nat) (Option.some Jvm.ClassFile.FieldType.int)) ∈ lw_all := lw_g (lw_at lw_m9 131 rfl) rfl
theorem q2171 : (Jvm.Cond.instanceMethod ({ cls := "RapTableModel", name := "opens", desc := "(IIIII)I" } : Jvm.MethodName)) ∈ lw_all := lw_g (lw_at lw_m9 133 rfl) rfl
theorem q2172 : (Jvm.Cond.selects "RapTableModel" ({ cls := "RapTableModel", name := "opens", desc := "(IIIII)I" } : Jvm.MethodName) ({ cls := "RapTableModel", name := "opens", desc := "(IIIII)I" } : Jvm.MethodName)) ∈ lw_all := lw_g (lw_at lw_m9 134 rfl) rfl
theorem q2173 : (Jvm.Cond.code ({ cls := "RapTableModel", name := "opens", desc := "(IIIII)I" } : Jvm.MethodName) prog_26_method_100_code (9 : Nat) (Option.some Jvm.ClassFile.FieldType.int)) ∈ lw_all := lw_g (lw_at lw_m9 135 rfl) rfl
theorem q2174 : (Jvm.Cond.methodLink "RapTableModel" (436 : Nat) ({ cls := "RapTableModel", name := "fitsAll", desc := "(IIIII)V" } : Jvm.MethodName)) ∈ lw_all := lw_g (lw_at lw_m9 136 rfl) rfl
theorem q2175 : (Jvm.Cond.privateMethod ({ cls := "RapTableModel", name := "fitsAll", desc := "(IIIII)V" } : Jvm.MethodName)) ∈ lw_tbl := lw_at lw_m9 137 rfl
theorem q2176 : (Jvm.Cond.instanceMethod ({ cls := "RapTableModel", name := "fitsAll", desc := "(IIIII)V" } : Jvm.MethodName)) ∈ lw_all := lw_g (lw_at lw_m9 138 rfl) rfl
theorem q2177 : (Jvm.Cond.code ({ cls := "RapTableModel", name := "fitsAll", desc := "(IIIII)V" } : Jvm.MethodName) prog_26_method_99_code (8 : Nat) (Option.none : Option Jvm.ClassFile.FieldType)) ∈ lw_all := lw_g (lw_at lw_m9 139 rfl) rfl
theorem q2179 : (Jvm.Cond.instanceMethod ({ cls := "RapTableModel", name := "next", desc := "(II)I" } : Jvm.MethodName)) ∈ lw_all := lw_g (lw_at lw_m9 141 rfl) rfl
theorem q2180 : (Jvm.Cond.selects "RapTableModel" ({ cls := "RapTableModel", name := "next", desc := "(II)I" } : Jvm.MethodName) ({ cls := "RapTableModel", name := "next", desc := "(II)I" } : Jvm.MethodName)) ∈ lw_all := lw_g (lw_at lw_m9 142 rfl) rfl
theorem q2181 : (Jvm.Cond.code ({ cls := "RapTableModel", name := "next", desc := "(II)I" } : Jvm.MethodName) prog_26_method_101_code (11 : Nat) (Option.some Jvm.ClassFile.FieldType.int)) ∈ lw_all := lw_g (lw_at lw_m9 143 rfl) rfl
theorem q2183 : (Jvm.Cond.instanceMethod ({ cls := "RapTableModel", name := "trial", desc := "(II)I" } : Jvm.MethodName)) ∈ lw_all := lw_g (lw_at lw_m9 145 rfl) rfl
theorem q2184 : (Jvm.Cond.selects "RapTableModel" ({ cls := "RapTableModel", name := "trial", desc := "(II)I" } : Jvm.MethodName) ({ cls := "RapTableModel", name := "trial", desc := "(II)I" } : Jvm.MethodName)) ∈ lw_all := lw_g (lw_at lw_m9 146 rfl) rfl
theorem q2185 : (Jvm.Cond.code ({ cls := "RapTableModel", name := "trial", desc := "(II)I" } : Jvm.MethodName) prog_26_method_102_code (3 : Nat) (Option.some Jvm.ClassFile.FieldType.int)) ∈ lw_all := lw_g (lw_at lw_m9 147 rfl) rfl
theorem q2186 : (Jvm.Cond.constantLong "RapTableModel" (440 : Nat) (20 : Int64)) ∈ lw_all := lw_g (lw_at lw_m9 148 rfl) rfl
theorem q2188 : (Jvm.Cond.instanceMethod ({ cls := "RapTableModel", name := "luck", desc := "(I)J" } : Jvm.MethodName)) ∈ lw_all := lw_g (lw_at lw_m9 150 rfl) rfl
theorem q2189 : (Jvm.Cond.selects "RapTableModel" ({ cls := "RapTableModel", name := "luck", desc := "(I)J" } : Jvm.MethodName) ({ cls := "RapTableModel", name := "luck", desc := "(I)J" } : Jvm.MethodName)) ∈ lw_all := lw_g (lw_at lw_m9 151 rfl) rfl
theorem q2190 : (Jvm.Cond.code ({ cls := "RapTableModel", name := "luck", desc := "(I)J" } : Jvm.MethodName) prog_26_method_104_code (2 : Nat) (Option.some Jvm.ClassFile.FieldType.long)) ∈ lw_all := lw_g (lw_at lw_m9 152 rfl) rfl
theorem q2191 : (Jvm.Cond.constantLong "RapTableModel" (442 : Nat) (-1 : Int64)) ∈ lw_all := lw_g (lw_at lw_m9 153 rfl) rfl
theorem q2192 : (Jvm.Cond.methodLink "RapTableModel" (444 : Nat) ({ cls := "RapTableModel", name := "rowsWith", desc := "(I)J" } : Jvm.MethodName)) ∈ lw_all := lw_g (lw_at lw_m9 154 rfl) rfl
theorem q2193 : (Jvm.Cond.privateMethod ({ cls := "RapTableModel", name := "rowsWith", desc := "(I)J" } : Jvm.MethodName)) ∈ lw_tbl := lw_at lw_m9 155 rfl
theorem q2194 : (Jvm.Cond.instanceMethod ({ cls := "RapTableModel", name := "rowsWith", desc := "(I)J" } : Jvm.MethodName)) ∈ lw_all := lw_g (lw_at lw_m9 156 rfl) rfl
theorem q2195 : (Jvm.Cond.code ({ cls := "RapTableModel", name := "rowsWith", desc := "(I)J" } : Jvm.MethodName) prog_26_method_103_code (5 : Nat) (Option.some Jvm.ClassFile.FieldType.long)) ∈ lw_all := lw_g (lw_at lw_m9 157 rfl) rfl
theorem q2197 : (Jvm.Cond.instanceMethod ({ cls := "RapTableModel", name := "chance", desc := "(II)I" } : Jvm.MethodName)) ∈ lw_all := lw_g (lw_at lw_m9 159 rfl) rfl
theorem q2198 : (Jvm.Cond.selects "RapTableModel" ({ cls := "RapTableModel", name := "chance", desc := "(II)I" } : Jvm.MethodName) ({ cls := "RapTableModel", name := "chance", desc := "(II)I" } : Jvm.MethodName)) ∈ lw_all := lw_g (lw_at lw_m9 160 rfl) rfl
theorem q2199 : (Jvm.Cond.code ({ cls := "RapTableModel", name := "chance", desc := "(II)I" } : Jvm.MethodName) prog_26_method_106_code (7 : Nat) (Option.some Jvm.ClassFile.FieldType.int)) ∈ lw_all := lw_g (lw_at lw_m9 161 rfl) rfl
theorem q2200 : (Jvm.Cond.constantLong "RapTableModel" (450 : Nat) (100 : Int64)) ∈ lw_all := lw_g (lw_at lw_m9 162 rfl) rfl
theorem q2201 : (Jvm.Cond.constantLong "RapTableModel" (448 : Nat) (1000000 : Int64)) ∈ lw_all := lw_g (lw_at lw_m9 163 rfl) rfl
theorem q2202 : (Jvm.Cond.methodLink "RapTableModel" (452 : Nat) ({ cls := "RapTableModel", name := "chanceOf", desc := "(I)I" } : Jvm.MethodName)) ∈ lw_all := lw_g (lw_at lw_m9 164 rfl) rfl
theorem q2203 : (Jvm.Cond.privateMethod ({ cls := "RapTableModel", name := "chanceOf", desc := "(I)I" } : Jvm.MethodName)) ∈ lw_tbl := lw_at lw_m9 165 rfl
theorem q2204 : (Jvm.Cond.instanceMethod ({ cls := "RapTableModel", name := "chanceOf", desc := "(I)I" } : Jvm.MethodName)) ∈ lw_all := lw_g (lw_at lw_m9 166 rfl) rfl
theorem q2205 : (Jvm.Cond.code ({ cls := "RapTableModel", name := "chanceOf", desc := "(I)I" } : Jvm.MethodName) prog_26_method_105_code (4 : Nat) (Option.some Jvm.ClassFile.FieldType.int)) ∈ lw_all := lw_g (lw_at lw_m9 167 rfl) rfl
theorem q2206 : (Jvm.Cond.constant "RapTableModel" (455 : Nat) (1000000 : Int32)) ∈ lw_all := lw_g (lw_at lw_m9 168 rfl) rfl
theorem q2208 : (Jvm.Cond.instanceMethod ({ cls := "RapTableModel", name := "ease", desc := "(II)I" } : Jvm.MethodName)) ∈ lw_all := lw_g (lw_at lw_m9 170 rfl) rfl
theorem q2209 : (Jvm.Cond.selects "RapTableModel" ({ cls := "RapTableModel", name := "ease", desc := "(II)I" } : Jvm.MethodName) ({ cls := "RapTableModel", name := "ease", desc := "(II)I" } : Jvm.MethodName)) ∈ lw_all := lw_g (lw_at lw_m9 171 rfl) rfl
theorem q2210 : (Jvm.Cond.code ({ cls := "RapTableModel", name := "ease", desc := "(II)I" } : Jvm.MethodName) prog_26_method_108_code (3 : Nat) (Option.some Jvm.ClassFile.FieldType.int)) ∈ lw_all := lw_g (lw_at lw_m9 172 rfl) rfl
theorem q2211 : (Jvm.Cond.methodLink "RapTableModel" (462 : Nat) ({ cls := "RapTableModel", name := "eases", desc := "(IIII)V" } : Jvm.MethodName)) ∈ lw_all := lw_g (lw_at lw_m9 173 rfl) rfl
theorem q2212 : (Jvm.Cond.privateMethod ({ cls := "RapTableModel", name := "eases", desc := "(IIII)V" } : Jvm.MethodName)) ∈ lw_tbl := lw_at lw_m9 174 rfl
theorem q2213 : (Jvm.Cond.instanceMethod ({ cls := "RapTableModel", name := "eases", desc := "(IIII)V" } : Jvm.MethodName)) ∈ lw_all := lw_g (lw_at lw_m9 175 rfl) rfl
theorem q2214 : (Jvm.Cond.code ({ cls := "RapTableModel", name := "eases", desc := "(IIII)V" } : Jvm.MethodName) prog_26_method_107_code (7 : Nat) (Option.none : Option Jvm.ClassFile.FieldType)) ∈ lw_all := lw_g (lw_at lw_m9 176 rfl) rfl
theorem q2216 : (Jvm.Cond.instanceMethod ({ cls := "RapTableModel", name := "fair", desc := "(IIIIIII)I" } : Jvm.MethodName)) ∈ lw_all := lw_g (lw_at lw_m9 178 rfl) rfl
theorem q2217 : (Jvm.Cond.selects "RapTableModel" ({ cls := "RapTableModel", name := "fair", desc := "(IIIIIII)I" } : Jvm.MethodName) ({ cls := "RapTableModel", name := "fair", desc := "(IIIIIII)I" } : Jvm.MethodName)) ∈ lw_all := lw_g (lw_at lw_m9 179 rfl) rfl
theorem q2218 : (Jvm.Cond.code ({ cls := "RapTableModel", name := "fair", desc := "(IIIIIII)I" } : Jvm.MethodName) prog_26_method_109_code (8 : Nat) (Option.some Jvm.ClassFile.FieldType.int)) ∈ lw_all := lw_g (lw_at lw_m9 180 rfl) rfl
theorem q2220 : (Jvm.Cond.instanceMethod ({ cls := "RapTableModel", name := "status", desc := "(I)I" } : Jvm.MethodName)) ∈ lw_all := lw_g (lw_at lw_m9 182 rfl) rfl
theorem q2221 : (Jvm.Cond.selects "RapTableModel" ({ cls := "RapTableModel", name := "status", desc := "(I)I" } : Jvm.MethodName) ({ cls := "RapTableModel", name := "status", desc := "(I)I" } : Jvm.MethodName)) ∈ lw_all := lw_g (lw_at lw_m9 183 rfl) rfl
theorem q2222 : (Jvm.Cond.code ({ cls := "RapTableModel", name := "status", desc := "(I)I" } : Jvm.MethodName) prog_26_method_110_code (2 : Nat) (Option.some Jvm.ClassFile.FieldType.int)) ∈ lw_all := lw_g (lw_at lw_m9 184 rfl) rfl
theorem q2224 : (Jvm.Cond.instanceMethod ({ cls := "RapTableModel", name := "count", desc := "(I)I" } : Jvm.MethodName)) ∈ lw_all := lw_g (lw_at lw_m9 186 rfl) rfl
theorem q2225 : (Jvm.Cond.selects "RapTableModel" ({ cls := "RapTableModel", name := "count", desc := "(I)I" } : Jvm.MethodName) ({ cls := "RapTableModel", name := "count", desc := "(I)I" } : Jvm.MethodName)) ∈ lw_all := lw_g (lw_at lw_m9 187 rfl) rfl
theorem q2226 : (Jvm.Cond.code ({ cls := "RapTableModel", name := "count", desc := "(I)I" } : Jvm.MethodName) prog_26_method_111_code (2 : Nat) (Option.some Jvm.ClassFile.FieldType.int)) ∈ lw_all := lw_g (lw_at lw_m9 188 rfl) rfl
theorem q2246 : (Jvm.Cond.castable "RapTableModel" "java/lang/Object") ∈ lw_tbl := lw_at lw_m9 208 rfl
theorem q127 : (Jvm.Cond.initialized "RapTable$Lead") ∈ lw_all := lw_g (lw_at lw_m1 9 rfl) rfl
theorem q486 : (Jvm.Cond.instantiable "RapTable$Lead" (4 : Nat)) ∈ lw_all := lw_g (lw_at lw_m2 128 rfl) rfl
theorem q488 : (Jvm.Cond.instanceMethod ({ cls := "RapTable$Lead", name := "<init>", desc := "(IIII)V" } : Jvm.MethodName)) ∈ lw_all := lw_g (lw_at lw_m2 130 rfl) rfl
theorem q489 : (Jvm.Cond.code ({ cls := "RapTable$Lead", name := "<init>", desc := "(IIII)V" } : Jvm.MethodName) prog_11_method_1_code (5 : Nat) (Option.none : Option Jvm.ClassFile.FieldType)) ∈ lw_all := lw_g (lw_at lw_m2 131 rfl) rfl
theorem q490 : (Jvm.Cond.methodLink "RapTable$Lead" (1 : Nat) ({ cls := "java/lang/Object", name := "<init>", desc := "()V" } : Jvm.MethodName)) ∈ lw_all := lw_g (lw_at lw_m2 132 rfl) rfl
theorem q491 : (Jvm.Cond.fieldLink "RapTable$Lead" (7 : Nat) "RapTable$Lead" "spot" "I") ∈ lw_all := lw_g (lw_at lw_m2 133 rfl) rfl
theorem q493 : (Jvm.Cond.fieldLink "RapTable$Lead" (13 : Nat) "RapTable$Lead" "pull" "I") ∈ lw_all := lw_g (lw_at lw_m2 135 rfl) rfl
theorem q495 : (Jvm.Cond.fieldLink "RapTable$Lead" (16 : Nat) "RapTable$Lead" "from" "I") ∈ lw_all := lw_g (lw_at lw_m2 137 rfl) rfl
theorem q497 : (Jvm.Cond.fieldLink "RapTable$Lead" (19 : Nat) "RapTable$Lead" "to" "I") ∈ lw_all := lw_g (lw_at lw_m2 139 rfl) rfl
theorem q498 : (Jvm.Cond.laysFinal "RapTable$Lead" "RapTable$Lead" "spot" "I") ∈ lw_all := lw_g (lw_at lw_m2 140 rfl) rfl
theorem q499 : (Jvm.Cond.soleField "RapTable$Lead" "spot") ∈ lw_all := lw_g (lw_at lw_m2 141 rfl) rfl
theorem q500 : (Jvm.Cond.laysFinal "RapTable$Lead" "RapTable$Lead" "pull" "I") ∈ lw_all := lw_g (lw_at lw_m2 142 rfl) rfl
theorem q501 : (Jvm.Cond.soleField "RapTable$Lead" "pull") ∈ lw_all := lw_g (lw_at lw_m2 143 rfl) rfl
theorem q502 : (Jvm.Cond.laysFinal "RapTable$Lead" "RapTable$Lead" "from" "I") ∈ lw_all := lw_g (lw_at lw_m2 144 rfl) rfl
theorem q503 : (Jvm.Cond.soleField "RapTable$Lead" "from") ∈ lw_all := lw_g (lw_at lw_m2 145 rfl) rfl
theorem q504 : (Jvm.Cond.laysFinal "RapTable$Lead" "RapTable$Lead" "to" "I") ∈ lw_all := lw_g (lw_at lw_m2 146 rfl) rfl
theorem q505 : (Jvm.Cond.soleField "RapTable$Lead" "to") ∈ lw_all := lw_g (lw_at lw_m2 147 rfl) rfl
theorem q506 : (Jvm.Cond.superclass "RapTable$Lead" "java/lang/Object") ∈ lw_all := lw_g (lw_at lw_m2 148 rfl) rfl
theorem q550 : (Jvm.Cond.selects "RapTable$Lead" ({ cls := "java/lang/Object", name := "getClass", desc := "()Ljava/lang/Class;" } : Jvm.MethodName) ({ cls := "java/lang/Object", name := "getClass", desc := "()Ljava/lang/Class;" } : Jvm.MethodName)) ∈ lw_all := lw_g (lw_at lw_m2 192 rfl) rfl
theorem q750 : (Jvm.Cond.instanceMethod ({ cls := "RapTable$Lead", name := "holds", desc := "(I)Z" } : Jvm.MethodName)) ∈ lw_all := lw_g (lw_at lw_m3 152 rfl) rfl
theorem q751 : (Jvm.Cond.selects "RapTable$Lead" ({ cls := "RapTable$Lead", name := "holds", desc := "(I)Z" } : Jvm.MethodName) ({ cls := "RapTable$Lead", name := "holds", desc := "(I)Z" } : Jvm.MethodName)) ∈ lw_all := lw_g (lw_at lw_m3 153 rfl) rfl
theorem q752 : (Jvm.Cond.code ({ cls := "RapTable$Lead", name := "holds", desc := "(I)Z" } : Jvm.MethodName) prog_11_method_2_code (2 : Nat) (Option.some Jvm.ClassFile.FieldType.boolean)) ∈ lw_all := lw_g (lw_at lw_m3 154 rfl) rfl
theorem q2247 : (Jvm.Cond.castable "RapTable$Lead" "java/lang/Object") ∈ lw_tbl := lw_at lw_m9 209 rfl
theorem q134 : (Jvm.Cond.initialized "RapTable$Move") ∈ lw_all := lw_g (lw_at lw_m1 16 rfl) rfl
theorem q551 : (Jvm.Cond.selects "RapTable$Move" ({ cls := "java/lang/Object", name := "getClass", desc := "()Ljava/lang/Class;" } : Jvm.MethodName) ({ cls := "java/lang/Object", name := "getClass", desc := "()Ljava/lang/Class;" } : Jvm.MethodName)) ∈ lw_all := lw_g (lw_at lw_m2 193 rfl) rfl
theorem q656 : (Jvm.Cond.instantiable "RapTable$Move" (5 : Nat)) ∈ lw_all := lw_g (lw_at lw_m3 58 rfl) rfl
theorem q658 : (Jvm.Cond.instanceMethod ({ cls := "RapTable$Move", name := "<init>", desc := "(IIIII)V" } : Jvm.MethodName)) ∈ lw_all := lw_g (lw_at lw_m3 60 rfl) rfl
theorem q659 : (Jvm.Cond.code ({ cls := "RapTable$Move", name := "<init>", desc := "(IIIII)V" } : Jvm.MethodName) prog_12_method_1_code (6 : Nat) (Option.none : Option Jvm.ClassFile.FieldType)) ∈ lw_all := lw_g (lw_at lw_m3 61 rfl) rfl
theorem q660 : (Jvm.Cond.methodLink "RapTable$Move" (1 : Nat) ({ cls := "java/lang/Object", name := "<init>", desc := "()V" } : Jvm.MethodName)) ∈ lw_all := lw_g (lw_at lw_m3 62 rfl) rfl
theorem q661 : (Jvm.Cond.fieldLink "RapTable$Move" (7 : Nat) "RapTable$Move" "hand" "I") ∈ lw_all := lw_g (lw_at lw_m3 63 rfl) rfl
theorem q663 : (Jvm.Cond.fieldLink "RapTable$Move" (13 : Nat) "RapTable$Move" "thing" "I") ∈ lw_all := lw_g (lw_at lw_m3 65 rfl) rfl
theorem q666 : (Jvm.Cond.fieldLink "RapTable$Move" (16 : Nat) "RapTable$Move" "from" "I") ∈ lw_all := lw_g (lw_at lw_m3 68 rfl) rfl
theorem q668 : (Jvm.Cond.fieldLink "RapTable$Move" (19 : Nat) "RapTable$Move" "to" "I") ∈ lw_all := lw_g (lw_at lw_m3 70 rfl) rfl
theorem q672 : (Jvm.Cond.fieldLink "RapTable$Move" (22 : Nat) "RapTable$Move" "second" "I") ∈ lw_all := lw_g (lw_at lw_m3 74 rfl) rfl
theorem q676 : (Jvm.Cond.laysFinal "RapTable$Move" "RapTable$Move" "hand" "I") ∈ lw_all := lw_g (lw_at lw_m3 78 rfl) rfl
theorem q677 : (Jvm.Cond.soleField "RapTable$Move" "hand") ∈ lw_all := lw_g (lw_at lw_m3 79 rfl) rfl
theorem q678 : (Jvm.Cond.laysFinal "RapTable$Move" "RapTable$Move" "thing" "I") ∈ lw_all := lw_g (lw_at lw_m3 80 rfl) rfl
theorem q679 : (Jvm.Cond.soleField "RapTable$Move" "thing") ∈ lw_all := lw_g (lw_at lw_m3 81 rfl) rfl
theorem q680 : (Jvm.Cond.laysFinal "RapTable$Move" "RapTable$Move" "from" "I") ∈ lw_all := lw_g (lw_at lw_m3 82 rfl) rfl
theorem q681 : (Jvm.Cond.soleField "RapTable$Move" "from") ∈ lw_all := lw_g (lw_at lw_m3 83 rfl) rfl
theorem q682 : (Jvm.Cond.laysFinal "RapTable$Move" "RapTable$Move" "to" "I") ∈ lw_all := lw_g (lw_at lw_m3 84 rfl) rfl
theorem q683 : (Jvm.Cond.soleField "RapTable$Move" "to") ∈ lw_all := lw_g (lw_at lw_m3 85 rfl) rfl
theorem q684 : (Jvm.Cond.laysFinal "RapTable$Move" "RapTable$Move" "second" "I") ∈ lw_all := lw_g (lw_at lw_m3 86 rfl) rfl
theorem q685 : (Jvm.Cond.soleField "RapTable$Move" "second") ∈ lw_all := lw_g (lw_at lw_m3 87 rfl) rfl
theorem q686 : (Jvm.Cond.superclass "RapTable$Move" "java/lang/Object") ∈ lw_all := lw_g (lw_at lw_m3 88 rfl) rfl
theorem q2248 : (Jvm.Cond.castable "RapTable$Move" "java/lang/Object") ∈ lw_tbl := lw_at lw_m9 210 rfl
theorem q135 : (Jvm.Cond.initialized "RapTable$Reader") ∈ lw_all := lw_g (lw_at lw_m1 17 rfl) rfl
theorem q379 : (Jvm.Cond.fieldLinkNest "RapTable$Reader" (31 : Nat) "RapTable" "tape" "[B" "RapTable") ∈ lw_tbl := lw_at lw_m2 21 rfl
theorem q553 : (Jvm.Cond.selects "RapTable$Reader" ({ cls := "java/lang/Object", name := "getClass", desc := "()Ljava/lang/Class;" } : Jvm.MethodName) ({ cls := "java/lang/Object", name := "getClass", desc := "()Ljava/lang/Class;" } : Jvm.MethodName)) ∈ lw_all := lw_g (lw_at lw_m2 195 rfl) rfl
theorem q938 : (Jvm.Cond.instantiable "RapTable$Reader" (11 : Nat)) ∈ lw_all := lw_g (lw_at lw_m4 100 rfl) rfl
theorem q940 : (Jvm.Cond.instanceMethod ({ cls := "RapTable$Reader", name := "<init>", desc := "(LRapTable;I)V" } : Jvm.MethodName)) ∈ lw_all := lw_g (lw_at lw_m4 102 rfl) rfl
theorem q941 : (Jvm.Cond.code ({ cls := "RapTable$Reader", name := "<init>", desc := "(LRapTable;I)V" } : Jvm.MethodName) prog_14_method_1_code (3 : Nat) (Option.none : Option Jvm.ClassFile.FieldType)) ∈ lw_all := lw_g (lw_at lw_m4 103 rfl) rfl
theorem q942 : (Jvm.Cond.methodLink "RapTable$Reader" (9 : Nat) ({ cls := "java/lang/Object", name := "<init>", desc := "()V" } : Jvm.MethodName)) ∈ lw_all := lw_g (lw_at lw_m4 104 rfl) rfl
theorem q943 : (Jvm.Cond.classLink "RapTable$Reader" (15 : Nat) "java/util/ArrayList") ∈ lw_all := lw_g (lw_at lw_m4 105 rfl) rfl
theorem q944 : (Jvm.Cond.methodLink "RapTable$Reader" (17 : Nat) ({ cls := "java/util/ArrayList", name := "<init>", desc := "(I)V" } : Jvm.MethodName)) ∈ lw_all := lw_g (lw_at lw_m4 106 rfl) rfl
theorem q945 : (Jvm.Cond.fieldLink "RapTable$Reader" (28 : Nat) "RapTable$Reader" "size" "I") ∈ lw_all := lw_g (lw_at lw_m4 107 rfl) rfl
theorem q946 : (Jvm.Cond.fieldLink "RapTable$Reader" (20 : Nat) "RapTable$Reader" "read" "Ljava/util/ArrayList;") ∈ lw_all := lw_g (lw_at lw_m4 108 rfl) rfl
theorem q948 : (Jvm.Cond.fieldLink "RapTable$Reader" (51 : Nat) "RapTable$Reader" "at" "I") ∈ lw_all := lw_g (lw_at lw_m4 110 rfl) rfl
theorem q949 : (Jvm.Cond.fieldLink "RapTable$Reader" (54 : Nat) "RapTable$Reader" "begin" "I") ∈ lw_all := lw_g (lw_at lw_m4 111 rfl) rfl
theorem q950 : (Jvm.Cond.fieldLink "RapTable$Reader" (57 : Nat) "RapTable$Reader" "token" "I") ∈ lw_all := lw_g (lw_at lw_m4 112 rfl) rfl
theorem q951 : (Jvm.Cond.fieldLink "RapTable$Reader" (67 : Nat) "RapTable$Reader" "value" "I") ∈ lw_all := lw_g (lw_at lw_m4 113 rfl) rfl
theorem q952 : (Jvm.Cond.fieldLink "RapTable$Reader" (70 : Nat) "RapTable$Reader" "fault" "I") ∈ lw_all := lw_g (lw_at lw_m4 114 rfl) rfl
theorem q954 : (Jvm.Cond.fieldLink "RapTable$Reader" (24 : Nat) "RapTable$Reader" "place" "I") ∈ lw_all := lw_g (lw_at lw_m4 116 rfl) rfl
theorem q956 : (Jvm.Cond.fieldLink "RapTable$Reader" (129 : Nat) "RapTable$Reader" "readLoss" "I") ∈ lw_all := lw_g (lw_at lw_m4 118 rfl) rfl
theorem q958 : (Jvm.Cond.fieldLink "RapTable$Reader" (132 : Nat) "RapTable$Reader" "readSmooth" "I") ∈ lw_all := lw_g (lw_at lw_m4 120 rfl) rfl
theorem q960 : (Jvm.Cond.fieldLink "RapTable$Reader" (3 : Nat) "RapTable$Reader" "this$0" "LRapTable;") ∈ lw_all := lw_g (lw_at lw_m4 122 rfl) rfl
theorem q961 : (Jvm.Cond.laysFinal "RapTable$Reader" "RapTable$Reader" "size" "I") ∈ lw_all := lw_g (lw_at lw_m4 123 rfl) rfl
theorem q962 : (Jvm.Cond.soleField "RapTable$Reader" "size") ∈ lw_all := lw_g (lw_at lw_m4 124 rfl) rfl
theorem q963 : (Jvm.Cond.laysFinal "RapTable$Reader" "RapTable$Reader" "read" "Ljava/util/ArrayList;") ∈ lw_all := lw_g (lw_at lw_m4 125 rfl) rfl
theorem q964 : (Jvm.Cond.soleField "RapTable$Reader" "read") ∈ lw_all := lw_g (lw_at lw_m4 126 rfl) rfl
theorem q965 : (Jvm.Cond.lays "RapTable$Reader" "RapTable$Reader" "at" "I") ∈ lw_all := lw_g (lw_at lw_m4 127 rfl) rfl
theorem q966 : (Jvm.Cond.soleField "RapTable$Reader" "at") ∈ lw_all := lw_g (lw_at lw_m4 128 rfl) rfl
theorem q967 : (Jvm.Cond.lays "RapTable$Reader" "RapTable$Reader" "begin" "I") ∈ lw_all := lw_g (lw_at lw_m4 129 rfl) rfl
theorem q968 : (Jvm.Cond.soleField "RapTable$Reader" "begin") ∈ lw_all := lw_g (lw_at lw_m4 130 rfl) rfl
theorem q969 : (Jvm.Cond.lays "RapTable$Reader" "RapTable$Reader" "token" "I") ∈ lw_all := lw_g (lw_at lw_m4 131 rfl) rfl
theorem q970 : (Jvm.Cond.soleField "RapTable$Reader" "token") ∈ lw_all := lw_g (lw_at lw_m4 132 rfl) rfl
theorem q971 : (Jvm.Cond.lays "RapTable$Reader" "RapTable$Reader" "value" "I") ∈ lw_all := lw_g (lw_at lw_m4 133 rfl) rfl
theorem q972 : (Jvm.Cond.soleField "RapTable$Reader" "value") ∈ lw_all := lw_g (lw_at lw_m4 134 rfl) rfl
theorem q973 : (Jvm.Cond.lays "RapTable$Reader" "RapTable$Reader" "fault" "I") ∈ lw_all := lw_g (lw_at lw_m4 135 rfl) rfl
theorem q974 : (Jvm.Cond.soleField "RapTable$Reader" "fault") ∈ lw_all := lw_g (lw_at lw_m4 136 rfl) rfl
theorem q975 : (Jvm.Cond.lays "RapTable$Reader" "RapTable$Reader" "place" "I") ∈ lw_all := lw_g (lw_at lw_m4 137 rfl) rfl
theorem q976 : (Jvm.Cond.soleField "RapTable$Reader" "place") ∈ lw_all := lw_g (lw_at lw_m4 138 rfl) rfl
theorem q977 : (Jvm.Cond.lays "RapTable$Reader" "RapTable$Reader" "readLoss" "I") ∈ lw_all := lw_g (lw_at lw_m4 139 rfl) rfl
theorem q978 : (Jvm.Cond.soleField "RapTable$Reader" "readLoss") ∈ lw_all := lw_g (lw_at lw_m4 140 rfl) rfl
theorem q979 : (Jvm.Cond.lays "RapTable$Reader" "RapTable$Reader" "readSmooth" "I") ∈ lw_all := lw_g (lw_at lw_m4 141 rfl) rfl
theorem q980 : (Jvm.Cond.soleField "RapTable$Reader" "readSmooth") ∈ lw_all := lw_g (lw_at lw_m4 142 rfl) rfl
theorem q981 : (Jvm.Cond.laysFinal "RapTable$Reader" "RapTable$Reader" "this$0" "LRapTable;") ∈ lw_all := lw_g (lw_at lw_m4 143 rfl) rfl
theorem q982 : (Jvm.Cond.soleField "RapTable$Reader" "this$0") ∈ lw_all := lw_g (lw_at lw_m4 144 rfl) rfl
theorem q983 : (Jvm.Cond.superclass "RapTable$Reader" "java/lang/Object") ∈ lw_all := lw_g (lw_at lw_m4 145 rfl) rfl
theorem q985 : (Jvm.Cond.instanceMethod ({ cls := "RapTable$Reader", name := "all", desc := "()V" } : Jvm.MethodName)) ∈ lw_all := lw_g (lw_at lw_m4 147 rfl) rfl
theorem q986 : (Jvm.Cond.selects "RapTable$Reader" ({ cls := "RapTable$Reader", name := "all", desc := "()V" } : Jvm.MethodName) ({ cls := "RapTable$Reader", name := "all", desc := "()V" } : Jvm.MethodName)) ∈ lw_all := lw_g (lw_at lw_m4 148 rfl) rfl
theorem q987 : (Jvm.Cond.code ({ cls := "RapTable$Reader", name := "all", desc := "()V" } : Jvm.MethodName) prog_14_method_13_code (1 : Nat) (Option.none : Option Jvm.ClassFile.FieldType)) ∈ lw_all := lw_g (lw_at lw_m4 149 rfl) rfl
theorem q988 : (Jvm.Cond.methodLink "RapTable$Reader" (118 : Nat) ({ cls := "RapTable$Reader", name := "next", desc := "()V" } : Jvm.MethodName)) ∈ lw_all := lw_g (lw_at lw_m4 150 rfl) rfl
theorem q989 : (Jvm.Cond.privateMethod ({ cls := "RapTable$Reader", name := "next", desc := "()V" } : Jvm.MethodName)) ∈ lw_tbl := lw_at lw_m4 151 rfl
theorem q990 : (Jvm.Cond.instanceMethod ({ cls := "RapTable$Reader", name := "next", desc := "()V" } : Jvm.MethodName)) ∈ lw_all := lw_g (lw_at lw_m4 152 rfl) rfl
theorem q991 : (Jvm.Cond.code ({ cls := "RapTable$Reader", name := "next", desc := "()V" } : Jvm.MethodName) prog_14_method_5_code (1 : Nat) (Option.none : Option Jvm.ClassFile.FieldType)) ∈ lw_all := lw_g (lw_at lw_m4 153 rfl) rfl
theorem q992 : (Jvm.Cond.methodLink "RapTable$Reader" (35 : Nat) ({ cls := "RapTable$Reader", name := "see", desc := "(I)I" } : Jvm.MethodName)) ∈ lw_all := lw_g (lw_at lw_m4 154 rfl) rfl
theorem q993 : (Jvm.Cond.privateMethod ({ cls := "RapTable$Reader", name := "see", desc := "(I)I" } : Jvm.MethodName)) ∈ lw_tbl := lw_at lw_m4 155 rfl
theorem q994 : (Jvm.Cond.instanceMethod ({ cls := "RapTable$Reader", name := "see", desc := "(I)I" } : Jvm.MethodName)) ∈ lw_all := lw_g (lw_at lw_m4 156 rfl) rfl
theorem q995 : (Jvm.Cond.code ({ cls := "RapTable$Reader", name := "see", desc := "(I)I" } : Jvm.MethodName) prog_14_method_2_code (2 : Nat) (Option.some Jvm.ClassFile.FieldType.int)) ∈ lw_all := lw_g (lw_at lw_m4 157 rfl) rfl
theorem q996 : (Jvm.Cond.methodLink "RapTable$Reader" (60 : Nat) ({ cls := "RapTable$Reader", name := "isSmall", desc := "(I)Z" } : Jvm.MethodName)) ∈ lw_all := lw_g (lw_at lw_m4 158 rfl) rfl
theorem q997 : (Jvm.Cond.privateMethod ({ cls := "RapTable$Reader", name := "isSmall", desc := "(I)Z" } : Jvm.MethodName)) ∈ lw_tbl := lw_at lw_m4 159 rfl
theorem q998 : (Jvm.Cond.instanceMethod ({ cls := "RapTable$Reader", name := "isSmall", desc := "(I)Z" } : Jvm.MethodName)) ∈ lw_all := lw_g (lw_at lw_m4 160 rfl) rfl
theorem q999 : (Jvm.Cond.code ({ cls := "RapTable$Reader", name := "isSmall", desc := "(I)Z" } : Jvm.MethodName) prog_14_method_3_code (2 : Nat) (Option.some Jvm.ClassFile.FieldType.boolean)) ∈ lw_all := lw_g (lw_at lw_m4 161 rfl) rfl
theorem q1000 : (Jvm.Cond.constantLong "RapTable$Reader" (39 : Nat) (97 : Int64)) ∈ lw_all := lw_g (lw_at lw_m4 162 rfl) rfl
theorem q1001 : (Jvm.Cond.constantLong "RapTable$Reader" (41 : Nat) (122 : Int64)) ∈ lw_all := lw_g (lw_at lw_m4 163 rfl) rfl
theorem q1002 : (Jvm.Cond.methodLinkNest "RapTable$Reader" (43 : Nat) ({ cls := "RapTable", name := "in", desc := "(JJJ)Z" } : Jvm.MethodName) "RapTable") ∈ lw_tbl := lw_at lw_m4 164 rfl
theorem q1003 : (Jvm.Cond.methodLink "RapTable$Reader" (64 : Nat) ({ cls := "RapTable$Reader", name := "isDigit", desc := "(I)Z" } : Jvm.MethodName)) ∈ lw_all := lw_g (lw_at lw_m4 165 rfl) rfl
theorem q1004 : (Jvm.Cond.privateMethod ({ cls := "RapTable$Reader", name := "isDigit", desc := "(I)Z" } : Jvm.MethodName)) ∈ lw_tbl := lw_at lw_m4 166 rfl
theorem q1005 : (Jvm.Cond.instanceMethod ({ cls := "RapTable$Reader", name := "isDigit", desc := "(I)Z" } : Jvm.MethodName)) ∈ lw_all := lw_g (lw_at lw_m4 167 rfl) rfl
theorem q1006 : (Jvm.Cond.code ({ cls := "RapTable$Reader", name := "isDigit", desc := "(I)Z" } : Jvm.MethodName) prog_14_method_4_code (2 : Nat) (Option.some Jvm.ClassFile.FieldType.boolean)) ∈ lw_all := lw_g (lw_at lw_m4 168 rfl) rfl
theorem q1007 : (Jvm.Cond.constantLong "RapTable$Reader" (47 : Nat) (48 : Int64)) ∈ lw_all := lw_g (lw_at lw_m4 169 rfl) rfl
theorem q1008 : (Jvm.Cond.constantLong "RapTable$Reader" (49 : Nat) (57 : Int64)) ∈ lw_all := lw_g (lw_at lw_m4 170 rfl) rfl
theorem q1009 : (Jvm.Cond.stringRef "RapTable$Reader" (83 : Nat) "way") ∈ lw_tbl := lw_at lw_m4 171 rfl
theorem q1010 : (Jvm.Cond.methodLink "RapTable$Reader" (85 : Nat) ({ cls := "RapTable$Reader", name := "is", desc := "(Ljava/lang/String;)Z" } : Jvm.MethodName)) ∈ lw_all := lw_g (lw_at lw_m4 172 rfl) rfl
theorem q1011 : (Jvm.Cond.privateMethod ({ cls := "RapTable$Reader", name := "is", desc := "(Ljava/lang/String;)Z" } : Jvm.MethodName)) ∈ lw_tbl := lw_at lw_m4 173 rfl
theorem q1012 : (Jvm.Cond.instanceMethod ({ cls := "RapTable$Reader", name := "is", desc := "(Ljava/lang/String;)Z" } : Jvm.MethodName)) ∈ lw_all := lw_g (lw_at lw_m4 174 rfl) rfl
theorem q1013 : (Jvm.Cond.code ({ cls := "RapTable$Reader", name := "is", desc := "(Ljava/lang/String;)Z" } : Jvm.MethodName) prog_14_method_7_code (3 : Nat) (Option.some Jvm.ClassFile.FieldType.boolean)) ∈ lw_all := lw_g (lw_at lw_m4 175 rfl) rfl
theorem q1014 : (Jvm.Cond.methodLink "RapTable$Reader" (73 : Nat) ({ cls := "java/lang/String", name := "length", desc := "()I" } : Jvm.MethodName)) ∈ lw_all := lw_g (lw_at lw_m4 176 rfl) rfl
theorem q1024 : (Jvm.Cond.methodLink "RapTable$Reader" (79 : Nat) ({ cls := "java/lang/String", name := "charAt", desc := "(I)C" } : Jvm.MethodName)) ∈ lw_all := lw_g (lw_at lw_m4 186 rfl) rfl
theorem q1060 : (Jvm.Cond.methodLink "RapTable$Reader" (121 : Nat) ({ cls := "RapTable$Reader", name := "way", desc := "()V" } : Jvm.MethodName)) ∈ lw_all := lw_g (lw_at lw_m4 222 rfl) rfl
theorem q1061 : (Jvm.Cond.privateMethod ({ cls := "RapTable$Reader", name := "way", desc := "()V" } : Jvm.MethodName)) ∈ lw_tbl := lw_at lw_m4 223 rfl
theorem q1062 : (Jvm.Cond.instanceMethod ({ cls := "RapTable$Reader", name := "way", desc := "()V" } : Jvm.MethodName)) ∈ lw_all := lw_g (lw_at lw_m4 224 rfl) rfl
theorem q1063 : (Jvm.Cond.code ({ cls := "RapTable$Reader", name := "way", desc := "()V" } : Jvm.MethodName) prog_14_method_15_code (3 : Nat) (Option.none : Option Jvm.ClassFile.FieldType)) ∈ lw_all := lw_g (lw_at lw_m4 225 rfl) rfl
theorem q1064 : (Jvm.Cond.methodLink "RapTable$Reader" (135 : Nat) ({ cls := "java/util/ArrayList", name := "size", desc := "()I" } : Jvm.MethodName)) ∈ lw_all := lw_g (lw_at lw_m4 226 rfl) rfl
theorem q1065 : (Jvm.Cond.methodLink "RapTable$Reader" (115 : Nat) ({ cls := "RapTable$Reader", name := "wrong", desc := "(I)V" } : Jvm.MethodName)) ∈ lw_all := lw_g (lw_at lw_m4 227 rfl) rfl
theorem q1066 : (Jvm.Cond.privateMethod ({ cls := "RapTable$Reader", name := "wrong", desc := "(I)V" } : Jvm.MethodName)) ∈ lw_tbl := lw_at lw_m4 228 rfl
theorem q1067 : (Jvm.Cond.instanceMethod ({ cls := "RapTable$Reader", name := "wrong", desc := "(I)V" } : Jvm.MethodName)) ∈ lw_all := lw_g (lw_at lw_m4 229 rfl) rfl
theorem q1068 : (Jvm.Cond.code ({ cls := "RapTable$Reader", name := "wrong", desc := "(I)V" } : Jvm.MethodName) prog_14_method_6_code (2 : Nat) (Option.none : Option Jvm.ClassFile.FieldType)) ∈ lw_all := lw_g (lw_at lw_m4 230 rfl) rfl
theorem q1069 : (Jvm.Cond.methodLink "RapTable$Reader" (137 : Nat) ({ cls := "RapTable$Reader", name := "isKept", desc := "()Z" } : Jvm.MethodName)) ∈ lw_all := lw_g (lw_at lw_m4 231 rfl) rfl
theorem q1070 : (Jvm.Cond.privateMethod ({ cls := "RapTable$Reader", name := "isKept", desc := "()Z" } : Jvm.MethodName)) ∈ lw_tbl := lw_at lw_m4 232 rfl
theorem q1071 : (Jvm.Cond.instanceMethod ({ cls := "RapTable$Reader", name := "isKept", desc := "()Z" } : Jvm.MethodName)) ∈ lw_all := lw_g (lw_at lw_m4 233 rfl) rfl
theorem q1072 : (Jvm.Cond.code ({ cls := "RapTable$Reader", name := "isKept", desc := "()Z" } : Jvm.MethodName) prog_14_method_8_code (1 : Nat) (Option.some Jvm.ClassFile.FieldType.boolean)) ∈ lw_all := lw_g (lw_at lw_m4 234 rfl) rfl
theorem q1073 : (Jvm.Cond.stringRef "RapTable$Reader" (89 : Nat) "memory") ∈ lw_tbl := lw_at lw_m4 235 rfl
theorem q1074 : (Jvm.Cond.methodLink "RapTable$Reader" (91 : Nat) ({ cls := "RapTable$Reader", name := "isStep", desc := "()Z" } : Jvm.MethodName)) ∈ lw_all := lw_g (lw_at lw_m4 236 rfl) rfl
theorem q1075 : (Jvm.Cond.privateMethod ({ cls := "RapTable$Reader", name := "isStep", desc := "()Z" } : Jvm.MethodName)) ∈ lw_tbl := lw_at lw_m4 237 rfl
theorem q1076 : (Jvm.Cond.instanceMethod ({ cls := "RapTable$Reader", name := "isStep", desc := "()Z" } : Jvm.MethodName)) ∈ lw_all := lw_g (lw_at lw_m4 238 rfl) rfl
theorem q1077 : (Jvm.Cond.code ({ cls := "RapTable$Reader", name := "isStep", desc := "()Z" } : Jvm.MethodName) prog_14_method_9_code (1 : Nat) (Option.some Jvm.ClassFile.FieldType.boolean)) ∈ lw_all := lw_g (lw_at lw_m4 239 rfl) rfl
theorem q1078 : (Jvm.Cond.stringRef "RapTable$Reader" (99 : Nat) "free") ∈ lw_tbl := lw_at lw_m5 0 rfl
theorem q1079 : (Jvm.Cond.stringRef "RapTable$Reader" (101 : Nat) "move") ∈ lw_tbl := lw_at lw_m5 1 rfl
theorem q1080 : (Jvm.Cond.stringRef "RapTable$Reader" (103 : Nat) "wait") ∈ lw_tbl := lw_at lw_m5 2 rfl
theorem q1081 : (Jvm.Cond.stringRef "RapTable$Reader" (105 : Nat) "dark") ∈ lw_tbl := lw_at lw_m5 3 rfl
theorem q1082 : (Jvm.Cond.stringRef "RapTable$Reader" (107 : Nat) "away") ∈ lw_tbl := lw_at lw_m5 4 rfl
theorem q1083 : (Jvm.Cond.stringRef "RapTable$Reader" (109 : Nat) "swap") ∈ lw_tbl := lw_at lw_m5 5 rfl
theorem q1084 : (Jvm.Cond.stringRef "RapTable$Reader" (111 : Nat) "call") ∈ lw_tbl := lw_at lw_m5 6 rfl
theorem q1085 : (Jvm.Cond.stringRef "RapTable$Reader" (113 : Nat) "ready") ∈ lw_tbl := lw_at lw_m5 7 rfl
theorem q1086 : (Jvm.Cond.stringRef "RapTable$Reader" (95 : Nat) "left") ∈ lw_tbl := lw_at lw_m5 8 rfl
theorem q1087 : (Jvm.Cond.stringRef "RapTable$Reader" (97 : Nat) "right") ∈ lw_tbl := lw_at lw_m5 9 rfl
theorem q1088 : (Jvm.Cond.classLink "RapTable$Reader" (140 : Nat) "RapTable$Way") ∈ lw_all := lw_g (lw_at lw_m5 10 rfl) rfl
theorem q1090 : (Jvm.Cond.methodLink "RapTable$Reader" (142 : Nat) ({ cls := "RapTable$Reader", name := "name", desc := "()[B" } : Jvm.MethodName)) ∈ lw_all := lw_g (lw_at lw_m5 12 rfl) rfl
theorem q1091 : (Jvm.Cond.privateMethod ({ cls := "RapTable$Reader", name := "name", desc := "()[B" } : Jvm.MethodName)) ∈ lw_tbl := lw_at lw_m5 13 rfl
theorem q1092 : (Jvm.Cond.instanceMethod ({ cls := "RapTable$Reader", name := "name", desc := "()[B" } : Jvm.MethodName)) ∈ lw_all := lw_g (lw_at lw_m5 14 rfl) rfl
theorem q1093 : (Jvm.Cond.code ({ cls := "RapTable$Reader", name := "name", desc := "()[B" } : Jvm.MethodName) prog_14_method_10_code (3 : Nat) (Option.some (Jvm.ClassFile.FieldType.array Jvm.ClassFile.FieldType.byte))) ∈ lw_all := lw_g (lw_at lw_m5 15 rfl) rfl
theorem q1094 : (Jvm.Cond.methodLink "RapTable$Reader" (146 : Nat) ({ cls := "RapTable$Way", name := "<init>", desc := "([B)V" } : Jvm.MethodName)) ∈ lw_all := lw_g (lw_at lw_m5 16 rfl) rfl
theorem q1101 : (Jvm.Cond.fieldLinkNest "RapTable$Reader" (153 : Nat) "RapTable$Way" "name" "[B" "RapTable") ∈ lw_tbl := lw_at lw_m5 23 rfl
theorem q1103 : (Jvm.Cond.fieldLinkNest "RapTable$Reader" (159 : Nat) "RapTable$Way" "steps" "Ljava/util/ArrayList;" "RapTable") ∈ lw_tbl := lw_at lw_m5 25 rfl
theorem q1114 : (Jvm.Cond.methodLink "RapTable$Reader" (149 : Nat) ({ cls := "java/util/ArrayList", name := "get", desc := "(I)Ljava/lang/Object;" } : Jvm.MethodName)) ∈ lw_all := lw_g (lw_at lw_m5 36 rfl) rfl
theorem q1115 : (Jvm.Cond.methodLink "RapTable$Reader" (155 : Nat) ({ cls := "RapTable$Way", name := "isCalled", desc := "([B)Z" } : Jvm.MethodName)) ∈ lw_all := lw_g (lw_at lw_m5 37 rfl) rfl
theorem q1119 : (Jvm.Cond.methodLink "RapTable$Reader" (162 : Nat) ({ cls := "RapTable$Reader", name := "step", desc := "()LRapTable$Step;" } : Jvm.MethodName)) ∈ lw_all := lw_g (lw_at lw_m5 41 rfl) rfl
theorem q1120 : (Jvm.Cond.privateMethod ({ cls := "RapTable$Reader", name := "step", desc := "()LRapTable$Step;" } : Jvm.MethodName)) ∈ lw_tbl := lw_at lw_m5 42 rfl
theorem q1121 : (Jvm.Cond.instanceMethod ({ cls := "RapTable$Reader", name := "step", desc := "()LRapTable$Step;" } : Jvm.MethodName)) ∈ lw_all := lw_g (lw_at lw_m5 43 rfl) rfl
theorem q1122 : (Jvm.Cond.code ({ cls := "RapTable$Reader", name := "step", desc := "()LRapTable$Step;" } : Jvm.MethodName) prog_14_method_16_code (10 : Nat) (Option.some (Jvm.ClassFile.FieldType.object "RapTable$Step"))) ∈ lw_all := lw_g (lw_at lw_m5 44 rfl) rfl
theorem q1123 : (Jvm.Cond.classLink "RapTable$Reader" (173 : Nat) "RapTable$Free") ∈ lw_all := lw_g (lw_at lw_m5 45 rfl) rfl
theorem q1125 : (Jvm.Cond.methodLink "RapTable$Reader" (175 : Nat) ({ cls := "RapTable$Reader", name := "side", desc := "()I" } : Jvm.MethodName)) ∈ lw_all := lw_g (lw_at lw_m5 47 rfl) rfl
theorem q1126 : (Jvm.Cond.privateMethod ({ cls := "RapTable$Reader", name := "side", desc := "()I" } : Jvm.MethodName)) ∈ lw_tbl := lw_at lw_m5 48 rfl
theorem q1127 : (Jvm.Cond.instanceMethod ({ cls := "RapTable$Reader", name := "side", desc := "()I" } : Jvm.MethodName)) ∈ lw_all := lw_g (lw_at lw_m5 49 rfl) rfl
theorem q1128 : (Jvm.Cond.code ({ cls := "RapTable$Reader", name := "side", desc := "()I" } : Jvm.MethodName) prog_14_method_12_code (2 : Nat) (Option.some Jvm.ClassFile.FieldType.int)) ∈ lw_all := lw_g (lw_at lw_m5 50 rfl) rfl
theorem q1129 : (Jvm.Cond.methodLink "RapTable$Reader" (178 : Nat) ({ cls := "RapTable$Free", name := "<init>", desc := "(I)V" } : Jvm.MethodName)) ∈ lw_all := lw_g (lw_at lw_m5 51 rfl) rfl
theorem q1140 : (Jvm.Cond.classLink "RapTable$Reader" (179 : Nat) "RapTable$Swap") ∈ lw_all := lw_g (lw_at lw_m5 62 rfl) rfl
theorem q1142 : (Jvm.Cond.methodLink "RapTable$Reader" (181 : Nat) ({ cls := "RapTable$Swap", name := "<init>", desc := "(I)V" } : Jvm.MethodName)) ∈ lw_all := lw_g (lw_at lw_m5 64 rfl) rfl
theorem q1150 : (Jvm.Cond.classLink "RapTable$Reader" (182 : Nat) "RapTable$Wait") ∈ lw_all := lw_g (lw_at lw_m5 72 rfl) rfl
theorem q1152 : (Jvm.Cond.methodLink "RapTable$Reader" (125 : Nat) ({ cls := "RapTable$Reader", name := "number", desc := "(II)I" } : Jvm.MethodName)) ∈ lw_all := lw_g (lw_at lw_m5 74 rfl) rfl
theorem q1153 : (Jvm.Cond.privateMethod ({ cls := "RapTable$Reader", name := "number", desc := "(II)I" } : Jvm.MethodName)) ∈ lw_tbl := lw_at lw_m5 75 rfl
theorem q1154 : (Jvm.Cond.instanceMethod ({ cls := "RapTable$Reader", name := "number", desc := "(II)I" } : Jvm.MethodName)) ∈ lw_all := lw_g (lw_at lw_m5 76 rfl) rfl
theorem q1155 : (Jvm.Cond.code ({ cls := "RapTable$Reader", name := "number", desc := "(II)I" } : Jvm.MethodName) prog_14_method_11_code (4 : Nat) (Option.some Jvm.ClassFile.FieldType.int)) ∈ lw_all := lw_g (lw_at lw_m5 77 rfl) rfl
theorem q1156 : (Jvm.Cond.methodLink "RapTable$Reader" (184 : Nat) ({ cls := "RapTable$Wait", name := "<init>", desc := "(I)V" } : Jvm.MethodName)) ∈ lw_all := lw_g (lw_at lw_m5 78 rfl) rfl
theorem q1164 : (Jvm.Cond.classLink "RapTable$Reader" (185 : Nat) "RapTable$Dark") ∈ lw_all := lw_g (lw_at lw_m5 86 rfl) rfl
theorem q1166 : (Jvm.Cond.methodLink "RapTable$Reader" (187 : Nat) ({ cls := "RapTable$Dark", name := "<init>", desc := "(I)V" } : Jvm.MethodName)) ∈ lw_all := lw_g (lw_at lw_m5 88 rfl) rfl
theorem q1174 : (Jvm.Cond.classLink "RapTable$Reader" (188 : Nat) "RapTable$Call") ∈ lw_all := lw_g (lw_at lw_m5 96 rfl) rfl
theorem q1176 : (Jvm.Cond.methodLink "RapTable$Reader" (190 : Nat) ({ cls := "RapTable$Call", name := "<init>", desc := "(I)V" } : Jvm.MethodName)) ∈ lw_all := lw_g (lw_at lw_m5 98 rfl) rfl
theorem q1184 : (Jvm.Cond.classLink "RapTable$Reader" (191 : Nat) "RapTable$Away") ∈ lw_all := lw_g (lw_at lw_m5 106 rfl) rfl
theorem q1186 : (Jvm.Cond.methodLinkNest "RapTable$Reader" (193 : Nat) ({ cls := "RapTable$Away", name := "<init>", desc := "()V" } : Jvm.MethodName) "RapTable") ∈ lw_tbl := lw_at lw_m5 108 rfl
theorem q1191 : (Jvm.Cond.classLink "RapTable$Reader" (194 : Nat) "RapTable$Doing") ∈ lw_all := lw_g (lw_at lw_m5 113 rfl) rfl
theorem q1193 : (Jvm.Cond.methodLink "RapTable$Reader" (196 : Nat) ({ cls := "RapTable$Doing", name := "<init>", desc := "(II)V" } : Jvm.MethodName)) ∈ lw_all := lw_g (lw_at lw_m5 115 rfl) rfl
theorem q1202 : (Jvm.Cond.classLink "RapTable$Reader" (199 : Nat) "RapTable$Ready") ∈ lw_all := lw_g (lw_at lw_m5 124 rfl) rfl
theorem q1204 : (Jvm.Cond.methodLink "RapTable$Reader" (201 : Nat) ({ cls := "RapTable$Ready", name := "<init>", desc := "(II)V" } : Jvm.MethodName)) ∈ lw_all := lw_g (lw_at lw_m5 126 rfl) rfl
theorem q1215 : (Jvm.Cond.methodLink "RapTable$Reader" (166 : Nat) ({ cls := "RapTable$Way", name := "add", desc := "(LRapTable$Step;)V" } : Jvm.MethodName)) ∈ lw_all := lw_g (lw_at lw_m5 137 rfl) rfl
theorem q1221 : (Jvm.Cond.methodLink "RapTable$Reader" (170 : Nat) ({ cls := "java/util/ArrayList", name := "add", desc := "(Ljava/lang/Object;)Z" } : Jvm.MethodName)) ∈ lw_all := lw_g (lw_at lw_m5 143 rfl) rfl
theorem q1222 : (Jvm.Cond.methodLink "RapTable$Reader" (123 : Nat) ({ cls := "RapTable$Reader", name := "memory", desc := "()V" } : Jvm.MethodName)) ∈ lw_all := lw_g (lw_at lw_m5 144 rfl) rfl
theorem q1223 : (Jvm.Cond.privateMethod ({ cls := "RapTable$Reader", name := "memory", desc := "()V" } : Jvm.MethodName)) ∈ lw_tbl := lw_at lw_m5 145 rfl
theorem q1224 : (Jvm.Cond.instanceMethod ({ cls := "RapTable$Reader", name := "memory", desc := "()V" } : Jvm.MethodName)) ∈ lw_all := lw_g (lw_at lw_m5 146 rfl) rfl
theorem q1225 : (Jvm.Cond.code ({ cls := "RapTable$Reader", name := "memory", desc := "()V" } : Jvm.MethodName) prog_14_method_14_code (3 : Nat) (Option.none : Option Jvm.ClassFile.FieldType)) ∈ lw_all := lw_g (lw_at lw_m5 147 rfl) rfl
theorem q2249 : (Jvm.Cond.castable "RapTable$Reader" "java/lang/Object") ∈ lw_tbl := lw_at lw_m9 211 rfl
theorem q139 : (Jvm.Cond.initialized "RapTable$Way") ∈ lw_all := lw_g (lw_at lw_m1 21 rfl) rfl
theorem q561 : (Jvm.Cond.selects "RapTable$Way" ({ cls := "java/lang/Object", name := "getClass", desc := "()Ljava/lang/Class;" } : Jvm.MethodName) ({ cls := "java/lang/Object", name := "getClass", desc := "()Ljava/lang/Class;" } : Jvm.MethodName)) ∈ lw_all := lw_g (lw_at lw_m2 203 rfl) rfl
theorem q1089 : (Jvm.Cond.instantiable "RapTable$Way" (3 : Nat)) ∈ lw_all := lw_g (lw_at lw_m5 11 rfl) rfl
theorem q1095 : (Jvm.Cond.instanceMethod ({ cls := "RapTable$Way", name := "<init>", desc := "([B)V" } : Jvm.MethodName)) ∈ lw_all := lw_g (lw_at lw_m5 17 rfl) rfl
theorem q1096 : (Jvm.Cond.code ({ cls := "RapTable$Way", name := "<init>", desc := "([B)V" } : Jvm.MethodName) prog_24_method_1_code (2 : Nat) (Option.none : Option Jvm.ClassFile.FieldType)) ∈ lw_all := lw_g (lw_at lw_m5 18 rfl) rfl
theorem q1097 : (Jvm.Cond.methodLink "RapTable$Way" (1 : Nat) ({ cls := "java/lang/Object", name := "<init>", desc := "()V" } : Jvm.MethodName)) ∈ lw_all := lw_g (lw_at lw_m5 19 rfl) rfl
theorem q1098 : (Jvm.Cond.classLink "RapTable$Way" (7 : Nat) "java/util/ArrayList") ∈ lw_all := lw_g (lw_at lw_m5 20 rfl) rfl
theorem q1099 : (Jvm.Cond.methodLink "RapTable$Way" (9 : Nat) ({ cls := "java/util/ArrayList", name := "<init>", desc := "(I)V" } : Jvm.MethodName)) ∈ lw_all := lw_g (lw_at lw_m5 21 rfl) rfl
theorem q1100 : (Jvm.Cond.fieldLink "RapTable$Way" (18 : Nat) "RapTable$Way" "name" "[B") ∈ lw_all := lw_g (lw_at lw_m5 22 rfl) rfl
theorem q1102 : (Jvm.Cond.fieldLink "RapTable$Way" (12 : Nat) "RapTable$Way" "steps" "Ljava/util/ArrayList;") ∈ lw_all := lw_g (lw_at lw_m5 24 rfl) rfl
theorem q1105 : (Jvm.Cond.fieldLink "RapTable$Way" (26 : Nat) "RapTable$Way" "seconds" "I") ∈ lw_all := lw_g (lw_at lw_m5 27 rfl) rfl
theorem q1107 : (Jvm.Cond.laysFinal "RapTable$Way" "RapTable$Way" "name" "[B") ∈ lw_all := lw_g (lw_at lw_m5 29 rfl) rfl
theorem q1108 : (Jvm.Cond.soleField "RapTable$Way" "name") ∈ lw_all := lw_g (lw_at lw_m5 30 rfl) rfl
theorem q1109 : (Jvm.Cond.laysFinal "RapTable$Way" "RapTable$Way" "steps" "Ljava/util/ArrayList;") ∈ lw_all := lw_g (lw_at lw_m5 31 rfl) rfl
theorem q1110 : (Jvm.Cond.soleField "RapTable$Way" "steps") ∈ lw_all := lw_g (lw_at lw_m5 32 rfl) rfl
theorem q1111 : (Jvm.Cond.lays "RapTable$Way" "RapTable$Way" "seconds" "I") ∈ lw_all := lw_g (lw_at lw_m5 33 rfl) rfl
theorem q1112 : (Jvm.Cond.soleField "RapTable$Way" "seconds") ∈ lw_all := lw_g (lw_at lw_m5 34 rfl) rfl
theorem q1113 : (Jvm.Cond.superclass "RapTable$Way" "java/lang/Object") ∈ lw_all := lw_g (lw_at lw_m5 35 rfl) rfl
theorem q1116 : (Jvm.Cond.instanceMethod ({ cls := "RapTable$Way", name := "isCalled", desc := "([B)Z" } : Jvm.MethodName)) ∈ lw_all := lw_g (lw_at lw_m5 38 rfl) rfl
theorem q1117 : (Jvm.Cond.selects "RapTable$Way" ({ cls := "RapTable$Way", name := "isCalled", desc := "([B)Z" } : Jvm.MethodName) ({ cls := "RapTable$Way", name := "isCalled", desc := "([B)Z" } : Jvm.MethodName)) ∈ lw_all := lw_g (lw_at lw_m5 39 rfl) rfl
theorem q1118 : (Jvm.Cond.code ({ cls := "RapTable$Way", name := "isCalled", desc := "([B)Z" } : Jvm.MethodName) prog_24_method_3_code (3 : Nat) (Option.some Jvm.ClassFile.FieldType.boolean)) ∈ lw_all := lw_g (lw_at lw_m5 40 rfl) rfl
theorem q1216 : (Jvm.Cond.instanceMethod ({ cls := "RapTable$Way", name := "add", desc := "(LRapTable$Step;)V" } : Jvm.MethodName)) ∈ lw_all := lw_g (lw_at lw_m5 138 rfl) rfl
theorem q1217 : (Jvm.Cond.selects "RapTable$Way" ({ cls := "RapTable$Way", name := "add", desc := "(LRapTable$Step;)V" } : Jvm.MethodName) ({ cls := "RapTable$Way", name := "add", desc := "(LRapTable$Step;)V" } : Jvm.MethodName)) ∈ lw_all := lw_g (lw_at lw_m5 139 rfl) rfl
theorem q1218 : (Jvm.Cond.code ({ cls := "RapTable$Way", name := "add", desc := "(LRapTable$Step;)V" } : Jvm.MethodName) prog_24_method_2_code (2 : Nat) (Option.none : Option Jvm.ClassFile.FieldType)) ∈ lw_all := lw_g (lw_at lw_m5 140 rfl) rfl
theorem q1219 : (Jvm.Cond.methodLink "RapTable$Way" (22 : Nat) ({ cls := "java/util/ArrayList", name := "add", desc := "(Ljava/lang/Object;)Z" } : Jvm.MethodName)) ∈ lw_all := lw_g (lw_at lw_m5 141 rfl) rfl
theorem q1220 : (Jvm.Cond.methodLink "RapTable$Way" (30 : Nat) ({ cls := "RapTable$Step", name := "seconds", desc := "()I" } : Jvm.MethodName)) ∈ lw_all := lw_g (lw_at lw_m5 142 rfl) rfl
theorem q2250 : (Jvm.Cond.castable "RapTable$Way" "java/lang/Object") ∈ lw_tbl := lw_at lw_m9 212 rfl
theorem q140 : (Jvm.Cond.initialized "RapTable$Step") ∈ lw_all := lw_g (lw_at lw_m1 22 rfl) rfl
theorem q812 : (Jvm.Cond.instanceMethod ({ cls := "RapTable$Step", name := "asks", desc := "()Z" } : Jvm.MethodName)) ∈ lw_all := lw_g (lw_at lw_m3 214 rfl) rfl
theorem q813 : (Jvm.Cond.sameMethod "RapTable$Step" "RapTable$Step" "asks" "()Z") ∈ lw_all := lw_g (lw_at lw_m3 215 rfl) rfl
theorem q826 : (Jvm.Cond.code ({ cls := "RapTable$Step", name := "asks", desc := "()Z" } : Jvm.MethodName) prog_19_method_3_code (1 : Nat) (Option.some Jvm.ClassFile.FieldType.boolean)) ∈ lw_all := lw_g (lw_at lw_m3 228 rfl) rfl
theorem q828 : (Jvm.Cond.declares ({ cls := "RapTable$Step", name := "goes", desc := "(LRapTable;LRapTable$Run;I)Z" } : Jvm.MethodName)) ∈ lw_tbl := lw_at lw_m3 230 rfl
theorem q829 : (Jvm.Cond.sameMethod "RapTable$Step" "RapTable$Step" "goes" "(LRapTable;LRapTable$Run;I)Z") ∈ lw_all := lw_g (lw_at lw_m3 231 rfl) rfl
theorem q914 : (Jvm.Cond.instanceMethod ({ cls := "RapTable$Step", name := "seconds", desc := "()I" } : Jvm.MethodName)) ∈ lw_all := lw_g (lw_at lw_m4 76 rfl) rfl
theorem q915 : (Jvm.Cond.sameMethod "RapTable$Step" "RapTable$Step" "seconds" "()I") ∈ lw_all := lw_g (lw_at lw_m4 77 rfl) rfl
theorem q924 : (Jvm.Cond.code ({ cls := "RapTable$Step", name := "seconds", desc := "()I" } : Jvm.MethodName) prog_19_method_2_code (1 : Nat) (Option.some Jvm.ClassFile.FieldType.int)) ∈ lw_all := lw_g (lw_at lw_m4 86 rfl) rfl
theorem q1133 : (Jvm.Cond.instanceMethod ({ cls := "RapTable$Step", name := "<init>", desc := "()V" } : Jvm.MethodName)) ∈ lw_all := lw_g (lw_at lw_m5 55 rfl) rfl
theorem q1134 : (Jvm.Cond.code ({ cls := "RapTable$Step", name := "<init>", desc := "()V" } : Jvm.MethodName) prog_19_method_1_code (1 : Nat) (Option.none : Option Jvm.ClassFile.FieldType)) ∈ lw_all := lw_g (lw_at lw_m5 56 rfl) rfl
theorem q1135 : (Jvm.Cond.methodLink "RapTable$Step" (1 : Nat) ({ cls := "java/lang/Object", name := "<init>", desc := "()V" } : Jvm.MethodName)) ∈ lw_all := lw_g (lw_at lw_m5 57 rfl) rfl
theorem q118 : (Jvm.Cond.initialized "RapTableLaw") ∈ lw_all := lw_g (lw_at lw_m1 0 rfl) rfl
theorem q157 : (Jvm.Cond.methodLink "RapTableLaw" (183 : Nat) ({ cls := "RapTable", name := "status", desc := "(I)I" } : Jvm.MethodName)) ∈ lw_all := lw_g (lw_at lw_m1 39 rfl) rfl
theorem q165 : (Jvm.Cond.classLink "RapTableLaw" (7 : Nat) "RapTable") ∈ lw_all := lw_g (lw_at lw_m1 47 rfl) rfl
theorem q167 : (Jvm.Cond.methodLink "RapTableLaw" (9 : Nat) ({ cls := "RapTable", name := "<init>", desc := "()V" } : Jvm.MethodName)) ∈ lw_all := lw_g (lw_at lw_m1 49 rfl) rfl
theorem q432 : (Jvm.Cond.methodLink "RapTableLaw" (13 : Nat) ({ cls := "RapTable", name := "room", desc := "(I)Z" } : Jvm.MethodName)) ∈ lw_all := lw_g (lw_at lw_m2 74 rfl) rfl
theorem q446 : (Jvm.Cond.methodLink "RapTableLaw" (18 : Nat) ({ cls := "RapTable", name := "person", desc := "(III)Z" } : Jvm.MethodName)) ∈ lw_all := lw_g (lw_at lw_m2 88 rfl) rfl
theorem q454 : (Jvm.Cond.methodLink "RapTableLaw" (23 : Nat) ({ cls := "RapTable", name := "light", desc := "(III)Z" } : Jvm.MethodName)) ∈ lw_all := lw_g (lw_at lw_m2 96 rfl) rfl
theorem q465 : (Jvm.Cond.methodLink "RapTableLaw" (27 : Nat) ({ cls := "RapTable", name := "attend", desc := "(IIII)Z" } : Jvm.MethodName)) ∈ lw_all := lw_g (lw_at lw_m2 107 rfl) rfl
theorem q473 : (Jvm.Cond.methodLink "RapTableLaw" (32 : Nat) ({ cls := "RapTable", name := "lead", desc := "(IIII)I" } : Jvm.MethodName)) ∈ lw_all := lw_g (lw_at lw_m2 115 rfl) rfl
theorem q577 : (Jvm.Cond.methodLink "RapTableLaw" (37 : Nat) ({ cls := "RapTable", name := "hold", desc := "(IIIII)Z" } : Jvm.MethodName)) ∈ lw_all := lw_g (lw_at lw_m2 219 rfl) rfl
theorem q589 : (Jvm.Cond.methodLink "RapTableLaw" (42 : Nat) ({ cls := "RapTable", name := "thing", desc := "(I)I" } : Jvm.MethodName)) ∈ lw_all := lw_g (lw_at lw_m2 231 rfl) rfl
theorem q593 : (Jvm.Cond.methodLink "RapTableLaw" (47 : Nat) ({ cls := "RapTable", name := "move", desc := "(IIII)I" } : Jvm.MethodName)) ∈ lw_all := lw_g (lw_at lw_m2 235 rfl) rfl
theorem q687 : (Jvm.Cond.methodLink "RapTableLaw" (51 : Nat) ({ cls := "RapTable", name := "where", desc := "(II)I" } : Jvm.MethodName)) ∈ lw_all := lw_g (lw_at lw_m3 89 rfl) rfl
theorem q691 : (Jvm.Cond.methodLink "RapTableLaw" (75 : Nat) ({ cls := "RapTable", name := "image", desc := "(I)Z" } : Jvm.MethodName)) ∈ lw_all := lw_g (lw_at lw_m3 93 rfl) rfl
theorem q705 : (Jvm.Cond.methodLink "RapTableLaw" (79 : Nat) ({ cls := "RapTable", name := "restore", desc := "(I)Z" } : Jvm.MethodName)) ∈ lw_all := lw_g (lw_at lw_m3 107 rfl) rfl
theorem q709 : (Jvm.Cond.methodLink "RapTableLaw" (60 : Nat) ({ cls := "RapTable", name := "at", desc := "(III)I" } : Jvm.MethodName)) ∈ lw_all := lw_g (lw_at lw_m3 111 rfl) rfl
theorem q753 : (Jvm.Cond.methodLink "RapTableLaw" (65 : Nat) ({ cls := "RapTable", name := "vouch", desc := "(IIZ)I" } : Jvm.MethodName)) ∈ lw_all := lw_g (lw_at lw_m3 155 rfl) rfl
theorem q769 : (Jvm.Cond.methodLink "RapTableLaw" (70 : Nat) ({ cls := "RapTable", name := "gap", desc := "(IZI)I" } : Jvm.MethodName)) ∈ lw_all := lw_g (lw_at lw_m3 171 rfl) rfl
theorem q773 : (Jvm.Cond.methodLink "RapTableLaw" (56 : Nat) ({ cls := "RapTable", name := "saw", desc := "(II)I" } : Jvm.MethodName)) ∈ lw_all := lw_g (lw_at lw_m3 175 rfl) rfl
theorem q781 : (Jvm.Cond.methodLink "RapTableLaw" (96 : Nat) ({ cls := "RapTable", name := "way", desc := "(II)I" } : Jvm.MethodName)) ∈ lw_all := lw_g (lw_at lw_m3 183 rfl) rfl
theorem q790 : (Jvm.Cond.methodLink "RapTableLaw" (100 : Nat) ({ cls := "RapTable", name := "fits", desc := "(IIIIIII)I" } : Jvm.MethodName)) ∈ lw_all := lw_g (lw_at lw_m3 192 rfl) rfl
theorem q925 : (Jvm.Cond.methodLink "RapTableLaw" (83 : Nat) ({ cls := "RapTable", name := "feed", desc := "(IIIII)I" } : Jvm.MethodName)) ∈ lw_all := lw_g (lw_at lw_m4 87 rfl) rfl
theorem q933 : (Jvm.Cond.methodLink "RapTableLaw" (88 : Nat) ({ cls := "RapTable", name := "text", desc := "(I)I" } : Jvm.MethodName)) ∈ lw_all := lw_g (lw_at lw_m4 95 rfl) rfl
theorem q1226 : (Jvm.Cond.methodLink "RapTableLaw" (92 : Nat) ({ cls := "RapTable", name := "fault", desc := "(I)I" } : Jvm.MethodName)) ∈ lw_all := lw_g (lw_at lw_m5 148 rfl) rfl
theorem q1230 : (Jvm.Cond.methodLink "RapTableLaw" (105 : Nat) ({ cls := "RapTable", name := "report", desc := "(IIIIIII)I" } : Jvm.MethodName)) ∈ lw_all := lw_g (lw_at lw_m5 152 rfl) rfl
theorem q1310 : (Jvm.Cond.methodLink "RapTableLaw" (109 : Nat) ({ cls := "RapTable", name := "right", desc := "(I)I" } : Jvm.MethodName)) ∈ lw_all := lw_g (lw_at lw_m5 232 rfl) rfl
theorem q1339 : (Jvm.Cond.methodLink "RapTableLaw" (113 : Nat) ({ cls := "RapTable", name := "honest", desc := "(I)I" } : Jvm.MethodName)) ∈ lw_all := lw_g (lw_at lw_m6 21 rfl) rfl
theorem q1353 : (Jvm.Cond.methodLink "RapTableLaw" (117 : Nat) ({ cls := "RapTable", name := "agree", desc := "(II)I" } : Jvm.MethodName)) ∈ lw_all := lw_g (lw_at lw_m6 35 rfl) rfl
theorem q1368 : (Jvm.Cond.methodLink "RapTableLaw" (121 : Nat) ({ cls := "RapTable", name := "stories", desc := "(IZI)I" } : Jvm.MethodName)) ∈ lw_all := lw_g (lw_at lw_m6 50 rfl) rfl
theorem q1382 : (Jvm.Cond.methodLink "RapTableLaw" (125 : Nat) ({ cls := "RapTable", name := "least", desc := "(II)I" } : Jvm.MethodName)) ∈ lw_all := lw_g (lw_at lw_m6 64 rfl) rfl
theorem q1393 : (Jvm.Cond.methodLink "RapTableLaw" (138 : Nat) ({ cls := "RapTable", name := "record", desc := "(II)I" } : Jvm.MethodName)) ∈ lw_all := lw_g (lw_at lw_m6 75 rfl) rfl
theorem q1397 : (Jvm.Cond.methodLink "RapTableLaw" (129 : Nat) ({ cls := "RapTable", name := "pass", desc := "(IIIIII)I" } : Jvm.MethodName)) ∈ lw_all := lw_g (lw_at lw_m6 79 rfl) rfl
theorem q1437 : (Jvm.Cond.methodLink "RapTableLaw" (134 : Nat) ({ cls := "RapTable", name := "culprits", desc := "(I)I" } : Jvm.MethodName)) ∈ lw_all := lw_g (lw_at lw_m6 119 rfl) rfl
theorem q1445 : (Jvm.Cond.methodLink "RapTableLaw" (142 : Nat) ({ cls := "RapTable", name := "control", desc := "(IIIIII)I" } : Jvm.MethodName)) ∈ lw_all := lw_g (lw_at lw_m6 127 rfl) rfl
theorem q1516 : (Jvm.Cond.methodLink "RapTableLaw" (146 : Nat) ({ cls := "RapTable", name := "closes", desc := "(IIIII)I" } : Jvm.MethodName)) ∈ lw_all := lw_g (lw_at lw_m6 198 rfl) rfl
theorem q1532 : (Jvm.Cond.methodLink "RapTableLaw" (150 : Nat) ({ cls := "RapTable", name := "cheapest", desc := "(IIIII)I" } : Jvm.MethodName)) ∈ lw_all := lw_g (lw_at lw_m6 214 rfl) rfl
theorem q1540 : (Jvm.Cond.methodLink "RapTableLaw" (154 : Nat) ({ cls := "RapTable", name := "opens", desc := "(IIIII)I" } : Jvm.MethodName)) ∈ lw_all := lw_g (lw_at lw_m6 222 rfl) rfl
theorem q1544 : (Jvm.Cond.methodLink "RapTableLaw" (158 : Nat) ({ cls := "RapTable", name := "next", desc := "(II)I" } : Jvm.MethodName)) ∈ lw_all := lw_g (lw_at lw_m6 226 rfl) rfl
theorem q1549 : (Jvm.Cond.methodLink "RapTableLaw" (162 : Nat) ({ cls := "RapTable", name := "trial", desc := "(II)I" } : Jvm.MethodName)) ∈ lw_all := lw_g (lw_at lw_m6 231 rfl) rfl
theorem q1554 : (Jvm.Cond.methodLink "RapTableLaw" (166 : Nat) ({ cls := "RapTable", name := "luck", desc := "(I)J" } : Jvm.MethodName)) ∈ lw_all := lw_g (lw_at lw_m6 236 rfl) rfl
theorem q1559 : (Jvm.Cond.methodLink "RapTableLaw" (171 : Nat) ({ cls := "RapTable", name := "chance", desc := "(II)I" } : Jvm.MethodName)) ∈ lw_all := lw_g (lw_at lw_m7 1 rfl) rfl
theorem q1571 : (Jvm.Cond.methodLink "RapTableLaw" (175 : Nat) ({ cls := "RapTable", name := "ease", desc := "(II)I" } : Jvm.MethodName)) ∈ lw_all := lw_g (lw_at lw_m7 13 rfl) rfl
theorem q1579 : (Jvm.Cond.methodLink "RapTableLaw" (179 : Nat) ({ cls := "RapTable", name := "fair", desc := "(IIIIIII)I" } : Jvm.MethodName)) ∈ lw_all := lw_g (lw_at lw_m7 21 rfl) rfl
theorem q1583 : (Jvm.Cond.methodLink "RapTableLaw" (187 : Nat) ({ cls := "RapTable", name := "count", desc := "(I)I" } : Jvm.MethodName)) ∈ lw_all := lw_g (lw_at lw_m7 25 rfl) rfl
theorem q1587 : (Jvm.Cond.classLink "RapTableLaw" (10 : Nat) "RapTableModel") ∈ lw_all := lw_g (lw_at lw_m7 29 rfl) rfl
theorem q1589 : (Jvm.Cond.methodLink "RapTableLaw" (12 : Nat) ({ cls := "RapTableModel", name := "<init>", desc := "()V" } : Jvm.MethodName)) ∈ lw_all := lw_g (lw_at lw_m7 31 rfl) rfl
theorem q1784 : (Jvm.Cond.methodLink "RapTableLaw" (17 : Nat) ({ cls := "RapTableModel", name := "room", desc := "(I)Z" } : Jvm.MethodName)) ∈ lw_all := lw_g (lw_at lw_m7 226 rfl) rfl
theorem q1797 : (Jvm.Cond.methodLink "RapTableLaw" (22 : Nat) ({ cls := "RapTableModel", name := "person", desc := "(III)Z" } : Jvm.MethodName)) ∈ lw_all := lw_g (lw_at lw_m7 239 rfl) rfl
theorem q1805 : (Jvm.Cond.methodLink "RapTableLaw" (26 : Nat) ({ cls := "RapTableModel", name := "light", desc := "(III)Z" } : Jvm.MethodName)) ∈ lw_all := lw_g (lw_at lw_m8 7 rfl) rfl
theorem q1815 : (Jvm.Cond.methodLink "RapTableLaw" (31 : Nat) ({ cls := "RapTableModel", name := "attend", desc := "(IIII)Z" } : Jvm.MethodName)) ∈ lw_all := lw_g (lw_at lw_m8 17 rfl) rfl
theorem q1823 : (Jvm.Cond.methodLink "RapTableLaw" (36 : Nat) ({ cls := "RapTableModel", name := "lead", desc := "(IIII)I" } : Jvm.MethodName)) ∈ lw_all := lw_g (lw_at lw_m8 25 rfl) rfl
theorem q1831 : (Jvm.Cond.methodLink "RapTableLaw" (41 : Nat) ({ cls := "RapTableModel", name := "hold", desc := "(IIIII)Z" } : Jvm.MethodName)) ∈ lw_all := lw_g (lw_at lw_m8 33 rfl) rfl
theorem q1843 : (Jvm.Cond.methodLink "RapTableLaw" (46 : Nat) ({ cls := "RapTableModel", name := "thing", desc := "(I)I" } : Jvm.MethodName)) ∈ lw_all := lw_g (lw_at lw_m8 45 rfl) rfl
theorem q1847 : (Jvm.Cond.methodLink "RapTableLaw" (50 : Nat) ({ cls := "RapTableModel", name := "move", desc := "(IIII)I" } : Jvm.MethodName)) ∈ lw_all := lw_g (lw_at lw_m8 49 rfl) rfl
theorem q1886 : (Jvm.Cond.methodLink "RapTableLaw" (55 : Nat) ({ cls := "RapTableModel", name := "where", desc := "(II)I" } : Jvm.MethodName)) ∈ lw_all := lw_g (lw_at lw_m8 88 rfl) rfl
theorem q1890 : (Jvm.Cond.methodLink "RapTableLaw" (59 : Nat) ({ cls := "RapTableModel", name := "saw", desc := "(II)I" } : Jvm.MethodName)) ∈ lw_all := lw_g (lw_at lw_m8 92 rfl) rfl
theorem q1898 : (Jvm.Cond.methodLink "RapTableLaw" (64 : Nat) ({ cls := "RapTableModel", name := "at", desc := "(III)I" } : Jvm.MethodName)) ∈ lw_all := lw_g (lw_at lw_m8 100 rfl) rfl
theorem q1903 : (Jvm.Cond.methodLink "RapTableLaw" (69 : Nat) ({ cls := "RapTableModel", name := "vouch", desc := "(IIZ)I" } : Jvm.MethodName)) ∈ lw_all := lw_g (lw_at lw_m8 105 rfl) rfl
theorem q1911 : (Jvm.Cond.methodLink "RapTableLaw" (74 : Nat) ({ cls := "RapTableModel", name := "gap", desc := "(IZI)I" } : Jvm.MethodName)) ∈ lw_all := lw_g (lw_at lw_m8 113 rfl) rfl
theorem q1915 : (Jvm.Cond.methodLink "RapTableLaw" (78 : Nat) ({ cls := "RapTableModel", name := "image", desc := "(I)Z" } : Jvm.MethodName)) ∈ lw_all := lw_g (lw_at lw_m8 117 rfl) rfl
theorem q1920 : (Jvm.Cond.methodLink "RapTableLaw" (82 : Nat) ({ cls := "RapTableModel", name := "restore", desc := "(I)Z" } : Jvm.MethodName)) ∈ lw_all := lw_g (lw_at lw_m8 122 rfl) rfl
theorem q1924 : (Jvm.Cond.methodLink "RapTableLaw" (87 : Nat) ({ cls := "RapTableModel", name := "feed", desc := "(IIIII)I" } : Jvm.MethodName)) ∈ lw_all := lw_g (lw_at lw_m8 126 rfl) rfl
theorem q1928 : (Jvm.Cond.methodLink "RapTableLaw" (91 : Nat) ({ cls := "RapTableModel", name := "text", desc := "(I)I" } : Jvm.MethodName)) ∈ lw_all := lw_g (lw_at lw_m8 130 rfl) rfl
theorem q1984 : (Jvm.Cond.methodLink "RapTableLaw" (95 : Nat) ({ cls := "RapTableModel", name := "fault", desc := "(I)I" } : Jvm.MethodName)) ∈ lw_all := lw_g (lw_at lw_m8 186 rfl) rfl
theorem q1988 : (Jvm.Cond.methodLink "RapTableLaw" (99 : Nat) ({ cls := "RapTableModel", name := "way", desc := "(II)I" } : Jvm.MethodName)) ∈ lw_all := lw_g (lw_at lw_m8 190 rfl) rfl
theorem q1996 : (Jvm.Cond.methodLink "RapTableLaw" (104 : Nat) ({ cls := "RapTableModel", name := "fits", desc := "(IIIIIII)I" } : Jvm.MethodName)) ∈ lw_all := lw_g (lw_at lw_m8 198 rfl) rfl
theorem q2036 : (Jvm.Cond.methodLink "RapTableLaw" (108 : Nat) ({ cls := "RapTableModel", name := "report", desc := "(IIIIIII)I" } : Jvm.MethodName)) ∈ lw_all := lw_g (lw_at lw_m8 238 rfl) rfl
theorem q2041 : (Jvm.Cond.methodLink "RapTableLaw" (112 : Nat) ({ cls := "RapTableModel", name := "right", desc := "(I)I" } : Jvm.MethodName)) ∈ lw_all := lw_g (lw_at lw_m9 3 rfl) rfl
theorem q2065 : (Jvm.Cond.methodLink "RapTableLaw" (116 : Nat) ({ cls := "RapTableModel", name := "honest", desc := "(I)I" } : Jvm.MethodName)) ∈ lw_all := lw_g (lw_at lw_m9 27 rfl) rfl
theorem q2073 : (Jvm.Cond.methodLink "RapTableLaw" (120 : Nat) ({ cls := "RapTableModel", name := "agree", desc := "(II)I" } : Jvm.MethodName)) ∈ lw_all := lw_g (lw_at lw_m9 35 rfl) rfl
theorem q2077 : (Jvm.Cond.methodLink "RapTableLaw" (124 : Nat) ({ cls := "RapTableModel", name := "stories", desc := "(IZI)I" } : Jvm.MethodName)) ∈ lw_all := lw_g (lw_at lw_m9 39 rfl) rfl
theorem q2093 : (Jvm.Cond.methodLink "RapTableLaw" (128 : Nat) ({ cls := "RapTableModel", name := "least", desc := "(II)I" } : Jvm.MethodName)) ∈ lw_all := lw_g (lw_at lw_m9 55 rfl) rfl
theorem q2100 : (Jvm.Cond.methodLink "RapTableLaw" (133 : Nat) ({ cls := "RapTableModel", name := "pass", desc := "(IIIIII)I" } : Jvm.MethodName)) ∈ lw_all := lw_g (lw_at lw_m9 62 rfl) rfl
theorem q2136 : (Jvm.Cond.methodLink "RapTableLaw" (137 : Nat) ({ cls := "RapTableModel", name := "culprits", desc := "(I)I" } : Jvm.MethodName)) ∈ lw_all := lw_g (lw_at lw_m9 98 rfl) rfl
theorem q2144 : (Jvm.Cond.methodLink "RapTableLaw" (141 : Nat) ({ cls := "RapTableModel", name := "record", desc := "(II)I" } : Jvm.MethodName)) ∈ lw_all := lw_g (lw_at lw_m9 106 rfl) rfl
theorem q2149 : (Jvm.Cond.methodLink "RapTableLaw" (145 : Nat) ({ cls := "RapTableModel", name := "control", desc := "(IIIIII)I" } : Jvm.MethodName)) ∈ lw_all := lw_g (lw_at lw_m9 111 rfl) rfl
theorem q2154 : (Jvm.Cond.methodLink "RapTableLaw" (149 : Nat) ({ cls := "RapTableModel", name := "closes", desc := "(IIIII)I" } : Jvm.MethodName)) ∈ lw_all := lw_g (lw_at lw_m9 116 rfl) rfl
theorem q2166 : (Jvm.Cond.methodLink "RapTableLaw" (153 : Nat) ({ cls := "RapTableModel", name := "cheapest", desc := "(IIIII)I" } : Jvm.MethodName)) ∈ lw_all := lw_g (lw_at lw_m9 128 rfl) rfl
theorem q2170 : (Jvm.Cond.methodLink "RapTableLaw" (157 : Nat) ({ cls := "RapTableModel", name := "opens", desc := "(IIIII)I" } : Jvm.MethodName)) ∈ lw_all := lw_g (lw_at lw_m9 132 rfl) rfl
theorem q2178 : (Jvm.Cond.methodLink "RapTableLaw" (161 : Nat) ({ cls := "RapTableModel", name := "next", desc := "(II)I" } : Jvm.MethodName)) ∈ lw_all := lw_g (lw_at lw_m9 140 rfl) rfl
theorem q2182 : (Jvm.Cond.methodLink "RapTableLaw" (165 : Nat) ({ cls := "RapTableModel", name := "trial", desc := "(II)I" } : Jvm.MethodName)) ∈ lw_all := lw_g (lw_at lw_m9 144 rfl) rfl
theorem q2187 : (Jvm.Cond.methodLink "RapTableLaw" (170 : Nat) ({ cls := "RapTableModel", name := "luck", desc := "(I)J" } : Jvm.MethodName)) ∈ lw_all := lw_g (lw_at lw_m9 149 rfl) rfl
theorem q2196 : (Jvm.Cond.methodLink "RapTableLaw" (174 : Nat) ({ cls := "RapTableModel", name := "chance", desc := "(II)I" } : Jvm.MethodName)) ∈ lw_all := lw_g (lw_at lw_m9 158 rfl) rfl
theorem q2207 : (Jvm.Cond.methodLink "RapTableLaw" (178 : Nat) ({ cls := "RapTableModel", name := "ease", desc := "(II)I" } : Jvm.MethodName)) ∈ lw_all := lw_g (lw_at lw_m9 169 rfl) rfl
theorem q2215 : (Jvm.Cond.methodLink "RapTableLaw" (182 : Nat) ({ cls := "RapTableModel", name := "fair", desc := "(IIIIIII)I" } : Jvm.MethodName)) ∈ lw_all := lw_g (lw_at lw_m9 177 rfl) rfl
theorem q2219 : (Jvm.Cond.methodLink "RapTableLaw" (186 : Nat) ({ cls := "RapTableModel", name := "status", desc := "(I)I" } : Jvm.MethodName)) ∈ lw_all := lw_g (lw_at lw_m9 181 rfl) rfl
theorem q2223 : (Jvm.Cond.methodLink "RapTableLaw" (190 : Nat) ({ cls := "RapTableModel", name := "count", desc := "(I)I" } : Jvm.MethodName)) ∈ lw_all := lw_g (lw_at lw_m9 185 rfl) rfl
theorem q2274 : (Jvm.Cond.castable "[B" "java/lang/Object") ∈ lw_tbl := lw_at lw_m9 236 rfl
theorem q2270 : (Jvm.Cond.castable "[I" "java/lang/Object") ∈ lw_tbl := lw_at lw_m9 232 rfl
theorem q2276 : (Jvm.Cond.castable "[J" "java/lang/Object") ∈ lw_tbl := lw_at lw_m9 238 rfl
theorem q2271 : (Jvm.Cond.castable "[LRapTable$Sitting;" "java/lang/Object") ∈ lw_tbl := lw_at lw_m9 233 rfl
theorem q2265 : (Jvm.Cond.sameMethod "[Ljava/lang/Object;" "java/lang/Object" "getClass" "()Ljava/lang/Class;") ∈ lw_all := lw_g (lw_at lw_m9 227 rfl) rfl
theorem q2266 : (Jvm.Cond.selects "[Ljava/lang/Object;" ({ cls := "java/lang/Object", name := "getClass", desc := "()Ljava/lang/Class;" } : Jvm.MethodName) ({ cls := "java/lang/Object", name := "getClass", desc := "()Ljava/lang/Class;" } : Jvm.MethodName)) ∈ lw_all := lw_g (lw_at lw_m9 228 rfl) rfl
theorem q2269 : (Jvm.Cond.castable "[Ljava/lang/Object;" "java/lang/Object") ∈ lw_tbl := lw_at lw_m9 231 rfl
theorem q2275 : (Jvm.Cond.castable "[Z" "java/lang/Object") ∈ lw_tbl := lw_at lw_m9 237 rfl
theorem q2268 : (Jvm.Cond.castable "[[I" "java/lang/Object") ∈ lw_tbl := lw_at lw_m9 230 rfl
theorem q2273 : (Jvm.Cond.castable "[[Z" "java/lang/Object") ∈ lw_tbl := lw_at lw_m9 235 rfl
theorem q2272 : (Jvm.Cond.castable "[[[Z" "java/lang/Object") ∈ lw_tbl := lw_at lw_m9 234 rfl
theorem q131 : (Jvm.Cond.initialized "java/lang/System") ∈ lw_all := lw_g (lw_at lw_m1 13 rfl) rfl
theorem q574 : (Jvm.Cond.static ({ cls := "java/lang/System", name := "arraycopy", desc := "(Ljava/lang/Object;ILjava/lang/Object;II)V" } : Jvm.MethodName)) ∈ lw_all := lw_g (lw_at lw_m2 216 rfl) rfl
theorem q575 : (Jvm.Cond.native ({ cls := "java/lang/System", name := "arraycopy", desc := "(Ljava/lang/Object;ILjava/lang/Object;II)V" } : Jvm.MethodName)) ∈ lw_all := lw_g (lw_at lw_m2 217 rfl) rfl
theorem q180 : (Jvm.Cond.arrayOver (Jvm.ClassFile.FieldType.array Jvm.ClassFile.FieldType.int)) ∈ lw_tbl := lw_at lw_m1 62 rfl
theorem q194 : (Jvm.Cond.arrayOver (Jvm.ClassFile.FieldType.object "java/lang/Object")) ∈ lw_tbl := lw_at lw_m1 76 rfl
theorem q209 : (Jvm.Cond.arrayClass Jvm.ClassFile.FieldType.int) ∈ lw_all := lw_g (lw_at lw_m1 91 rfl) rfl
theorem q257 : (Jvm.Cond.arrayOver (Jvm.ClassFile.FieldType.object "RapTable$Sitting")) ∈ lw_tbl := lw_at lw_m1 139 rfl
theorem q316 : (Jvm.Cond.arrayOver (Jvm.ClassFile.FieldType.array (Jvm.ClassFile.FieldType.array Jvm.ClassFile.FieldType.boolean))) ∈ lw_tbl := lw_at lw_m1 198 rfl
theorem q317 : (Jvm.Cond.arrayOver (Jvm.ClassFile.FieldType.array Jvm.ClassFile.FieldType.boolean)) ∈ lw_tbl := lw_at lw_m1 199 rfl
theorem q359 : (Jvm.Cond.arrayClass Jvm.ClassFile.FieldType.byte) ∈ lw_all := lw_g (lw_at lw_m2 1 rfl) rfl
theorem q360 : (Jvm.Cond.arrayClass Jvm.ClassFile.FieldType.boolean) ∈ lw_all := lw_g (lw_at lw_m2 2 rfl) rfl
theorem q431 : (Jvm.Cond.arrayClass Jvm.ClassFile.FieldType.long) ∈ lw_all := lw_g (lw_at lw_m2 73 rfl) rfl
