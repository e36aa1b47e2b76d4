set_option maxRecDepth 100000
theorem q99 : (Jvm.Cond.initialized "java/util/AbstractCollection") ∈ lw_all := lw_g (lw_at lw_m1 2 rfl) rfl
theorem q314 : (Jvm.Cond.instanceMethod ({ cls := "java/util/AbstractCollection", name := "<init>", desc := "()V" } : Jvm.MethodName)) ∈ lw_all := lw_g (lw_at lw_m1 217 rfl) rfl
theorem q315 : (Jvm.Cond.code ({ cls := "java/util/AbstractCollection", name := "<init>", desc := "()V" } : Jvm.MethodName) prog_46_method_1_code (1 : Nat) (Option.none : Option Jvm.ClassFile.FieldType)) ∈ lw_all := lw_g (lw_at lw_m1 218 rfl) rfl
theorem q316 : (Jvm.Cond.methodLink "java/util/AbstractCollection" (1 : Nat) ({ cls := "java/lang/Object", name := "<init>", desc := "()V" } : Jvm.MethodName)) ∈ lw_all := lw_g (lw_at lw_m1 219 rfl) rfl
theorem q100 : (Jvm.Cond.initialized "java/util/AbstractList") ∈ lw_all := lw_g (lw_at lw_m1 3 rfl) rfl
theorem q311 : (Jvm.Cond.instanceMethod ({ cls := "java/util/AbstractList", name := "<init>", desc := "()V" } : Jvm.MethodName)) ∈ lw_all := lw_g (lw_at lw_m1 214 rfl) rfl
theorem q312 : (Jvm.Cond.code ({ cls := "java/util/AbstractList", name := "<init>", desc := "()V" } : Jvm.MethodName) prog_47_method_1_code (1 : Nat) (Option.none : Option Jvm.ClassFile.FieldType)) ∈ lw_all := lw_g (lw_at lw_m1 215 rfl) rfl
theorem q313 : (Jvm.Cond.methodLink "java/util/AbstractList" (1 : Nat) ({ cls := "java/util/AbstractCollection", name := "<init>", desc := "()V" } : Jvm.MethodName)) ∈ lw_all := lw_g (lw_at lw_m1 216 rfl) rfl
theorem q319 : (Jvm.Cond.fieldLink "java/util/AbstractList" (7 : Nat) "java/util/AbstractList" "modCount" "I") ∈ lw_all := lw_g (lw_at lw_m1 222 rfl) rfl
theorem q327 : (Jvm.Cond.soleField "java/util/AbstractList" "modCount") ∈ lw_all := lw_g (lw_at lw_m1 230 rfl) rfl
theorem q121 : (Jvm.Cond.initialized "java/lang/String") ∈ lw_all := lw_g (lw_at lw_m1 24 rfl) rfl
theorem q1415 : (Jvm.Cond.selects "java/lang/String" ({ cls := "java/lang/Object", name := "equals", desc := "(Ljava/lang/Object;)Z" } : Jvm.MethodName) ({ cls := "java/lang/String", name := "equals", desc := "(Ljava/lang/Object;)Z" } : Jvm.MethodName)) ∈ lw_all := lw_g (lw_at lw_m6 118 rfl) rfl
theorem q1416 : (Jvm.Cond.instanceMethod ({ cls := "java/lang/String", name := "equals", desc := "(Ljava/lang/Object;)Z" } : Jvm.MethodName)) ∈ lw_all := lw_g (lw_at lw_m6 119 rfl) rfl
theorem q1417 : (Jvm.Cond.code ({ cls := "java/lang/String", name := "equals", desc := "(Ljava/lang/Object;)Z" } : Jvm.MethodName) prog_39_method_66_code (3 : Nat) (Option.some Jvm.ClassFile.FieldType.boolean)) ∈ lw_all := lw_g (lw_at lw_m6 120 rfl) rfl
theorem q1418 : (Jvm.Cond.classLink "java/lang/String" (10 : Nat) "java/lang/String") ∈ lw_all := lw_g (lw_at lw_m6 121 rfl) rfl
theorem q1419 : (Jvm.Cond.fieldLink "java/lang/String" (38 : Nat) "java/lang/String" "COMPACT_STRINGS" "Z") ∈ lw_all := lw_g (lw_at lw_m6 122 rfl) rfl
theorem q1420 : (Jvm.Cond.laysStatic "java/lang/String" "COMPACT_STRINGS" "Z") ∈ lw_tbl := lw_at lw_m6 123 rfl
theorem q1421 : (Jvm.Cond.methodLink "java/lang/String" (541 : Nat) ({ cls := "java/lang/StringLatin1", name := "equals", desc := "([B[B)Z" } : Jvm.MethodName)) ∈ lw_all := lw_g (lw_at lw_m6 124 rfl) rfl
theorem q2020 : (Jvm.Cond.instanceMethod ({ cls := "java/lang/String", name := "length", desc := "()I" } : Jvm.MethodName)) ∈ lw_all := lw_g (lw_at lw_m9 3 rfl) rfl
theorem q2021 : (Jvm.Cond.selects "java/lang/String" ({ cls := "java/lang/String", name := "length", desc := "()I" } : Jvm.MethodName) ({ cls := "java/lang/String", name := "length", desc := "()I" } : Jvm.MethodName)) ∈ lw_all := lw_g (lw_at lw_m9 4 rfl) rfl
theorem q2022 : (Jvm.Cond.code ({ cls := "java/lang/String", name := "length", desc := "()I" } : Jvm.MethodName) prog_39_method_54_code (1 : Nat) (Option.some Jvm.ClassFile.FieldType.int)) ∈ lw_all := lw_g (lw_at lw_m9 5 rfl) rfl
theorem q2023 : (Jvm.Cond.methodLink "java/lang/String" (335 : Nat) ({ cls := "java/lang/String", name := "coder", desc := "()B" } : Jvm.MethodName)) ∈ lw_all := lw_g (lw_at lw_m9 6 rfl) rfl
theorem q2024 : (Jvm.Cond.instanceMethod ({ cls := "java/lang/String", name := "coder", desc := "()B" } : Jvm.MethodName)) ∈ lw_all := lw_g (lw_at lw_m9 7 rfl) rfl
theorem q2025 : (Jvm.Cond.selects "java/lang/String" ({ cls := "java/lang/String", name := "coder", desc := "()B" } : Jvm.MethodName) ({ cls := "java/lang/String", name := "coder", desc := "()B" } : Jvm.MethodName)) ∈ lw_all := lw_g (lw_at lw_m9 8 rfl) rfl
theorem q2026 : (Jvm.Cond.code ({ cls := "java/lang/String", name := "coder", desc := "()B" } : Jvm.MethodName) prog_39_method_152_code (1 : Nat) (Option.some Jvm.ClassFile.FieldType.byte)) ∈ lw_all := lw_g (lw_at lw_m9 9 rfl) rfl
theorem q2028 : (Jvm.Cond.instanceMethod ({ cls := "java/lang/String", name := "charAt", desc := "(I)C" } : Jvm.MethodName)) ∈ lw_all := lw_g (lw_at lw_m9 11 rfl) rfl
theorem q2029 : (Jvm.Cond.selects "java/lang/String" ({ cls := "java/lang/String", name := "charAt", desc := "(I)C" } : Jvm.MethodName) ({ cls := "java/lang/String", name := "charAt", desc := "(I)C" } : Jvm.MethodName)) ∈ lw_all := lw_g (lw_at lw_m9 12 rfl) rfl
theorem q2030 : (Jvm.Cond.code ({ cls := "java/lang/String", name := "charAt", desc := "(I)C" } : Jvm.MethodName) prog_39_method_56_code (2 : Nat) (Option.some Jvm.ClassFile.FieldType.char)) ∈ lw_all := lw_g (lw_at lw_m9 13 rfl) rfl
theorem q2031 : (Jvm.Cond.methodLink "java/lang/String" (492 : Nat) ({ cls := "java/lang/String", name := "isLatin1", desc := "()Z" } : Jvm.MethodName)) ∈ lw_all := lw_g (lw_at lw_m9 14 rfl) rfl
theorem q2032 : (Jvm.Cond.instanceMethod ({ cls := "java/lang/String", name := "isLatin1", desc := "()Z" } : Jvm.MethodName)) ∈ lw_all := lw_g (lw_at lw_m9 15 rfl) rfl
theorem q2033 : (Jvm.Cond.selects "java/lang/String" ({ cls := "java/lang/String", name := "isLatin1", desc := "()Z" } : Jvm.MethodName) ({ cls := "java/lang/String", name := "isLatin1", desc := "()Z" } : Jvm.MethodName)) ∈ lw_all := lw_g (lw_at lw_m9 16 rfl) rfl
theorem q2034 : (Jvm.Cond.code ({ cls := "java/lang/String", name := "isLatin1", desc := "()Z" } : Jvm.MethodName) prog_39_method_154_code (1 : Nat) (Option.some Jvm.ClassFile.FieldType.boolean)) ∈ lw_all := lw_g (lw_at lw_m9 17 rfl) rfl
theorem q2035 : (Jvm.Cond.methodLink "java/lang/String" (495 : Nat) ({ cls := "java/lang/StringLatin1", name := "charAt", desc := "([BI)C" } : Jvm.MethodName)) ∈ lw_all := lw_g (lw_at lw_m9 18 rfl) rfl
theorem q2039 : (Jvm.Cond.static ({ cls := "java/lang/String", name := "checkIndex", desc := "(II)V" } : Jvm.MethodName)) ∈ lw_all := lw_g (lw_at lw_m9 22 rfl) rfl
theorem q2040 : (Jvm.Cond.code ({ cls := "java/lang/String", name := "checkIndex", desc := "(II)V" } : Jvm.MethodName) prog_39_method_155_code (2 : Nat) (Option.none : Option Jvm.ClassFile.FieldType)) ∈ lw_all := lw_g (lw_at lw_m9 23 rfl) rfl
theorem q2041 : (Jvm.Cond.fieldLink "java/lang/String" (1053 : Nat) "jdk/internal/util/Preconditions" "SIOOBE_FORMATTER" "Ljava/util/function/BiFunction;") ∈ lw_all := lw_g (lw_at lw_m9 24 rfl) rfl
theorem q2043 : (Jvm.Cond.methodLink "java/lang/String" (1059 : Nat) ({ cls := "jdk/internal/util/Preconditions", name := "checkIndex", desc := "(IILjava/util/function/BiFunction;)I" } : Jvm.MethodName)) ∈ lw_all := lw_g (lw_at lw_m9 26 rfl) rfl
theorem q2044 : (Jvm.Cond.methodLink "java/lang/String" (498 : Nat) ({ cls := "java/lang/StringUTF16", name := "charAt", desc := "([BI)C" } : Jvm.MethodName)) ∈ lw_all := lw_g (lw_at lw_m9 27 rfl) rfl
theorem q2456 : (Jvm.Cond.castable "java/lang/String" "java/lang/Object") ∈ lw_tbl := lw_at lw_m10 199 rfl
theorem q2473 : (Jvm.Cond.fieldLink "java/lang/String" (9 : Nat) "java/lang/String" "value" "[B") ∈ lw_all := lw_g (lw_at lw_m10 216 rfl) rfl
theorem q2474 : (Jvm.Cond.fieldLink "java/lang/String" (15 : Nat) "java/lang/String" "coder" "B") ∈ lw_all := lw_g (lw_at lw_m10 217 rfl) rfl
theorem q122 : (Jvm.Cond.initialized "java/lang/StringLatin1") ∈ lw_all := lw_g (lw_at lw_m1 25 rfl) rfl
theorem q1422 : (Jvm.Cond.static ({ cls := "java/lang/StringLatin1", name := "equals", desc := "([B[B)Z" } : Jvm.MethodName)) ∈ lw_all := lw_g (lw_at lw_m6 125 rfl) rfl
theorem q1423 : (Jvm.Cond.code ({ cls := "java/lang/StringLatin1", name := "equals", desc := "([B[B)Z" } : Jvm.MethodName) prog_40_method_13_code (3 : Nat) (Option.some Jvm.ClassFile.FieldType.boolean)) ∈ lw_all := lw_g (lw_at lw_m6 126 rfl) rfl
theorem q2036 : (Jvm.Cond.static ({ cls := "java/lang/StringLatin1", name := "charAt", desc := "([BI)C" } : Jvm.MethodName)) ∈ lw_all := lw_g (lw_at lw_m9 19 rfl) rfl
theorem q2037 : (Jvm.Cond.code ({ cls := "java/lang/StringLatin1", name := "charAt", desc := "([BI)C" } : Jvm.MethodName) prog_40_method_2_code (2 : Nat) (Option.some Jvm.ClassFile.FieldType.char)) ∈ lw_all := lw_g (lw_at lw_m9 20 rfl) rfl
theorem q2038 : (Jvm.Cond.methodLink "java/lang/StringLatin1" (9 : Nat) ({ cls := "java/lang/String", name := "checkIndex", desc := "(II)V" } : Jvm.MethodName)) ∈ lw_all := lw_g (lw_at lw_m9 21 rfl) rfl
theorem q123 : (Jvm.Cond.initialized "java/lang/StringUTF16") ∈ lw_all := lw_g (lw_at lw_m1 26 rfl) rfl
theorem q2045 : (Jvm.Cond.static ({ cls := "java/lang/StringUTF16", name := "charAt", desc := "([BI)C" } : Jvm.MethodName)) ∈ lw_all := lw_g (lw_at lw_m9 28 rfl) rfl
theorem q2046 : (Jvm.Cond.code ({ cls := "java/lang/StringUTF16", name := "charAt", desc := "([BI)C" } : Jvm.MethodName) prog_41_method_83_code (2 : Nat) (Option.some Jvm.ClassFile.FieldType.char)) ∈ lw_all := lw_g (lw_at lw_m9 29 rfl) rfl
theorem q2047 : (Jvm.Cond.methodLink "java/lang/StringUTF16" (67 : Nat) ({ cls := "java/lang/StringUTF16", name := "checkIndex", desc := "(I[B)V" } : Jvm.MethodName)) ∈ lw_all := lw_g (lw_at lw_m9 30 rfl) rfl
theorem q2048 : (Jvm.Cond.static ({ cls := "java/lang/StringUTF16", name := "checkIndex", desc := "(I[B)V" } : Jvm.MethodName)) ∈ lw_all := lw_g (lw_at lw_m9 31 rfl) rfl
theorem q2049 : (Jvm.Cond.code ({ cls := "java/lang/StringUTF16", name := "checkIndex", desc := "(I[B)V" } : Jvm.MethodName) prog_41_method_91_code (2 : Nat) (Option.none : Option Jvm.ClassFile.FieldType)) ∈ lw_all := lw_g (lw_at lw_m9 32 rfl) rfl
theorem q2050 : (Jvm.Cond.methodLink "java/lang/StringUTF16" (48 : Nat) ({ cls := "java/lang/StringUTF16", name := "length", desc := "([B)I" } : Jvm.MethodName)) ∈ lw_all := lw_g (lw_at lw_m9 33 rfl) rfl
theorem q2051 : (Jvm.Cond.static ({ cls := "java/lang/StringUTF16", name := "length", desc := "([B)I" } : Jvm.MethodName)) ∈ lw_all := lw_g (lw_at lw_m9 34 rfl) rfl
theorem q2052 : (Jvm.Cond.code ({ cls := "java/lang/StringUTF16", name := "length", desc := "([B)I" } : Jvm.MethodName) prog_41_method_6_code (1 : Nat) (Option.some Jvm.ClassFile.FieldType.int)) ∈ lw_all := lw_g (lw_at lw_m9 35 rfl) rfl
theorem q2053 : (Jvm.Cond.methodLink "java/lang/StringUTF16" (414 : Nat) ({ cls := "java/lang/String", name := "checkIndex", desc := "(II)V" } : Jvm.MethodName)) ∈ lw_all := lw_g (lw_at lw_m9 36 rfl) rfl
theorem q2054 : (Jvm.Cond.methodLink "java/lang/StringUTF16" (71 : Nat) ({ cls := "java/lang/StringUTF16", name := "getChar", desc := "([BI)C" } : Jvm.MethodName)) ∈ lw_all := lw_g (lw_at lw_m9 37 rfl) rfl
theorem q2055 : (Jvm.Cond.static ({ cls := "java/lang/StringUTF16", name := "getChar", desc := "([BI)C" } : Jvm.MethodName)) ∈ lw_all := lw_g (lw_at lw_m9 38 rfl) rfl
theorem q2056 : (Jvm.Cond.code ({ cls := "java/lang/StringUTF16", name := "getChar", desc := "([BI)C" } : Jvm.MethodName) prog_41_method_5_code (2 : Nat) (Option.some Jvm.ClassFile.FieldType.char)) ∈ lw_all := lw_g (lw_at lw_m9 39 rfl) rfl
theorem q2057 : (Jvm.Cond.fieldLink "java/lang/StringUTF16" (44 : Nat) "java/lang/StringUTF16" "$assertionsDisabled" "Z") ∈ lw_all := lw_g (lw_at lw_m9 40 rfl) rfl
theorem q2058 : (Jvm.Cond.laysStatic "java/lang/StringUTF16" "$assertionsDisabled" "Z") ∈ lw_tbl := lw_at lw_m9 41 rfl
theorem q2059 : (Jvm.Cond.fieldLink "java/lang/StringUTF16" (59 : Nat) "java/lang/StringUTF16" "HI_BYTE_SHIFT" "I") ∈ lw_all := lw_g (lw_at lw_m9 42 rfl) rfl
theorem q2060 : (Jvm.Cond.laysStatic "java/lang/StringUTF16" "HI_BYTE_SHIFT" "I") ∈ lw_tbl := lw_at lw_m9 43 rfl
theorem q2061 : (Jvm.Cond.fieldLink "java/lang/StringUTF16" (63 : Nat) "java/lang/StringUTF16" "LO_BYTE_SHIFT" "I") ∈ lw_all := lw_g (lw_at lw_m9 44 rfl) rfl
theorem q2062 : (Jvm.Cond.laysStatic "java/lang/StringUTF16" "LO_BYTE_SHIFT" "I") ∈ lw_tbl := lw_at lw_m9 45 rfl
theorem q136 : (Jvm.Cond.initialized "java/lang/Integer") ∈ lw_all := lw_g (lw_at lw_m1 39 rfl) rfl
theorem q1590 : (Jvm.Cond.static ({ cls := "java/lang/Integer", name := "bitCount", desc := "(I)I" } : Jvm.MethodName)) ∈ lw_all := lw_g (lw_at lw_m7 53 rfl) rfl
theorem q1591 : (Jvm.Cond.code ({ cls := "java/lang/Integer", name := "bitCount", desc := "(I)I" } : Jvm.MethodName) prog_36_method_49_code (1 : Nat) (Option.some Jvm.ClassFile.FieldType.int)) ∈ lw_all := lw_g (lw_at lw_m7 54 rfl) rfl
theorem q1592 : (Jvm.Cond.constant "java/lang/Integer" (265 : Nat) (1431655765 : Int32)) ∈ lw_all := lw_g (lw_at lw_m7 55 rfl) rfl
theorem q1593 : (Jvm.Cond.constant "java/lang/Integer" (266 : Nat) (858993459 : Int32)) ∈ lw_all := lw_g (lw_at lw_m7 56 rfl) rfl
theorem q1594 : (Jvm.Cond.constant "java/lang/Integer" (267 : Nat) (252645135 : Int32)) ∈ lw_all := lw_g (lw_at lw_m7 57 rfl) rfl
theorem q180 : (Jvm.Cond.instanceMethod ({ cls := "java/lang/Object", name := "<init>", desc := "()V" } : Jvm.MethodName)) ∈ lw_all := lw_g (lw_at lw_m1 83 rfl) rfl
theorem q181 : (Jvm.Cond.code ({ cls := "java/lang/Object", name := "<init>", desc := "()V" } : Jvm.MethodName) object_method_1_code (1 : Nat) (Option.none : Option Jvm.ClassFile.FieldType)) ∈ lw_all := lw_g (lw_at lw_m1 84 rfl) rfl
theorem q229 : (Jvm.Cond.instanceMethod ({ cls := "java/lang/Object", name := "getClass", desc := "()Ljava/lang/Class;" } : Jvm.MethodName)) ∈ lw_all := lw_g (lw_at lw_m1 132 rfl) rfl
theorem q230 : (Jvm.Cond.sameMethod "java/lang/Object" "java/lang/Object" "getClass" "()Ljava/lang/Class;") ∈ lw_all := lw_g (lw_at lw_m1 133 rfl) rfl
theorem q257 : (Jvm.Cond.native ({ cls := "java/lang/Object", name := "getClass", desc := "()Ljava/lang/Class;" } : Jvm.MethodName)) ∈ lw_all := lw_g (lw_at lw_m1 160 rfl) rfl
theorem q1386 : (Jvm.Cond.declares ({ cls := "java/lang/Object", name := "equals", desc := "(Ljava/lang/Object;)Z" } : Jvm.MethodName)) ∈ lw_tbl := lw_at lw_m6 89 rfl
theorem q1388 : (Jvm.Cond.instanceMethod ({ cls := "java/lang/Object", name := "equals", desc := "(Ljava/lang/Object;)Z" } : Jvm.MethodName)) ∈ lw_all := lw_g (lw_at lw_m6 91 rfl) rfl
theorem q1389 : (Jvm.Cond.sameMethod "java/lang/Object" "java/lang/Object" "equals" "(Ljava/lang/Object;)Z") ∈ lw_all := lw_g (lw_at lw_m6 92 rfl) rfl
theorem q1424 : (Jvm.Cond.code ({ cls := "java/lang/Object", name := "equals", desc := "(Ljava/lang/Object;)Z" } : Jvm.MethodName) object_method_4_code (2 : Nat) (Option.some Jvm.ClassFile.FieldType.boolean)) ∈ lw_all := lw_g (lw_at lw_m6 127 rfl) rfl
theorem q1631 : (Jvm.Cond.native ({ cls := "java/lang/Object", name := "clone", desc := "()Ljava/lang/Object;" } : Jvm.MethodName)) ∈ lw_all := lw_g (lw_at lw_m7 94 rfl) rfl
theorem q1632 : (Jvm.Cond.instanceMethod ({ cls := "java/lang/Object", name := "clone", desc := "()Ljava/lang/Object;" } : Jvm.MethodName)) ∈ lw_all := lw_g (lw_at lw_m7 95 rfl) rfl
theorem q1664 : (Jvm.Cond.declares ({ cls := "java/lang/Object", name := "getClass", desc := "()Ljava/lang/Class;" } : Jvm.MethodName)) ∈ lw_tbl := lw_at lw_m7 127 rfl
theorem q1666 : (Jvm.Cond.publicMethod ({ cls := "java/lang/Object", name := "getClass", desc := "()Ljava/lang/Class;" } : Jvm.MethodName)) ∈ lw_tbl := lw_at lw_m7 129 rfl
theorem q101 : (Jvm.Cond.initialized "java/util/ArrayList") ∈ lw_all := lw_g (lw_at lw_m1 4 rfl) rfl
theorem q157 : (Jvm.Cond.instanceMethod ({ cls := "java/util/ArrayList", name := "size", desc := "()I" } : Jvm.MethodName)) ∈ lw_all := lw_g (lw_at lw_m1 60 rfl) rfl
theorem q158 : (Jvm.Cond.selects "java/util/ArrayList" ({ cls := "java/util/ArrayList", name := "size", desc := "()I" } : Jvm.MethodName) ({ cls := "java/util/ArrayList", name := "size", desc := "()I" } : Jvm.MethodName)) ∈ lw_all := lw_g (lw_at lw_m1 61 rfl) rfl
theorem q159 : (Jvm.Cond.code ({ cls := "java/util/ArrayList", name := "size", desc := "()I" } : Jvm.MethodName) prog_48_method_8_code (1 : Nat) (Option.some Jvm.ClassFile.FieldType.int)) ∈ lw_all := lw_g (lw_at lw_m1 62 rfl) rfl
theorem q161 : (Jvm.Cond.instanceMethod ({ cls := "java/util/ArrayList", name := "get", desc := "(I)Ljava/lang/Object;" } : Jvm.MethodName)) ∈ lw_all := lw_g (lw_at lw_m1 64 rfl) rfl
theorem q162 : (Jvm.Cond.selects "java/util/ArrayList" ({ cls := "java/util/ArrayList", name := "get", desc := "(I)Ljava/lang/Object;" } : Jvm.MethodName) ({ cls := "java/util/ArrayList", name := "get", desc := "(I)Ljava/lang/Object;" } : Jvm.MethodName)) ∈ lw_all := lw_g (lw_at lw_m1 65 rfl) rfl
theorem q163 : (Jvm.Cond.code ({ cls := "java/util/ArrayList", name := "get", desc := "(I)Ljava/lang/Object;" } : Jvm.MethodName) prog_48_method_20_code (2 : Nat) (Option.some (Jvm.ClassFile.FieldType.object "java/lang/Object"))) ∈ lw_all := lw_g (lw_at lw_m1 66 rfl) rfl
theorem q164 : (Jvm.Cond.methodLink "java/util/ArrayList" (118 : Nat) ({ cls := "java/util/Objects", name := "checkIndex", desc := "(II)I" } : Jvm.MethodName)) ∈ lw_all := lw_g (lw_at lw_m1 67 rfl) rfl
theorem q170 : (Jvm.Cond.methodLink "java/util/ArrayList" (123 : Nat) ({ cls := "java/util/ArrayList", name := "elementData", desc := "(I)Ljava/lang/Object;" } : Jvm.MethodName)) ∈ lw_all := lw_g (lw_at lw_m1 73 rfl) rfl
theorem q171 : (Jvm.Cond.instanceMethod ({ cls := "java/util/ArrayList", name := "elementData", desc := "(I)Ljava/lang/Object;" } : Jvm.MethodName)) ∈ lw_all := lw_g (lw_at lw_m1 74 rfl) rfl
theorem q172 : (Jvm.Cond.selects "java/util/ArrayList" ({ cls := "java/util/ArrayList", name := "elementData", desc := "(I)Ljava/lang/Object;" } : Jvm.MethodName) ({ cls := "java/util/ArrayList", name := "elementData", desc := "(I)Ljava/lang/Object;" } : Jvm.MethodName)) ∈ lw_all := lw_g (lw_at lw_m1 75 rfl) rfl
theorem q173 : (Jvm.Cond.code ({ cls := "java/util/ArrayList", name := "elementData", desc := "(I)Ljava/lang/Object;" } : Jvm.MethodName) prog_48_method_18_code (2 : Nat) (Option.some (Jvm.ClassFile.FieldType.object "java/lang/Object"))) ∈ lw_all := lw_g (lw_at lw_m1 76 rfl) rfl
theorem q197 : (Jvm.Cond.instanceMethod ({ cls := "java/util/ArrayList", name := "add", desc := "(Ljava/lang/Object;)Z" } : Jvm.MethodName)) ∈ lw_all := lw_g (lw_at lw_m1 100 rfl) rfl
theorem q198 : (Jvm.Cond.selects "java/util/ArrayList" ({ cls := "java/util/ArrayList", name := "add", desc := "(Ljava/lang/Object;)Z" } : Jvm.MethodName) ({ cls := "java/util/ArrayList", name := "add", desc := "(Ljava/lang/Object;)Z" } : Jvm.MethodName)) ∈ lw_all := lw_g (lw_at lw_m1 101 rfl) rfl
theorem q199 : (Jvm.Cond.code ({ cls := "java/util/ArrayList", name := "add", desc := "(Ljava/lang/Object;)Z" } : Jvm.MethodName) prog_48_method_25_code (2 : Nat) (Option.some Jvm.ClassFile.FieldType.boolean)) ∈ lw_all := lw_g (lw_at lw_m1 102 rfl) rfl
theorem q200 : (Jvm.Cond.methodLink "java/util/ArrayList" (131 : Nat) ({ cls := "java/util/ArrayList", name := "add", desc := "(Ljava/lang/Object;[Ljava/lang/Object;I)V" } : Jvm.MethodName)) ∈ lw_all := lw_g (lw_at lw_m1 103 rfl) rfl
theorem q201 : (Jvm.Cond.privateMethod ({ cls := "java/util/ArrayList", name := "add", desc := "(Ljava/lang/Object;[Ljava/lang/Object;I)V" } : Jvm.MethodName)) ∈ lw_tbl := lw_at lw_m1 104 rfl
theorem q202 : (Jvm.Cond.instanceMethod ({ cls := "java/util/ArrayList", name := "add", desc := "(Ljava/lang/Object;[Ljava/lang/Object;I)V" } : Jvm.MethodName)) ∈ lw_all := lw_g (lw_at lw_m1 105 rfl) rfl
theorem q203 : (Jvm.Cond.instantiable "java/util/ArrayList" (3 : Nat)) ∈ lw_all := lw_g (lw_at lw_m1 106 rfl) rfl
theorem q204 : (Jvm.Cond.code ({ cls := "java/util/ArrayList", name := "add", desc := "(Ljava/lang/Object;[Ljava/lang/Object;I)V" } : Jvm.MethodName) prog_48_method_24_code (4 : Nat) (Option.none : Option Jvm.ClassFile.FieldType)) ∈ lw_all := lw_g (lw_at lw_m1 107 rfl) rfl
theorem q205 : (Jvm.Cond.methodLink "java/util/ArrayList" (129 : Nat) ({ cls := "java/util/ArrayList", name := "grow", desc := "()[Ljava/lang/Object;" } : Jvm.MethodName)) ∈ lw_all := lw_g (lw_at lw_m1 108 rfl) rfl
theorem q206 : (Jvm.Cond.privateMethod ({ cls := "java/util/ArrayList", name := "grow", desc := "()[Ljava/lang/Object;" } : Jvm.MethodName)) ∈ lw_tbl := lw_at lw_m1 109 rfl
theorem q207 : (Jvm.Cond.instanceMethod ({ cls := "java/util/ArrayList", name := "grow", desc := "()[Ljava/lang/Object;" } : Jvm.MethodName)) ∈ lw_all := lw_g (lw_at lw_m1 110 rfl) rfl
theorem q208 : (Jvm.Cond.code ({ cls := "java/util/ArrayList", name := "grow", desc := "()[Ljava/lang/Object;" } : Jvm.MethodName) prog_48_method_7_code (1 : Nat) (Option.some (Jvm.ClassFile.FieldType.array (Jvm.ClassFile.FieldType.object "java/lang/Object")))) ∈ lw_all := lw_g (lw_at lw_m1 111 rfl) rfl
theorem q209 : (Jvm.Cond.methodLink "java/util/ArrayList" (69 : Nat) ({ cls := "java/util/ArrayList", name := "grow", desc := "(I)[Ljava/lang/Object;" } : Jvm.MethodName)) ∈ lw_all := lw_g (lw_at lw_m1 112 rfl) rfl
theorem q210 : (Jvm.Cond.privateMethod ({ cls := "java/util/ArrayList", name := "grow", desc := "(I)[Ljava/lang/Object;" } : Jvm.MethodName)) ∈ lw_tbl := lw_at lw_m1 113 rfl
theorem q211 : (Jvm.Cond.instanceMethod ({ cls := "java/util/ArrayList", name := "grow", desc := "(I)[Ljava/lang/Object;" } : Jvm.MethodName)) ∈ lw_all := lw_g (lw_at lw_m1 114 rfl) rfl
theorem q212 : (Jvm.Cond.code ({ cls := "java/util/ArrayList", name := "grow", desc := "(I)[Ljava/lang/Object;" } : Jvm.MethodName) prog_48_method_6_code (4 : Nat) (Option.some (Jvm.ClassFile.FieldType.array (Jvm.ClassFile.FieldType.object "java/lang/Object")))) ∈ lw_all := lw_g (lw_at lw_m1 115 rfl) rfl
theorem q213 : (Jvm.Cond.fieldLink "java/util/ArrayList" (39 : Nat) "java/util/ArrayList" "DEFAULTCAPACITY_EMPTY_ELEMENTDATA" "[Ljava/lang/Object;") ∈ lw_all := lw_g (lw_at lw_m1 116 rfl) rfl
theorem q214 : (Jvm.Cond.laysStatic "java/util/ArrayList" "DEFAULTCAPACITY_EMPTY_ELEMENTDATA" "[Ljava/lang/Object;") ∈ lw_tbl := lw_at lw_m1 117 rfl
theorem q215 : (Jvm.Cond.methodLink "java/util/ArrayList" (73 : Nat) ({ cls := "jdk/internal/util/ArraysSupport", name := "newLength", desc := "(III)I" } : Jvm.MethodName)) ∈ lw_all := lw_g (lw_at lw_m1 118 rfl) rfl
theorem q225 : (Jvm.Cond.methodLink "java/util/ArrayList" (66 : Nat) ({ cls := "java/util/Arrays", name := "copyOf", desc := "([Ljava/lang/Object;I)[Ljava/lang/Object;" } : Jvm.MethodName)) ∈ lw_all := lw_g (lw_at lw_m1 128 rfl) rfl
theorem q256 : (Jvm.Cond.selects "java/util/ArrayList" ({ cls := "java/lang/Object", name := "getClass", desc := "()Ljava/lang/Class;" } : Jvm.MethodName) ({ cls := "java/lang/Object", name := "getClass", desc := "()Ljava/lang/Class;" } : Jvm.MethodName)) ∈ lw_all := lw_g (lw_at lw_m1 159 rfl) rfl
theorem q270 : (Jvm.Cond.methodLink "java/util/ArrayList" (79 : Nat) ({ cls := "java/lang/Math", name := "max", desc := "(II)I" } : Jvm.MethodName)) ∈ lw_all := lw_g (lw_at lw_m1 173 rfl) rfl
theorem q271 : (Jvm.Cond.classLink "java/util/ArrayList" (7 : Nat) "java/lang/Object") ∈ lw_all := lw_g (lw_at lw_m1 174 rfl) rfl
theorem q308 : (Jvm.Cond.instanceMethod ({ cls := "java/util/ArrayList", name := "<init>", desc := "()V" } : Jvm.MethodName)) ∈ lw_all := lw_g (lw_at lw_m1 211 rfl) rfl
theorem q309 : (Jvm.Cond.code ({ cls := "java/util/ArrayList", name := "<init>", desc := "()V" } : Jvm.MethodName) prog_48_method_2_code (1 : Nat) (Option.none : Option Jvm.ClassFile.FieldType)) ∈ lw_all := lw_g (lw_at lw_m1 212 rfl) rfl
theorem q310 : (Jvm.Cond.methodLink "java/util/ArrayList" (1 : Nat) ({ cls := "java/util/AbstractList", name := "<init>", desc := "()V" } : Jvm.MethodName)) ∈ lw_all := lw_g (lw_at lw_m1 213 rfl) rfl
theorem q317 : (Jvm.Cond.fieldLink "java/util/ArrayList" (9 : Nat) "java/util/ArrayList" "elementData" "[Ljava/lang/Object;") ∈ lw_all := lw_g (lw_at lw_m1 220 rfl) rfl
theorem q318 : (Jvm.Cond.fieldLink "java/util/ArrayList" (48 : Nat) "java/util/ArrayList" "size" "I") ∈ lw_all := lw_g (lw_at lw_m1 221 rfl) rfl
theorem q320 : (Jvm.Cond.fieldLink "java/util/ArrayList" (63 : Nat) "java/util/ArrayList" "modCount" "I") ∈ lw_all := lw_g (lw_at lw_m1 223 rfl) rfl
theorem q321 : (Jvm.Cond.sameField "java/util/ArrayList" "java/util/AbstractList" "modCount" "I") ∈ lw_all := lw_g (lw_at lw_m1 224 rfl) rfl
theorem q322 : (Jvm.Cond.lays "java/util/ArrayList" "java/util/ArrayList" "elementData" "[Ljava/lang/Object;") ∈ lw_all := lw_g (lw_at lw_m1 225 rfl) rfl
theorem q323 : (Jvm.Cond.soleField "java/util/ArrayList" "elementData") ∈ lw_all := lw_g (lw_at lw_m1 226 rfl) rfl
theorem q324 : (Jvm.Cond.lays "java/util/ArrayList" "java/util/ArrayList" "size" "I") ∈ lw_all := lw_g (lw_at lw_m1 227 rfl) rfl
theorem q325 : (Jvm.Cond.soleField "java/util/ArrayList" "size") ∈ lw_all := lw_g (lw_at lw_m1 228 rfl) rfl
theorem q326 : (Jvm.Cond.lays "java/util/ArrayList" "java/util/AbstractList" "modCount" "I") ∈ lw_all := lw_g (lw_at lw_m1 229 rfl) rfl
theorem q328 : (Jvm.Cond.superclass "java/util/ArrayList" "java/util/AbstractList") ∈ lw_all := lw_g (lw_at lw_m1 231 rfl) rfl
theorem q1383 : (Jvm.Cond.instanceMethod ({ cls := "java/util/ArrayList", name := "remove", desc := "(Ljava/lang/Object;)Z" } : Jvm.MethodName)) ∈ lw_all := lw_g (lw_at lw_m6 86 rfl) rfl
theorem q1384 : (Jvm.Cond.selects "java/util/ArrayList" ({ cls := "java/util/ArrayList", name := "remove", desc := "(Ljava/lang/Object;)Z" } : Jvm.MethodName) ({ cls := "java/util/ArrayList", name := "remove", desc := "(Ljava/lang/Object;)Z" } : Jvm.MethodName)) ∈ lw_all := lw_g (lw_at lw_m6 87 rfl) rfl
theorem q1385 : (Jvm.Cond.code ({ cls := "java/util/ArrayList", name := "remove", desc := "(Ljava/lang/Object;)Z" } : Jvm.MethodName) prog_48_method_38_code (5 : Nat) (Option.some Jvm.ClassFile.FieldType.boolean)) ∈ lw_all := lw_g (lw_at lw_m6 88 rfl) rfl
theorem q1387 : (Jvm.Cond.methodLink "java/util/ArrayList" (93 : Nat) ({ cls := "java/lang/Object", name := "equals", desc := "(Ljava/lang/Object;)Z" } : Jvm.MethodName)) ∈ lw_all := lw_g (lw_at lw_m6 90 rfl) rfl
theorem q1425 : (Jvm.Cond.methodLink "java/util/ArrayList" (144 : Nat) ({ cls := "java/util/ArrayList", name := "fastRemove", desc := "([Ljava/lang/Object;I)V" } : Jvm.MethodName)) ∈ lw_all := lw_g (lw_at lw_m6 128 rfl) rfl
theorem q1426 : (Jvm.Cond.privateMethod ({ cls := "java/util/ArrayList", name := "fastRemove", desc := "([Ljava/lang/Object;I)V" } : Jvm.MethodName)) ∈ lw_tbl := lw_at lw_m6 129 rfl
theorem q1427 : (Jvm.Cond.instanceMethod ({ cls := "java/util/ArrayList", name := "fastRemove", desc := "([Ljava/lang/Object;I)V" } : Jvm.MethodName)) ∈ lw_all := lw_g (lw_at lw_m6 130 rfl) rfl
theorem q1428 : (Jvm.Cond.code ({ cls := "java/util/ArrayList", name := "fastRemove", desc := "([Ljava/lang/Object;I)V" } : Jvm.MethodName) prog_48_method_39_code (4 : Nat) (Option.none : Option Jvm.ClassFile.FieldType)) ∈ lw_all := lw_g (lw_at lw_m6 131 rfl) rfl
theorem q1429 : (Jvm.Cond.methodLink "java/util/ArrayList" (112 : Nat) ({ cls := "java/lang/System", name := "arraycopy", desc := "(Ljava/lang/Object;ILjava/lang/Object;II)V" } : Jvm.MethodName)) ∈ lw_all := lw_g (lw_at lw_m6 132 rfl) rfl
theorem q1431 : (Jvm.Cond.instanceMethod ({ cls := "java/util/ArrayList", name := "remove", desc := "(I)Ljava/lang/Object;" } : Jvm.MethodName)) ∈ lw_all := lw_g (lw_at lw_m6 134 rfl) rfl
theorem q1432 : (Jvm.Cond.selects "java/util/ArrayList" ({ cls := "java/util/ArrayList", name := "remove", desc := "(I)Ljava/lang/Object;" } : Jvm.MethodName) ({ cls := "java/util/ArrayList", name := "remove", desc := "(I)Ljava/lang/Object;" } : Jvm.MethodName)) ∈ lw_all := lw_g (lw_at lw_m6 135 rfl) rfl
theorem q1433 : (Jvm.Cond.code ({ cls := "java/util/ArrayList", name := "remove", desc := "(I)Ljava/lang/Object;" } : Jvm.MethodName) prog_48_method_29_code (4 : Nat) (Option.some (Jvm.ClassFile.FieldType.object "java/lang/Object"))) ∈ lw_all := lw_g (lw_at lw_m6 136 rfl) rfl
theorem q1649 : (Jvm.Cond.instanceMethod ({ cls := "java/util/ArrayList", name := "<init>", desc := "(Ljava/util/Collection;)V" } : Jvm.MethodName)) ∈ lw_all := lw_g (lw_at lw_m7 112 rfl) rfl
theorem q1650 : (Jvm.Cond.code ({ cls := "java/util/ArrayList", name := "<init>", desc := "(Ljava/util/Collection;)V" } : Jvm.MethodName) prog_48_method_3_code (3 : Nat) (Option.none : Option Jvm.ClassFile.FieldType)) ∈ lw_all := lw_g (lw_at lw_m7 113 rfl) rfl
theorem q1651 : (Jvm.Cond.interfaceEntry "java/util/ArrayList" (42 : Nat)) ∈ lw_tbl := lw_at lw_m7 114 rfl
theorem q1652 : (Jvm.Cond.methodLink "java/util/ArrayList" (42 : Nat) ({ cls := "java/util/Collection", name := "toArray", desc := "()[Ljava/lang/Object;" } : Jvm.MethodName)) ∈ lw_all := lw_g (lw_at lw_m7 115 rfl) rfl
theorem q1655 : (Jvm.Cond.castable "java/util/ArrayList" "java/util/Collection") ∈ lw_tbl := lw_at lw_m7 118 rfl
theorem q1656 : (Jvm.Cond.selects "java/util/ArrayList" ({ cls := "java/util/Collection", name := "toArray", desc := "()[Ljava/lang/Object;" } : Jvm.MethodName) ({ cls := "java/util/ArrayList", name := "toArray", desc := "()[Ljava/lang/Object;" } : Jvm.MethodName)) ∈ lw_all := lw_g (lw_at lw_m7 119 rfl) rfl
theorem q1657 : (Jvm.Cond.unhidden "java/util/ArrayList" "toArray" "()[Ljava/lang/Object;") ∈ lw_tbl := lw_at lw_m7 120 rfl
theorem q1658 : (Jvm.Cond.instanceMethod ({ cls := "java/util/ArrayList", name := "toArray", desc := "()[Ljava/lang/Object;" } : Jvm.MethodName)) ∈ lw_all := lw_g (lw_at lw_m7 121 rfl) rfl
theorem q1659 : (Jvm.Cond.publicMethod ({ cls := "java/util/ArrayList", name := "toArray", desc := "()[Ljava/lang/Object;" } : Jvm.MethodName)) ∈ lw_tbl := lw_at lw_m7 122 rfl
theorem q1660 : (Jvm.Cond.code ({ cls := "java/util/ArrayList", name := "toArray", desc := "()[Ljava/lang/Object;" } : Jvm.MethodName) prog_48_method_16_code (1 : Nat) (Option.some (Jvm.ClassFile.FieldType.array (Jvm.ClassFile.FieldType.object "java/lang/Object")))) ∈ lw_all := lw_g (lw_at lw_m7 123 rfl) rfl
theorem q1661 : (Jvm.Cond.interfaceEntry "java/util/ArrayList" (52 : Nat)) ∈ lw_tbl := lw_at lw_m7 124 rfl
theorem q1662 : (Jvm.Cond.methodLink "java/util/ArrayList" (52 : Nat) ({ cls := "java/util/Collection", name := "getClass", desc := "()Ljava/lang/Class;" } : Jvm.MethodName)) ∈ lw_all := lw_g (lw_at lw_m7 125 rfl) rfl
theorem q1665 : (Jvm.Cond.unhidden "java/util/ArrayList" "getClass" "()Ljava/lang/Class;") ∈ lw_tbl := lw_at lw_m7 128 rfl
theorem q1667 : (Jvm.Cond.classLink "java/util/ArrayList" (10 : Nat) "java/util/ArrayList") ∈ lw_all := lw_g (lw_at lw_m7 130 rfl) rfl
theorem q1668 : (Jvm.Cond.classLink "java/util/ArrayList" (56 : Nat) "[Ljava/lang/Object;") ∈ lw_all := lw_g (lw_at lw_m7 131 rfl) rfl
theorem q1669 : (Jvm.Cond.methodLink "java/util/ArrayList" (57 : Nat) ({ cls := "java/util/Arrays", name := "copyOf", desc := "([Ljava/lang/Object;ILjava/lang/Class;)[Ljava/lang/Object;" } : Jvm.MethodName)) ∈ lw_all := lw_g (lw_at lw_m7 132 rfl) rfl
theorem q1670 : (Jvm.Cond.fieldLink "java/util/ArrayList" (15 : Nat) "java/util/ArrayList" "EMPTY_ELEMENTDATA" "[Ljava/lang/Object;") ∈ lw_all := lw_g (lw_at lw_m7 133 rfl) rfl
theorem q1671 : (Jvm.Cond.laysStatic "java/util/ArrayList" "EMPTY_ELEMENTDATA" "[Ljava/lang/Object;") ∈ lw_tbl := lw_at lw_m7 134 rfl
theorem q1822 : (Jvm.Cond.instanceMethod ({ cls := "java/util/ArrayList", name := "clear", desc := "()V" } : Jvm.MethodName)) ∈ lw_all := lw_g (lw_at lw_m8 45 rfl) rfl
theorem q1823 : (Jvm.Cond.selects "java/util/ArrayList" ({ cls := "java/util/ArrayList", name := "clear", desc := "()V" } : Jvm.MethodName) ({ cls := "java/util/ArrayList", name := "clear", desc := "()V" } : Jvm.MethodName)) ∈ lw_all := lw_g (lw_at lw_m8 46 rfl) rfl
theorem q1824 : (Jvm.Cond.code ({ cls := "java/util/ArrayList", name := "clear", desc := "()V" } : Jvm.MethodName) prog_48_method_40_code (4 : Nat) (Option.none : Option Jvm.ClassFile.FieldType)) ∈ lw_all := lw_g (lw_at lw_m8 47 rfl) rfl
theorem q2430 : (Jvm.Cond.castable "java/util/ArrayList" "java/lang/Object") ∈ lw_tbl := lw_at lw_m10 173 rfl
theorem q104 : (Jvm.Cond.initialized "java/util/Objects") ∈ lw_all := lw_g (lw_at lw_m1 7 rfl) rfl
theorem q165 : (Jvm.Cond.static ({ cls := "java/util/Objects", name := "checkIndex", desc := "(II)I" } : Jvm.MethodName)) ∈ lw_all := lw_g (lw_at lw_m1 68 rfl) rfl
theorem q166 : (Jvm.Cond.code ({ cls := "java/util/Objects", name := "checkIndex", desc := "(II)I" } : Jvm.MethodName) prog_52_method_17_code (2 : Nat) (Option.some Jvm.ClassFile.FieldType.int)) ∈ lw_all := lw_g (lw_at lw_m1 69 rfl) rfl
theorem q167 : (Jvm.Cond.methodLink "java/util/Objects" (105 : Nat) ({ cls := "jdk/internal/util/Preconditions", name := "checkIndex", desc := "(IILjava/util/function/BiFunction;)I" } : Jvm.MethodName)) ∈ lw_all := lw_g (lw_at lw_m1 70 rfl) rfl
theorem q105 : (Jvm.Cond.initialized "jdk/internal/util/Preconditions") ∈ lw_all := lw_g (lw_at lw_m1 8 rfl) rfl
theorem q168 : (Jvm.Cond.static ({ cls := "jdk/internal/util/Preconditions", name := "checkIndex", desc := "(IILjava/util/function/BiFunction;)I" } : Jvm.MethodName)) ∈ lw_all := lw_g (lw_at lw_m1 71 rfl) rfl
theorem q169 : (Jvm.Cond.code ({ cls := "jdk/internal/util/Preconditions", name := "checkIndex", desc := "(IILjava/util/function/BiFunction;)I" } : Jvm.MethodName) prog_56_method_11_code (3 : Nat) (Option.some Jvm.ClassFile.FieldType.int)) ∈ lw_all := lw_g (lw_at lw_m1 72 rfl) rfl
theorem q2042 : (Jvm.Cond.laysStatic "jdk/internal/util/Preconditions" "SIOOBE_FORMATTER" "Ljava/util/function/BiFunction;") ∈ lw_tbl := lw_at lw_m9 25 rfl
theorem q107 : (Jvm.Cond.initialized "jdk/internal/util/ArraysSupport") ∈ lw_all := lw_g (lw_at lw_m1 10 rfl) rfl
theorem q216 : (Jvm.Cond.static ({ cls := "jdk/internal/util/ArraysSupport", name := "newLength", desc := "(III)I" } : Jvm.MethodName)) ∈ lw_all := lw_g (lw_at lw_m1 119 rfl) rfl
theorem q217 : (Jvm.Cond.code ({ cls := "jdk/internal/util/ArraysSupport", name := "newLength", desc := "(III)I" } : Jvm.MethodName) prog_55_method_27_code (4 : Nat) (Option.some Jvm.ClassFile.FieldType.int)) ∈ lw_all := lw_g (lw_at lw_m1 120 rfl) rfl
theorem q218 : (Jvm.Cond.methodLink "jdk/internal/util/ArraysSupport" (194 : Nat) ({ cls := "java/lang/Math", name := "max", desc := "(II)I" } : Jvm.MethodName)) ∈ lw_all := lw_g (lw_at lw_m1 121 rfl) rfl
theorem q221 : (Jvm.Cond.constant "jdk/internal/util/ArraysSupport" (200 : Nat) (2147483639 : Int32)) ∈ lw_all := lw_g (lw_at lw_m1 124 rfl) rfl
theorem q222 : (Jvm.Cond.methodLink "jdk/internal/util/ArraysSupport" (201 : Nat) ({ cls := "jdk/internal/util/ArraysSupport", name := "hugeLength", desc := "(II)I" } : Jvm.MethodName)) ∈ lw_all := lw_g (lw_at lw_m1 125 rfl) rfl
theorem q223 : (Jvm.Cond.static ({ cls := "jdk/internal/util/ArraysSupport", name := "hugeLength", desc := "(II)I" } : Jvm.MethodName)) ∈ lw_all := lw_g (lw_at lw_m1 126 rfl) rfl
theorem q224 : (Jvm.Cond.code ({ cls := "jdk/internal/util/ArraysSupport", name := "hugeLength", desc := "(II)I" } : Jvm.MethodName) prog_55_method_28_code (3 : Nat) (Option.some Jvm.ClassFile.FieldType.int)) ∈ lw_all := lw_g (lw_at lw_m1 127 rfl) rfl
theorem q108 : (Jvm.Cond.initialized "java/lang/Math") ∈ lw_all := lw_g (lw_at lw_m1 11 rfl) rfl
theorem q219 : (Jvm.Cond.static ({ cls := "java/lang/Math", name := "max", desc := "(II)I" } : Jvm.MethodName)) ∈ lw_all := lw_g (lw_at lw_m1 122 rfl) rfl
theorem q220 : (Jvm.Cond.code ({ cls := "java/lang/Math", name := "max", desc := "(II)I" } : Jvm.MethodName) prog_38_method_65_code (2 : Nat) (Option.some Jvm.ClassFile.FieldType.int)) ∈ lw_all := lw_g (lw_at lw_m1 123 rfl) rfl
theorem q265 : (Jvm.Cond.static ({ cls := "java/lang/Math", name := "min", desc := "(II)I" } : Jvm.MethodName)) ∈ lw_all := lw_g (lw_at lw_m1 168 rfl) rfl
theorem q266 : (Jvm.Cond.code ({ cls := "java/lang/Math", name := "min", desc := "(II)I" } : Jvm.MethodName) prog_38_method_69_code (2 : Nat) (Option.some Jvm.ClassFile.FieldType.int)) ∈ lw_all := lw_g (lw_at lw_m1 169 rfl) rfl
theorem q926 : (Jvm.Cond.static ({ cls := "java/lang/Math", name := "abs", desc := "(I)I" } : Jvm.MethodName)) ∈ lw_all := lw_g (lw_at lw_m4 109 rfl) rfl
theorem q927 : (Jvm.Cond.code ({ cls := "java/lang/Math", name := "abs", desc := "(I)I" } : Jvm.MethodName) prog_38_method_59_code (1 : Nat) (Option.some Jvm.ClassFile.FieldType.int)) ∈ lw_all := lw_g (lw_at lw_m4 110 rfl) rfl
theorem q1380 : (Jvm.Cond.static ({ cls := "java/lang/Math", name := "min", desc := "(JJ)J" } : Jvm.MethodName)) ∈ lw_all := lw_g (lw_at lw_m6 83 rfl) rfl
theorem q1381 : (Jvm.Cond.code ({ cls := "java/lang/Math", name := "min", desc := "(JJ)J" } : Jvm.MethodName) prog_38_method_70_code (4 : Nat) (Option.some Jvm.ClassFile.FieldType.long)) ∈ lw_all := lw_g (lw_at lw_m6 84 rfl) rfl
theorem q109 : (Jvm.Cond.initialized "java/util/Arrays") ∈ lw_all := lw_g (lw_at lw_m1 12 rfl) rfl
theorem q226 : (Jvm.Cond.static ({ cls := "java/util/Arrays", name := "copyOf", desc := "([Ljava/lang/Object;I)[Ljava/lang/Object;" } : Jvm.MethodName)) ∈ lw_all := lw_g (lw_at lw_m1 129 rfl) rfl
theorem q227 : (Jvm.Cond.code ({ cls := "java/util/Arrays", name := "copyOf", desc := "([Ljava/lang/Object;I)[Ljava/lang/Object;" } : Jvm.MethodName) prog_49_method_119_code (2 : Nat) (Option.some (Jvm.ClassFile.FieldType.array (Jvm.ClassFile.FieldType.object "java/lang/Object")))) ∈ lw_all := lw_g (lw_at lw_m1 130 rfl) rfl
theorem q228 : (Jvm.Cond.methodLink "java/util/Arrays" (86 : Nat) ({ cls := "java/lang/Object", name := "getClass", desc := "()Ljava/lang/Class;" } : Jvm.MethodName)) ∈ lw_all := lw_g (lw_at lw_m1 131 rfl) rfl
theorem q258 : (Jvm.Cond.methodLink "java/util/Arrays" (300 : Nat) ({ cls := "java/util/Arrays", name := "copyOf", desc := "([Ljava/lang/Object;ILjava/lang/Class;)[Ljava/lang/Object;" } : Jvm.MethodName)) ∈ lw_all := lw_g (lw_at lw_m1 161 rfl) rfl
theorem q259 : (Jvm.Cond.static ({ cls := "java/util/Arrays", name := "copyOf", desc := "([Ljava/lang/Object;ILjava/lang/Class;)[Ljava/lang/Object;" } : Jvm.MethodName)) ∈ lw_all := lw_g (lw_at lw_m1 162 rfl) rfl
theorem q260 : (Jvm.Cond.code ({ cls := "java/util/Arrays", name := "copyOf", desc := "([Ljava/lang/Object;ILjava/lang/Class;)[Ljava/lang/Object;" } : Jvm.MethodName) prog_49_method_120_code (4 : Nat) (Option.some (Jvm.ClassFile.FieldType.array (Jvm.ClassFile.FieldType.object "java/lang/Object")))) ∈ lw_all := lw_g (lw_at lw_m1 163 rfl) rfl
theorem q261 : (Jvm.Cond.classLink "java/util/Arrays" (110 : Nat) "[Ljava/lang/Object;") ∈ lw_all := lw_g (lw_at lw_m1 164 rfl) rfl
theorem q263 : (Jvm.Cond.classLink "java/util/Arrays" (2 : Nat) "java/lang/Object") ∈ lw_all := lw_g (lw_at lw_m1 166 rfl) rfl
theorem q264 : (Jvm.Cond.methodLink "java/util/Arrays" (304 : Nat) ({ cls := "java/lang/Math", name := "min", desc := "(II)I" } : Jvm.MethodName)) ∈ lw_all := lw_g (lw_at lw_m1 167 rfl) rfl
theorem q267 : (Jvm.Cond.methodLink "java/util/Arrays" (150 : Nat) ({ cls := "java/lang/System", name := "arraycopy", desc := "(Ljava/lang/Object;ILjava/lang/Object;II)V" } : Jvm.MethodName)) ∈ lw_all := lw_g (lw_at lw_m1 170 rfl) rfl
theorem q112 : (Jvm.Cond.initialized "java/lang/Throwable") ∈ lw_all := lw_g (lw_at lw_m1 15 rfl) rfl
theorem q366 : (Jvm.Cond.declares ({ cls := "java/lang/Throwable", name := "<init>", desc := "()V" } : Jvm.MethodName)) ∈ lw_tbl := lw_at lw_m2 29 rfl
theorem q367 : (Jvm.Cond.declares ({ cls := "java/lang/Throwable", name := "<init>", desc := "(Ljava/lang/String;)V" } : Jvm.MethodName)) ∈ lw_tbl := lw_at lw_m2 30 rfl
theorem q371 : (Jvm.Cond.lays "java/lang/Throwable" "java/lang/Throwable" "cause" "Ljava/lang/Throwable;") ∈ lw_all := lw_g (lw_at lw_m2 34 rfl) rfl
theorem q373 : (Jvm.Cond.lays "java/lang/Throwable" "java/lang/Throwable" "stackTrace" "[Ljava/lang/StackTraceElement;") ∈ lw_all := lw_g (lw_at lw_m2 36 rfl) rfl
theorem q375 : (Jvm.Cond.lays "java/lang/Throwable" "java/lang/Throwable" "suppressedExceptions" "Ljava/util/List;") ∈ lw_all := lw_g (lw_at lw_m2 38 rfl) rfl
theorem q377 : (Jvm.Cond.lays "java/lang/Throwable" "java/lang/Throwable" "detailMessage" "Ljava/lang/String;") ∈ lw_all := lw_g (lw_at lw_m2 40 rfl) rfl
theorem q379 : (Jvm.Cond.lays "java/lang/Throwable" "java/lang/Throwable" "backtrace" "Ljava/lang/Object;") ∈ lw_all := lw_g (lw_at lw_m2 42 rfl) rfl
theorem q380 : (Jvm.Cond.fieldLink "java/lang/Throwable" (198 : Nat) "java/lang/Throwable" "backtrace" "Ljava/lang/Object;") ∈ lw_all := lw_g (lw_at lw_m2 43 rfl) rfl
theorem q381 : (Jvm.Cond.superclass "java/lang/Throwable" "java/lang/Object") ∈ lw_all := lw_g (lw_at lw_m2 44 rfl) rfl
theorem q382 : (Jvm.Cond.instanceMethod ({ cls := "java/lang/Throwable", name := "<init>", desc := "()V" } : Jvm.MethodName)) ∈ lw_all := lw_g (lw_at lw_m2 45 rfl) rfl
theorem q383 : (Jvm.Cond.code ({ cls := "java/lang/Throwable", name := "<init>", desc := "()V" } : Jvm.MethodName) prog_43_method_1_code (1 : Nat) (Option.none : Option Jvm.ClassFile.FieldType)) ∈ lw_all := lw_g (lw_at lw_m2 46 rfl) rfl
theorem q384 : (Jvm.Cond.methodLink "java/lang/Throwable" (1 : Nat) ({ cls := "java/lang/Object", name := "<init>", desc := "()V" } : Jvm.MethodName)) ∈ lw_all := lw_g (lw_at lw_m2 47 rfl) rfl
theorem q385 : (Jvm.Cond.fieldLink "java/lang/Throwable" (13 : Nat) "java/lang/Throwable" "UNASSIGNED_STACK" "[Ljava/lang/StackTraceElement;") ∈ lw_all := lw_g (lw_at lw_m2 48 rfl) rfl
theorem q386 : (Jvm.Cond.laysStatic "java/lang/Throwable" "UNASSIGNED_STACK" "[Ljava/lang/StackTraceElement;") ∈ lw_tbl := lw_at lw_m2 49 rfl
theorem q387 : (Jvm.Cond.fieldLink "java/lang/Throwable" (20 : Nat) "java/lang/Throwable" "SUPPRESSED_SENTINEL" "Ljava/util/List;") ∈ lw_all := lw_g (lw_at lw_m2 50 rfl) rfl
theorem q388 : (Jvm.Cond.laysStatic "java/lang/Throwable" "SUPPRESSED_SENTINEL" "Ljava/util/List;") ∈ lw_tbl := lw_at lw_m2 51 rfl
theorem q389 : (Jvm.Cond.methodLink "java/lang/Throwable" (27 : Nat) ({ cls := "java/lang/Throwable", name := "fillInStackTrace", desc := "()Ljava/lang/Throwable;" } : Jvm.MethodName)) ∈ lw_all := lw_g (lw_at lw_m2 52 rfl) rfl
theorem q390 : (Jvm.Cond.instanceMethod ({ cls := "java/lang/Throwable", name := "fillInStackTrace", desc := "()Ljava/lang/Throwable;" } : Jvm.MethodName)) ∈ lw_all := lw_g (lw_at lw_m2 53 rfl) rfl
theorem q391 : (Jvm.Cond.sameMethod "java/lang/Throwable" "java/lang/Throwable" "fillInStackTrace" "()Ljava/lang/Throwable;") ∈ lw_all := lw_g (lw_at lw_m2 54 rfl) rfl
theorem q393 : (Jvm.Cond.codeSync ({ cls := "java/lang/Throwable", name := "fillInStackTrace", desc := "()Ljava/lang/Throwable;" } : Jvm.MethodName) prog_43_method_18_code (1 : Nat) (Option.some (Jvm.ClassFile.FieldType.object "java/lang/Throwable"))) ∈ lw_all := lw_g (lw_at lw_m2 56 rfl) rfl
theorem q394 : (Jvm.Cond.methodLink "java/lang/Throwable" (202 : Nat) ({ cls := "java/lang/Throwable", name := "fillInStackTrace", desc := "(I)Ljava/lang/Throwable;" } : Jvm.MethodName)) ∈ lw_all := lw_g (lw_at lw_m2 57 rfl) rfl
theorem q395 : (Jvm.Cond.privateMethod ({ cls := "java/lang/Throwable", name := "fillInStackTrace", desc := "(I)Ljava/lang/Throwable;" } : Jvm.MethodName)) ∈ lw_tbl := lw_at lw_m2 58 rfl
theorem q396 : (Jvm.Cond.instanceMethod ({ cls := "java/lang/Throwable", name := "fillInStackTrace", desc := "(I)Ljava/lang/Throwable;" } : Jvm.MethodName)) ∈ lw_all := lw_g (lw_at lw_m2 59 rfl) rfl
theorem q397 : (Jvm.Cond.instantiable "java/lang/Throwable" (6 : Nat)) ∈ lw_all := lw_g (lw_at lw_m2 60 rfl) rfl
theorem q398 : (Jvm.Cond.native ({ cls := "java/lang/Throwable", name := "fillInStackTrace", desc := "(I)Ljava/lang/Throwable;" } : Jvm.MethodName)) ∈ lw_all := lw_g (lw_at lw_m2 61 rfl) rfl
theorem q406 : (Jvm.Cond.instanceMethod ({ cls := "java/lang/Throwable", name := "<init>", desc := "(Ljava/lang/String;Ljava/lang/Throwable;ZZ)V" } : Jvm.MethodName)) ∈ lw_all := lw_g (lw_at lw_m2 69 rfl) rfl
theorem q407 : (Jvm.Cond.code ({ cls := "java/lang/Throwable", name := "<init>", desc := "(Ljava/lang/String;Ljava/lang/Throwable;ZZ)V" } : Jvm.MethodName) prog_43_method_5_code (5 : Nat) (Option.none : Option Jvm.ClassFile.FieldType)) ∈ lw_all := lw_g (lw_at lw_m2 70 rfl) rfl
theorem q410 : (Jvm.Cond.fieldLink "java/lang/Throwable" (198 : Nat) "java/lang/Throwable" "backtrace" "Ljava/lang/Object;") ∈ lw_all := lw_g (lw_at lw_m2 73 rfl) rfl
theorem q411 : (Jvm.Cond.fieldLink "java/lang/Throwable" (31 : Nat) "java/lang/Throwable" "detailMessage" "Ljava/lang/String;") ∈ lw_all := lw_g (lw_at lw_m2 74 rfl) rfl
theorem q412 : (Jvm.Cond.fieldLink "java/lang/Throwable" (7 : Nat) "java/lang/Throwable" "cause" "Ljava/lang/Throwable;") ∈ lw_all := lw_g (lw_at lw_m2 75 rfl) rfl
theorem q413 : (Jvm.Cond.fieldLink "java/lang/Throwable" (17 : Nat) "java/lang/Throwable" "stackTrace" "[Ljava/lang/StackTraceElement;") ∈ lw_all := lw_g (lw_at lw_m2 76 rfl) rfl
theorem q414 : (Jvm.Cond.fieldLink "java/lang/Throwable" (24 : Nat) "java/lang/Throwable" "suppressedExceptions" "Ljava/util/List;") ∈ lw_all := lw_g (lw_at lw_m2 77 rfl) rfl
theorem q417 : (Jvm.Cond.soleField "java/lang/Throwable" "backtrace") ∈ lw_all := lw_g (lw_at lw_m2 80 rfl) rfl
theorem q418 : (Jvm.Cond.soleField "java/lang/Throwable" "detailMessage") ∈ lw_all := lw_g (lw_at lw_m2 81 rfl) rfl
theorem q419 : (Jvm.Cond.soleField "java/lang/Throwable" "cause") ∈ lw_all := lw_g (lw_at lw_m2 82 rfl) rfl
theorem q420 : (Jvm.Cond.soleField "java/lang/Throwable" "stackTrace") ∈ lw_all := lw_g (lw_at lw_m2 83 rfl) rfl
theorem q422 : (Jvm.Cond.soleField "java/lang/Throwable" "depth") ∈ lw_all := lw_g (lw_at lw_m2 85 rfl) rfl
theorem q423 : (Jvm.Cond.soleField "java/lang/Throwable" "suppressedExceptions") ∈ lw_all := lw_g (lw_at lw_m2 86 rfl) rfl
theorem q2415 : (Jvm.Cond.sameMethod "java/lang/Throwable" "java/lang/Throwable" "fillInStackTrace" "(I)Ljava/lang/Throwable;") ∈ lw_all := lw_g (lw_at lw_m10 158 rfl) rfl
theorem q2455 : (Jvm.Cond.castable "java/lang/Throwable" "java/lang/Object") ∈ lw_tbl := lw_at lw_m10 198 rfl
theorem q113 : (Jvm.Cond.initialized "java/lang/Exception") ∈ lw_all := lw_g (lw_at lw_m1 16 rfl) rfl
theorem q364 : (Jvm.Cond.declares ({ cls := "java/lang/Exception", name := "<init>", desc := "()V" } : Jvm.MethodName)) ∈ lw_tbl := lw_at lw_m2 27 rfl
theorem q365 : (Jvm.Cond.declares ({ cls := "java/lang/Exception", name := "<init>", desc := "(Ljava/lang/String;)V" } : Jvm.MethodName)) ∈ lw_tbl := lw_at lw_m2 28 rfl
theorem q403 : (Jvm.Cond.instanceMethod ({ cls := "java/lang/Exception", name := "<init>", desc := "(Ljava/lang/String;Ljava/lang/Throwable;ZZ)V" } : Jvm.MethodName)) ∈ lw_all := lw_g (lw_at lw_m2 66 rfl) rfl
theorem q404 : (Jvm.Cond.code ({ cls := "java/lang/Exception", name := "<init>", desc := "(Ljava/lang/String;Ljava/lang/Throwable;ZZ)V" } : Jvm.MethodName) prog_35_method_5_code (5 : Nat) (Option.none : Option Jvm.ClassFile.FieldType)) ∈ lw_all := lw_g (lw_at lw_m2 67 rfl) rfl
theorem q405 : (Jvm.Cond.methodLink "java/lang/Exception" (16 : Nat) ({ cls := "java/lang/Throwable", name := "<init>", desc := "(Ljava/lang/String;Ljava/lang/Throwable;ZZ)V" } : Jvm.MethodName)) ∈ lw_all := lw_g (lw_at lw_m2 68 rfl) rfl
theorem q98 : (Jvm.Cond.initialized "LinesPromised") ∈ lw_all := lw_g (lw_at lw_m1 1 rfl) rfl
theorem q143 : (Jvm.Cond.instanceMethod ({ cls := "LinesPromised", name := "land", desc := "(III)I" } : Jvm.MethodName)) ∈ lw_all := lw_g (lw_at lw_m1 46 rfl) rfl
theorem q144 : (Jvm.Cond.selects "LinesPromised" ({ cls := "LinesPromised", name := "land", desc := "(III)I" } : Jvm.MethodName) ({ cls := "LinesPromised", name := "land", desc := "(III)I" } : Jvm.MethodName)) ∈ lw_all := lw_g (lw_at lw_m1 47 rfl) rfl
theorem q145 : (Jvm.Cond.code ({ cls := "LinesPromised", name := "land", desc := "(III)I" } : Jvm.MethodName) prog_1_method_7_code (6 : Nat) (Option.some Jvm.ClassFile.FieldType.int)) ∈ lw_all := lw_g (lw_at lw_m1 48 rfl) rfl
theorem q146 : (Jvm.Cond.methodLink "LinesPromised" (24 : Nat) ({ cls := "LinesPromised", name := "isCell", desc := "(I)Z" } : Jvm.MethodName)) ∈ lw_all := lw_g (lw_at lw_m1 49 rfl) rfl
theorem q147 : (Jvm.Cond.static ({ cls := "LinesPromised", name := "isCell", desc := "(I)Z" } : Jvm.MethodName)) ∈ lw_all := lw_g (lw_at lw_m1 50 rfl) rfl
theorem q148 : (Jvm.Cond.code ({ cls := "LinesPromised", name := "isCell", desc := "(I)Z" } : Jvm.MethodName) prog_1_method_3_code (1 : Nat) (Option.some Jvm.ClassFile.FieldType.boolean)) ∈ lw_all := lw_g (lw_at lw_m1 51 rfl) rfl
theorem q149 : (Jvm.Cond.methodLink "LinesPromised" (3 : Nat) ({ cls := "LinesPromised", name := "in", desc := "(III)Z" } : Jvm.MethodName)) ∈ lw_all := lw_g (lw_at lw_m1 52 rfl) rfl
theorem q150 : (Jvm.Cond.static ({ cls := "LinesPromised", name := "in", desc := "(III)Z" } : Jvm.MethodName)) ∈ lw_all := lw_g (lw_at lw_m1 53 rfl) rfl
theorem q151 : (Jvm.Cond.code ({ cls := "LinesPromised", name := "in", desc := "(III)Z" } : Jvm.MethodName) prog_1_method_1_code (3 : Nat) (Option.some Jvm.ClassFile.FieldType.boolean)) ∈ lw_all := lw_g (lw_at lw_m1 54 rfl) rfl
theorem q153 : (Jvm.Cond.instanceMethod ({ cls := "LinesPromised", name := "town", desc := "(II)I" } : Jvm.MethodName)) ∈ lw_all := lw_g (lw_at lw_m1 56 rfl) rfl
theorem q154 : (Jvm.Cond.selects "LinesPromised" ({ cls := "LinesPromised", name := "town", desc := "(II)I" } : Jvm.MethodName) ({ cls := "LinesPromised", name := "town", desc := "(II)I" } : Jvm.MethodName)) ∈ lw_all := lw_g (lw_at lw_m1 57 rfl) rfl
theorem q155 : (Jvm.Cond.code ({ cls := "LinesPromised", name := "town", desc := "(II)I" } : Jvm.MethodName) prog_1_method_9_code (4 : Nat) (Option.some Jvm.ClassFile.FieldType.int)) ∈ lw_all := lw_g (lw_at lw_m1 58 rfl) rfl
theorem q156 : (Jvm.Cond.methodLink "LinesPromised" (32 : Nat) ({ cls := "java/util/ArrayList", name := "size", desc := "()I" } : Jvm.MethodName)) ∈ lw_all := lw_g (lw_at lw_m1 59 rfl) rfl
theorem q160 : (Jvm.Cond.methodLink "LinesPromised" (38 : Nat) ({ cls := "java/util/ArrayList", name := "get", desc := "(I)Ljava/lang/Object;" } : Jvm.MethodName)) ∈ lw_all := lw_g (lw_at lw_m1 63 rfl) rfl
theorem q174 : (Jvm.Cond.classLink "LinesPromised" (42 : Nat) "LinesPromised$Town") ∈ lw_all := lw_g (lw_at lw_m1 77 rfl) rfl
theorem q176 : (Jvm.Cond.methodLink "LinesPromised" (48 : Nat) ({ cls := "LinesPromised$Town", name := "<init>", desc := "(III)V" } : Jvm.MethodName)) ∈ lw_all := lw_g (lw_at lw_m1 79 rfl) rfl
theorem q184 : (Jvm.Cond.fieldLinkNest "LinesPromised" (515 : Nat) "LinesPromised$Town" "number" "I" "LinesPromised") ∈ lw_tbl := lw_at lw_m1 87 rfl
theorem q186 : (Jvm.Cond.fieldLinkNest "LinesPromised" (44 : Nat) "LinesPromised$Town" "cell" "I" "LinesPromised") ∈ lw_tbl := lw_at lw_m1 89 rfl
theorem q188 : (Jvm.Cond.fieldLinkNest "LinesPromised" (311 : Nat) "LinesPromised$Town" "trade" "I" "LinesPromised") ∈ lw_tbl := lw_at lw_m1 91 rfl
theorem q196 : (Jvm.Cond.methodLink "LinesPromised" (52 : Nat) ({ cls := "java/util/ArrayList", name := "add", desc := "(Ljava/lang/Object;)Z" } : Jvm.MethodName)) ∈ lw_all := lw_g (lw_at lw_m1 99 rfl) rfl
theorem q231 : (Jvm.Cond.selects "LinesPromised" ({ cls := "java/lang/Object", name := "getClass", desc := "()Ljava/lang/Class;" } : Jvm.MethodName) ({ cls := "java/lang/Object", name := "getClass", desc := "()Ljava/lang/Class;" } : Jvm.MethodName)) ∈ lw_all := lw_g (lw_at lw_m1 134 rfl) rfl
theorem q273 : (Jvm.Cond.instanceMethod ({ cls := "LinesPromised", name := "coin", desc := "(II)I" } : Jvm.MethodName)) ∈ lw_all := lw_g (lw_at lw_m1 176 rfl) rfl
theorem q274 : (Jvm.Cond.selects "LinesPromised" ({ cls := "LinesPromised", name := "coin", desc := "(II)I" } : Jvm.MethodName) ({ cls := "LinesPromised", name := "coin", desc := "(II)I" } : Jvm.MethodName)) ∈ lw_all := lw_g (lw_at lw_m1 177 rfl) rfl
theorem q275 : (Jvm.Cond.code ({ cls := "LinesPromised", name := "coin", desc := "(II)I" } : Jvm.MethodName) prog_1_method_11_code (4 : Nat) (Option.some Jvm.ClassFile.FieldType.int)) ∈ lw_all := lw_g (lw_at lw_m1 178 rfl) rfl
theorem q276 : (Jvm.Cond.methodLink "LinesPromised" (56 : Nat) ({ cls := "LinesPromised", name := "isHolder", desc := "(I)Z" } : Jvm.MethodName)) ∈ lw_all := lw_g (lw_at lw_m1 179 rfl) rfl
theorem q277 : (Jvm.Cond.static ({ cls := "LinesPromised", name := "isHolder", desc := "(I)Z" } : Jvm.MethodName)) ∈ lw_all := lw_g (lw_at lw_m1 180 rfl) rfl
theorem q278 : (Jvm.Cond.code ({ cls := "LinesPromised", name := "isHolder", desc := "(I)Z" } : Jvm.MethodName) prog_1_method_10_code (1 : Nat) (Option.some Jvm.ClassFile.FieldType.boolean)) ∈ lw_all := lw_g (lw_at lw_m1 181 rfl) rfl
theorem q279 : (Jvm.Cond.constant "LinesPromised" (59 : Nat) (99999 : Int32)) ∈ lw_all := lw_g (lw_at lw_m1 182 rfl) rfl
theorem q281 : (Jvm.Cond.instanceMethod ({ cls := "LinesPromised", name := "man", desc := "(I)I" } : Jvm.MethodName)) ∈ lw_all := lw_g (lw_at lw_m1 184 rfl) rfl
theorem q282 : (Jvm.Cond.selects "LinesPromised" ({ cls := "LinesPromised", name := "man", desc := "(I)I" } : Jvm.MethodName) ({ cls := "LinesPromised", name := "man", desc := "(I)I" } : Jvm.MethodName)) ∈ lw_all := lw_g (lw_at lw_m1 185 rfl) rfl
theorem q283 : (Jvm.Cond.code ({ cls := "LinesPromised", name := "man", desc := "(I)I" } : Jvm.MethodName) prog_1_method_12_code (3 : Nat) (Option.some Jvm.ClassFile.FieldType.int)) ∈ lw_all := lw_g (lw_at lw_m1 186 rfl) rfl
theorem q285 : (Jvm.Cond.instanceMethod ({ cls := "LinesPromised", name := "feed", desc := "(JI)I" } : Jvm.MethodName)) ∈ lw_all := lw_g (lw_at lw_m1 188 rfl) rfl
theorem q286 : (Jvm.Cond.selects "LinesPromised" ({ cls := "LinesPromised", name := "feed", desc := "(JI)I" } : Jvm.MethodName) ({ cls := "LinesPromised", name := "feed", desc := "(JI)I" } : Jvm.MethodName)) ∈ lw_all := lw_g (lw_at lw_m1 189 rfl) rfl
theorem q287 : (Jvm.Cond.code ({ cls := "LinesPromised", name := "feed", desc := "(JI)I" } : Jvm.MethodName) prog_1_method_13_code (5 : Nat) (Option.some Jvm.ClassFile.FieldType.int)) ∈ lw_all := lw_g (lw_at lw_m1 190 rfl) rfl
theorem q289 : (Jvm.Cond.instanceMethod ({ cls := "LinesPromised", name := "text", desc := "(I)I" } : Jvm.MethodName)) ∈ lw_all := lw_g (lw_at lw_m1 192 rfl) rfl
theorem q290 : (Jvm.Cond.selects "LinesPromised" ({ cls := "LinesPromised", name := "text", desc := "(I)I" } : Jvm.MethodName) ({ cls := "LinesPromised", name := "text", desc := "(I)I" } : Jvm.MethodName)) ∈ lw_all := lw_g (lw_at lw_m1 193 rfl) rfl
theorem q291 : (Jvm.Cond.codeWith ({ cls := "LinesPromised", name := "text", desc := "(I)I" } : Jvm.MethodName) prog_1_method_14_code (5 : Nat) (Option.some Jvm.ClassFile.FieldType.int) [((25 : Nat), (51 : Nat), (58 : Nat), (90 : Nat)), ((25 : Nat), (51 : Nat), (74 : Nat), (0 : Nat)), ((58 : Nat), (67 : Nat), (74 : Nat), (0 : Nat)), ((74 : Nat), (76 : Nat), (74 : Nat), (0 : Nat))]) ∈ lw_all := lw_g (lw_at lw_m1 194 rfl) rfl
theorem q292 : (Jvm.Cond.classLink "LinesPromised" (90 : Nat) "LinesPromised$Wrong") ∈ lw_all := lw_g (lw_at lw_m1 195 rfl) rfl
theorem q293 : (Jvm.Cond.methodLink "LinesPromised" (74 : Nat) ({ cls := "LinesPromised", name := "isDay", desc := "(I)Z" } : Jvm.MethodName)) ∈ lw_all := lw_g (lw_at lw_m1 196 rfl) rfl
theorem q294 : (Jvm.Cond.static ({ cls := "LinesPromised", name := "isDay", desc := "(I)Z" } : Jvm.MethodName)) ∈ lw_all := lw_g (lw_at lw_m1 197 rfl) rfl
theorem q295 : (Jvm.Cond.code ({ cls := "LinesPromised", name := "isDay", desc := "(I)Z" } : Jvm.MethodName) prog_1_method_2_code (1 : Nat) (Option.some Jvm.ClassFile.FieldType.boolean)) ∈ lw_all := lw_g (lw_at lw_m1 198 rfl) rfl
theorem q296 : (Jvm.Cond.methodLink "LinesPromised" (84 : Nat) ({ cls := "LinesPromised$Reader", name := "order", desc := "(I)LLinesPromised$Order;" } : Jvm.MethodName)) ∈ lw_all := lw_g (lw_at lw_m1 199 rfl) rfl
theorem q330 : (Jvm.Cond.fieldLinkNest "LinesPromised" (97 : Nat) "LinesPromised$Order" "day" "I" "LinesPromised") ∈ lw_tbl := lw_at lw_m1 233 rfl
theorem q333 : (Jvm.Cond.fieldLinkNest "LinesPromised" (106 : Nat) "LinesPromised$Order" "clauses" "Ljava/util/ArrayList;" "LinesPromised") ∈ lw_tbl := lw_at lw_m1 236 rfl
theorem q409 : (Jvm.Cond.fieldLinkNest "LinesPromised" (92 : Nat) "LinesPromised$Wrong" "place" "I" "LinesPromised") ∈ lw_tbl := lw_at lw_m2 72 rfl
theorem q513 : (Jvm.Cond.fieldLinkNest "LinesPromised" (115 : Nat) "LinesPromised$Clause" "number" "I" "LinesPromised") ∈ lw_tbl := lw_at lw_m2 176 rfl
theorem q515 : (Jvm.Cond.fieldLinkNest "LinesPromised" (307 : Nat) "LinesPromised$Clause" "test" "LLinesPromised$Test;" "LinesPromised") ∈ lw_tbl := lw_at lw_m2 178 rfl
theorem q526 : (Jvm.Cond.instanceMethod ({ cls := "LinesPromised", name := "force", desc := "(II)I" } : Jvm.MethodName)) ∈ lw_all := lw_g (lw_at lw_m2 189 rfl) rfl
theorem q527 : (Jvm.Cond.selects "LinesPromised" ({ cls := "LinesPromised", name := "force", desc := "(II)I" } : Jvm.MethodName) ({ cls := "LinesPromised", name := "force", desc := "(II)I" } : Jvm.MethodName)) ∈ lw_all := lw_g (lw_at lw_m2 190 rfl) rfl
theorem q528 : (Jvm.Cond.code ({ cls := "LinesPromised", name := "force", desc := "(II)I" } : Jvm.MethodName) prog_1_method_18_code (3 : Nat) (Option.some Jvm.ClassFile.FieldType.int)) ∈ lw_all := lw_g (lw_at lw_m2 191 rfl) rfl
theorem q529 : (Jvm.Cond.methodLink "LinesPromised" (118 : Nat) ({ cls := "LinesPromised", name := "rule", desc := "(II)I" } : Jvm.MethodName)) ∈ lw_all := lw_g (lw_at lw_m2 192 rfl) rfl
theorem q530 : (Jvm.Cond.privateMethod ({ cls := "LinesPromised", name := "rule", desc := "(II)I" } : Jvm.MethodName)) ∈ lw_tbl := lw_at lw_m2 193 rfl
theorem q531 : (Jvm.Cond.instanceMethod ({ cls := "LinesPromised", name := "rule", desc := "(II)I" } : Jvm.MethodName)) ∈ lw_all := lw_g (lw_at lw_m2 194 rfl) rfl
theorem q532 : (Jvm.Cond.instantiable "LinesPromised" (27 : Nat)) ∈ lw_all := lw_g (lw_at lw_m2 195 rfl) rfl
theorem q533 : (Jvm.Cond.code ({ cls := "LinesPromised", name := "rule", desc := "(II)I" } : Jvm.MethodName) prog_1_method_17_code (4 : Nat) (Option.some Jvm.ClassFile.FieldType.int)) ∈ lw_all := lw_g (lw_at lw_m2 196 rfl) rfl
theorem q534 : (Jvm.Cond.methodLink "LinesPromised" (111 : Nat) ({ cls := "LinesPromised", name := "clauseFor", desc := "(II)LLinesPromised$Clause;" } : Jvm.MethodName)) ∈ lw_all := lw_g (lw_at lw_m2 197 rfl) rfl
theorem q535 : (Jvm.Cond.privateMethod ({ cls := "LinesPromised", name := "clauseFor", desc := "(II)LLinesPromised$Clause;" } : Jvm.MethodName)) ∈ lw_tbl := lw_at lw_m2 198 rfl
theorem q536 : (Jvm.Cond.instanceMethod ({ cls := "LinesPromised", name := "clauseFor", desc := "(II)LLinesPromised$Clause;" } : Jvm.MethodName)) ∈ lw_all := lw_g (lw_at lw_m2 199 rfl) rfl
theorem q537 : (Jvm.Cond.code ({ cls := "LinesPromised", name := "clauseFor", desc := "(II)LLinesPromised$Clause;" } : Jvm.MethodName) prog_1_method_16_code (4 : Nat) (Option.some (Jvm.ClassFile.FieldType.object "LinesPromised$Clause"))) ∈ lw_all := lw_g (lw_at lw_m2 200 rfl) rfl
theorem q538 : (Jvm.Cond.methodLink "LinesPromised" (103 : Nat) ({ cls := "LinesPromised", name := "orderFor", desc := "(II)I" } : Jvm.MethodName)) ∈ lw_all := lw_g (lw_at lw_m2 201 rfl) rfl
theorem q539 : (Jvm.Cond.privateMethod ({ cls := "LinesPromised", name := "orderFor", desc := "(II)I" } : Jvm.MethodName)) ∈ lw_tbl := lw_at lw_m2 202 rfl
theorem q540 : (Jvm.Cond.instanceMethod ({ cls := "LinesPromised", name := "orderFor", desc := "(II)I" } : Jvm.MethodName)) ∈ lw_all := lw_g (lw_at lw_m2 203 rfl) rfl
theorem q541 : (Jvm.Cond.code ({ cls := "LinesPromised", name := "orderFor", desc := "(II)I" } : Jvm.MethodName) prog_1_method_15_code (5 : Nat) (Option.some Jvm.ClassFile.FieldType.int)) ∈ lw_all := lw_g (lw_at lw_m2 204 rfl) rfl
theorem q542 : (Jvm.Cond.classLink "LinesPromised" (95 : Nat) "LinesPromised$Order") ∈ lw_all := lw_g (lw_at lw_m2 205 rfl) rfl
theorem q543 : (Jvm.Cond.methodLink "LinesPromised" (100 : Nat) ({ cls := "LinesPromised$Order", name := "last", desc := "(I)I" } : Jvm.MethodName)) ∈ lw_all := lw_g (lw_at lw_m2 206 rfl) rfl
theorem q550 : (Jvm.Cond.classLink "LinesPromised" (109 : Nat) "LinesPromised$Clause") ∈ lw_all := lw_g (lw_at lw_m2 213 rfl) rfl
theorem q552 : (Jvm.Cond.instanceMethod ({ cls := "LinesPromised", name := "why", desc := "(II)I" } : Jvm.MethodName)) ∈ lw_all := lw_g (lw_at lw_m2 215 rfl) rfl
theorem q553 : (Jvm.Cond.selects "LinesPromised" ({ cls := "LinesPromised", name := "why", desc := "(II)I" } : Jvm.MethodName) ({ cls := "LinesPromised", name := "why", desc := "(II)I" } : Jvm.MethodName)) ∈ lw_all := lw_g (lw_at lw_m2 216 rfl) rfl
theorem q554 : (Jvm.Cond.code ({ cls := "LinesPromised", name := "why", desc := "(II)I" } : Jvm.MethodName) prog_1_method_19_code (4 : Nat) (Option.some Jvm.ClassFile.FieldType.int)) ∈ lw_all := lw_g (lw_at lw_m2 217 rfl) rfl
theorem q557 : (Jvm.Cond.instanceMethod ({ cls := "LinesPromised", name := "<init>", desc := "()V" } : Jvm.MethodName)) ∈ lw_all := lw_g (lw_at lw_m2 220 rfl) rfl
theorem q558 : (Jvm.Cond.code ({ cls := "LinesPromised", name := "<init>", desc := "()V" } : Jvm.MethodName) prog_1_method_26_code (1 : Nat) (Option.none : Option Jvm.ClassFile.FieldType)) ∈ lw_all := lw_g (lw_at lw_m2 221 rfl) rfl
theorem q559 : (Jvm.Cond.methodLink "LinesPromised" (139 : Nat) ({ cls := "java/lang/Object", name := "<init>", desc := "()V" } : Jvm.MethodName)) ∈ lw_all := lw_g (lw_at lw_m2 222 rfl) rfl
theorem q560 : (Jvm.Cond.classLink "LinesPromised" (33 : Nat) "java/util/ArrayList") ∈ lw_all := lw_g (lw_at lw_m2 223 rfl) rfl
theorem q561 : (Jvm.Cond.methodLink "LinesPromised" (144 : Nat) ({ cls := "java/util/ArrayList", name := "<init>", desc := "()V" } : Jvm.MethodName)) ∈ lw_all := lw_g (lw_at lw_m2 224 rfl) rfl
theorem q562 : (Jvm.Cond.classLink "LinesPromised" (85 : Nat) "LinesPromised$Reader") ∈ lw_all := lw_g (lw_at lw_m2 225 rfl) rfl
theorem q563 : (Jvm.Cond.methodLinkNest "LinesPromised" (145 : Nat) ({ cls := "LinesPromised$Reader", name := "<init>", desc := "(LLinesPromised;)V" } : Jvm.MethodName) "LinesPromised") ∈ lw_tbl := lw_at lw_m2 226 rfl
theorem q589 : (Jvm.Cond.classLink "LinesPromised" (172 : Nat) "[I") ∈ lw_all := lw_g (lw_at lw_m3 12 rfl) rfl
theorem q591 : (Jvm.Cond.classLink "LinesPromised" (177 : Nat) "LinesPromised$Sheet") ∈ lw_all := lw_g (lw_at lw_m3 14 rfl) rfl
theorem q594 : (Jvm.Cond.fieldLink "LinesPromised" (13 : Nat) "LinesPromised" "height" "[I") ∈ lw_all := lw_g (lw_at lw_m3 17 rfl) rfl
theorem q596 : (Jvm.Cond.fieldLink "LinesPromised" (21 : Nat) "LinesPromised" "kind" "[I") ∈ lw_all := lw_g (lw_at lw_m3 19 rfl) rfl
theorem q598 : (Jvm.Cond.fieldLink "LinesPromised" (28 : Nat) "LinesPromised" "towns" "Ljava/util/ArrayList;") ∈ lw_all := lw_g (lw_at lw_m3 21 rfl) rfl
theorem q601 : (Jvm.Cond.fieldLink "LinesPromised" (60 : Nat) "LinesPromised" "coins" "[J") ∈ lw_all := lw_g (lw_at lw_m3 24 rfl) rfl
theorem q603 : (Jvm.Cond.fieldLink "LinesPromised" (194 : Nat) "LinesPromised" "today" "I") ∈ lw_all := lw_g (lw_at lw_m3 26 rfl) rfl
theorem q605 : (Jvm.Cond.fieldLink "LinesPromised" (64 : Nat) "LinesPromised" "men" "I") ∈ lw_all := lw_g (lw_at lw_m3 28 rfl) rfl
theorem q608 : (Jvm.Cond.fieldLink "LinesPromised" (70 : Nat) "LinesPromised" "tape" "[B") ∈ lw_all := lw_g (lw_at lw_m3 31 rfl) rfl
theorem q611 : (Jvm.Cond.fieldLink "LinesPromised" (67 : Nat) "LinesPromised" "taped" "I") ∈ lw_all := lw_g (lw_at lw_m3 34 rfl) rfl
theorem q613 : (Jvm.Cond.fieldLink "LinesPromised" (77 : Nat) "LinesPromised" "orders" "Ljava/util/ArrayList;") ∈ lw_all := lw_g (lw_at lw_m3 36 rfl) rfl
theorem q614 : (Jvm.Cond.fieldLink "LinesPromised" (80 : Nat) "LinesPromised" "reader" "LLinesPromised$Reader;") ∈ lw_all := lw_g (lw_at lw_m3 37 rfl) rfl
theorem q617 : (Jvm.Cond.fieldLink "LinesPromised" (121 : Nat) "LinesPromised" "papers" "Ljava/util/ArrayList;") ∈ lw_all := lw_g (lw_at lw_m3 40 rfl) rfl
theorem q620 : (Jvm.Cond.fieldLink "LinesPromised" (191 : Nat) "LinesPromised" "schemes" "I") ∈ lw_all := lw_g (lw_at lw_m3 43 rfl) rfl
theorem q621 : (Jvm.Cond.fieldLink "LinesPromised" (148 : Nat) "LinesPromised" "toEnd" "[I") ∈ lw_all := lw_g (lw_at lw_m3 44 rfl) rfl
theorem q622 : (Jvm.Cond.fieldLink "LinesPromised" (151 : Nat) "LinesPromised" "least" "[I") ∈ lw_all := lw_g (lw_at lw_m3 45 rfl) rfl
theorem q623 : (Jvm.Cond.fieldLink "LinesPromised" (288 : Nat) "LinesPromised" "leastMany" "I") ∈ lw_all := lw_g (lw_at lw_m3 46 rfl) rfl
theorem q625 : (Jvm.Cond.fieldLink "LinesPromised" (154 : Nat) "LinesPromised" "votes" "Ljava/util/ArrayList;") ∈ lw_all := lw_g (lw_at lw_m3 48 rfl) rfl
theorem q627 : (Jvm.Cond.fieldLink "LinesPromised" (157 : Nat) "LinesPromised" "survey" "[I") ∈ lw_all := lw_g (lw_at lw_m3 50 rfl) rfl
theorem q629 : (Jvm.Cond.fieldLink "LinesPromised" (160 : Nat) "LinesPromised" "press" "[I") ∈ lw_all := lw_g (lw_at lw_m3 52 rfl) rfl
theorem q631 : (Jvm.Cond.fieldLink "LinesPromised" (391 : Nat) "LinesPromised" "jobs" "I") ∈ lw_all := lw_g (lw_at lw_m3 54 rfl) rfl
theorem q632 : (Jvm.Cond.fieldLink "LinesPromised" (163 : Nat) "LinesPromised" "row" "[I") ∈ lw_all := lw_g (lw_at lw_m3 55 rfl) rfl
theorem q633 : (Jvm.Cond.fieldLink "LinesPromised" (166 : Nat) "LinesPromised" "bestRow" "[I") ∈ lw_all := lw_g (lw_at lw_m3 56 rfl) rfl
theorem q634 : (Jvm.Cond.fieldLink "LinesPromised" (394 : Nat) "LinesPromised" "bestMany" "I") ∈ lw_all := lw_g (lw_at lw_m3 57 rfl) rfl
theorem q636 : (Jvm.Cond.fieldLink "LinesPromised" (169 : Nat) "LinesPromised" "standing" "Ljava/util/ArrayList;") ∈ lw_all := lw_g (lw_at lw_m3 59 rfl) rfl
theorem q637 : (Jvm.Cond.fieldLink "LinesPromised" (173 : Nat) "LinesPromised" "known" "[[I") ∈ lw_all := lw_g (lw_at lw_m3 60 rfl) rfl
theorem q638 : (Jvm.Cond.fieldLink "LinesPromised" (500 : Nat) "LinesPromised" "spades" "I") ∈ lw_all := lw_g (lw_at lw_m3 61 rfl) rfl
theorem q639 : (Jvm.Cond.fieldLink "LinesPromised" (545 : Nat) "LinesPromised" "image" "LLinesPromised$Image;") ∈ lw_all := lw_g (lw_at lw_m3 62 rfl) rfl
theorem q641 : (Jvm.Cond.fieldLink "LinesPromised" (179 : Nat) "LinesPromised" "sheets" "[LLinesPromised$Sheet;") ∈ lw_all := lw_g (lw_at lw_m3 64 rfl) rfl
theorem q642 : (Jvm.Cond.lays "LinesPromised" "LinesPromised" "height" "[I") ∈ lw_all := lw_g (lw_at lw_m3 65 rfl) rfl
theorem q643 : (Jvm.Cond.soleField "LinesPromised" "height") ∈ lw_all := lw_g (lw_at lw_m3 66 rfl) rfl
theorem q644 : (Jvm.Cond.lays "LinesPromised" "LinesPromised" "kind" "[I") ∈ lw_all := lw_g (lw_at lw_m3 67 rfl) rfl
theorem q645 : (Jvm.Cond.soleField "LinesPromised" "kind") ∈ lw_all := lw_g (lw_at lw_m3 68 rfl) rfl
theorem q646 : (Jvm.Cond.laysFinal "LinesPromised" "LinesPromised" "towns" "Ljava/util/ArrayList;") ∈ lw_all := lw_g (lw_at lw_m3 69 rfl) rfl
theorem q647 : (Jvm.Cond.soleField "LinesPromised" "towns") ∈ lw_all := lw_g (lw_at lw_m3 70 rfl) rfl
theorem q648 : (Jvm.Cond.lays "LinesPromised" "LinesPromised" "coins" "[J") ∈ lw_all := lw_g (lw_at lw_m3 71 rfl) rfl
theorem q649 : (Jvm.Cond.soleField "LinesPromised" "coins") ∈ lw_all := lw_g (lw_at lw_m3 72 rfl) rfl
theorem q650 : (Jvm.Cond.lays "LinesPromised" "LinesPromised" "today" "I") ∈ lw_all := lw_g (lw_at lw_m3 73 rfl) rfl
theorem q651 : (Jvm.Cond.soleField "LinesPromised" "today") ∈ lw_all := lw_g (lw_at lw_m3 74 rfl) rfl
theorem q652 : (Jvm.Cond.lays "LinesPromised" "LinesPromised" "men" "I") ∈ lw_all := lw_g (lw_at lw_m3 75 rfl) rfl
theorem q653 : (Jvm.Cond.soleField "LinesPromised" "men") ∈ lw_all := lw_g (lw_at lw_m3 76 rfl) rfl
theorem q654 : (Jvm.Cond.lays "LinesPromised" "LinesPromised" "tape" "[B") ∈ lw_all := lw_g (lw_at lw_m3 77 rfl) rfl
theorem q655 : (Jvm.Cond.soleField "LinesPromised" "tape") ∈ lw_all := lw_g (lw_at lw_m3 78 rfl) rfl
theorem q656 : (Jvm.Cond.lays "LinesPromised" "LinesPromised" "taped" "I") ∈ lw_all := lw_g (lw_at lw_m3 79 rfl) rfl
theorem q657 : (Jvm.Cond.soleField "LinesPromised" "taped") ∈ lw_all := lw_g (lw_at lw_m3 80 rfl) rfl
theorem q658 : (Jvm.Cond.laysFinal "LinesPromised" "LinesPromised" "orders" "Ljava/util/ArrayList;") ∈ lw_all := lw_g (lw_at lw_m3 81 rfl) rfl
theorem q659 : (Jvm.Cond.soleField "LinesPromised" "orders") ∈ lw_all := lw_g (lw_at lw_m3 82 rfl) rfl
theorem q660 : (Jvm.Cond.laysFinal "LinesPromised" "LinesPromised" "reader" "LLinesPromised$Reader;") ∈ lw_all := lw_g (lw_at lw_m3 83 rfl) rfl
theorem q661 : (Jvm.Cond.soleField "LinesPromised" "reader") ∈ lw_all := lw_g (lw_at lw_m3 84 rfl) rfl
theorem q662 : (Jvm.Cond.laysFinal "LinesPromised" "LinesPromised" "papers" "Ljava/util/ArrayList;") ∈ lw_all := lw_g (lw_at lw_m3 85 rfl) rfl
theorem q663 : (Jvm.Cond.soleField "LinesPromised" "papers") ∈ lw_all := lw_g (lw_at lw_m3 86 rfl) rfl
theorem q664 : (Jvm.Cond.lays "LinesPromised" "LinesPromised" "schemes" "I") ∈ lw_all := lw_g (lw_at lw_m3 87 rfl) rfl
theorem q665 : (Jvm.Cond.soleField "LinesPromised" "schemes") ∈ lw_all := lw_g (lw_at lw_m3 88 rfl) rfl
theorem q666 : (Jvm.Cond.laysFinal "LinesPromised" "LinesPromised" "toEnd" "[I") ∈ lw_all := lw_g (lw_at lw_m3 89 rfl) rfl
theorem q667 : (Jvm.Cond.soleField "LinesPromised" "toEnd") ∈ lw_all := lw_g (lw_at lw_m3 90 rfl) rfl
theorem q668 : (Jvm.Cond.laysFinal "LinesPromised" "LinesPromised" "least" "[I") ∈ lw_all := lw_g (lw_at lw_m3 91 rfl) rfl
theorem q669 : (Jvm.Cond.soleField "LinesPromised" "least") ∈ lw_all := lw_g (lw_at lw_m3 92 rfl) rfl
theorem q670 : (Jvm.Cond.lays "LinesPromised" "LinesPromised" "leastMany" "I") ∈ lw_all := lw_g (lw_at lw_m3 93 rfl) rfl
theorem q671 : (Jvm.Cond.soleField "LinesPromised" "leastMany") ∈ lw_all := lw_g (lw_at lw_m3 94 rfl) rfl
theorem q672 : (Jvm.Cond.laysFinal "LinesPromised" "LinesPromised" "votes" "Ljava/util/ArrayList;") ∈ lw_all := lw_g (lw_at lw_m3 95 rfl) rfl
theorem q673 : (Jvm.Cond.soleField "LinesPromised" "votes") ∈ lw_all := lw_g (lw_at lw_m3 96 rfl) rfl
theorem q674 : (Jvm.Cond.lays "LinesPromised" "LinesPromised" "survey" "[I") ∈ lw_all := lw_g (lw_at lw_m3 97 rfl) rfl
theorem q675 : (Jvm.Cond.soleField "LinesPromised" "survey") ∈ lw_all := lw_g (lw_at lw_m3 98 rfl) rfl
theorem q676 : (Jvm.Cond.lays "LinesPromised" "LinesPromised" "press" "[I") ∈ lw_all := lw_g (lw_at lw_m3 99 rfl) rfl
theorem q677 : (Jvm.Cond.soleField "LinesPromised" "press") ∈ lw_all := lw_g (lw_at lw_m3 100 rfl) rfl
theorem q678 : (Jvm.Cond.lays "LinesPromised" "LinesPromised" "jobs" "I") ∈ lw_all := lw_g (lw_at lw_m3 101 rfl) rfl
theorem q679 : (Jvm.Cond.soleField "LinesPromised" "jobs") ∈ lw_all := lw_g (lw_at lw_m3 102 rfl) rfl
theorem q680 : (Jvm.Cond.laysFinal "LinesPromised" "LinesPromised" "row" "[I") ∈ lw_all := lw_g (lw_at lw_m3 103 rfl) rfl
theorem q681 : (Jvm.Cond.soleField "LinesPromised" "row") ∈ lw_all := lw_g (lw_at lw_m3 104 rfl) rfl
theorem q682 : (Jvm.Cond.laysFinal "LinesPromised" "LinesPromised" "bestRow" "[I") ∈ lw_all := lw_g (lw_at lw_m3 105 rfl) rfl
theorem q683 : (Jvm.Cond.soleField "LinesPromised" "bestRow") ∈ lw_all := lw_g (lw_at lw_m3 106 rfl) rfl
theorem q684 : (Jvm.Cond.lays "LinesPromised" "LinesPromised" "bestMany" "I") ∈ lw_all := lw_g (lw_at lw_m3 107 rfl) rfl
theorem q685 : (Jvm.Cond.soleField "LinesPromised" "bestMany") ∈ lw_all := lw_g (lw_at lw_m3 108 rfl) rfl
theorem q686 : (Jvm.Cond.laysFinal "LinesPromised" "LinesPromised" "standing" "Ljava/util/ArrayList;") ∈ lw_all := lw_g (lw_at lw_m3 109 rfl) rfl
theorem q687 : (Jvm.Cond.soleField "LinesPromised" "standing") ∈ lw_all := lw_g (lw_at lw_m3 110 rfl) rfl
theorem q688 : (Jvm.Cond.laysFinal "LinesPromised" "LinesPromised" "known" "[[I") ∈ lw_all := lw_g (lw_at lw_m3 111 rfl) rfl
theorem q689 : (Jvm.Cond.soleField "LinesPromised" "known") ∈ lw_all := lw_g (lw_at lw_m3 112 rfl) rfl
theorem q690 : (Jvm.Cond.lays "LinesPromised" "LinesPromised" "spades" "I") ∈ lw_all := lw_g (lw_at lw_m3 113 rfl) rfl
theorem q691 : (Jvm.Cond.soleField "LinesPromised" "spades") ∈ lw_all := lw_g (lw_at lw_m3 114 rfl) rfl
theorem q692 : (Jvm.Cond.lays "LinesPromised" "LinesPromised" "image" "LLinesPromised$Image;") ∈ lw_all := lw_g (lw_at lw_m3 115 rfl) rfl
theorem q693 : (Jvm.Cond.soleField "LinesPromised" "image") ∈ lw_all := lw_g (lw_at lw_m3 116 rfl) rfl
theorem q694 : (Jvm.Cond.laysFinal "LinesPromised" "LinesPromised" "sheets" "[LLinesPromised$Sheet;") ∈ lw_all := lw_g (lw_at lw_m3 117 rfl) rfl
theorem q695 : (Jvm.Cond.soleField "LinesPromised" "sheets") ∈ lw_all := lw_g (lw_at lw_m3 118 rfl) rfl
theorem q696 : (Jvm.Cond.superclass "LinesPromised" "java/lang/Object") ∈ lw_all := lw_g (lw_at lw_m3 119 rfl) rfl
theorem q698 : (Jvm.Cond.instanceMethod ({ cls := "LinesPromised", name := "scheme", desc := "(IIII)I" } : Jvm.MethodName)) ∈ lw_all := lw_g (lw_at lw_m3 121 rfl) rfl
theorem q699 : (Jvm.Cond.selects "LinesPromised" ({ cls := "LinesPromised", name := "scheme", desc := "(IIII)I" } : Jvm.MethodName) ({ cls := "LinesPromised", name := "scheme", desc := "(IIII)I" } : Jvm.MethodName)) ∈ lw_all := lw_g (lw_at lw_m3 122 rfl) rfl
theorem q700 : (Jvm.Cond.code ({ cls := "LinesPromised", name := "scheme", desc := "(IIII)I" } : Jvm.MethodName) prog_1_method_27_code (7 : Nat) (Option.some Jvm.ClassFile.FieldType.int)) ∈ lw_all := lw_g (lw_at lw_m3 123 rfl) rfl
theorem q701 : (Jvm.Cond.methodLink "LinesPromised" (183 : Nat) ({ cls := "LinesPromised", name := "townAt", desc := "(I)LLinesPromised$Town;" } : Jvm.MethodName)) ∈ lw_all := lw_g (lw_at lw_m3 124 rfl) rfl
theorem q702 : (Jvm.Cond.privateMethod ({ cls := "LinesPromised", name := "townAt", desc := "(I)LLinesPromised$Town;" } : Jvm.MethodName)) ∈ lw_tbl := lw_at lw_m3 125 rfl
theorem q703 : (Jvm.Cond.instanceMethod ({ cls := "LinesPromised", name := "townAt", desc := "(I)LLinesPromised$Town;" } : Jvm.MethodName)) ∈ lw_all := lw_g (lw_at lw_m3 126 rfl) rfl
theorem q704 : (Jvm.Cond.code ({ cls := "LinesPromised", name := "townAt", desc := "(I)LLinesPromised$Town;" } : Jvm.MethodName) prog_1_method_8_code (2 : Nat) (Option.some (Jvm.ClassFile.FieldType.object "LinesPromised$Town"))) ∈ lw_all := lw_g (lw_at lw_m3 127 rfl) rfl
theorem q705 : (Jvm.Cond.methodLink "LinesPromised" (187 : Nat) ({ cls := "LinesPromised", name := "isFull", desc := "()Z" } : Jvm.MethodName)) ∈ lw_all := lw_g (lw_at lw_m3 128 rfl) rfl
theorem q706 : (Jvm.Cond.privateMethod ({ cls := "LinesPromised", name := "isFull", desc := "()Z" } : Jvm.MethodName)) ∈ lw_tbl := lw_at lw_m3 129 rfl
theorem q707 : (Jvm.Cond.instanceMethod ({ cls := "LinesPromised", name := "isFull", desc := "()Z" } : Jvm.MethodName)) ∈ lw_all := lw_g (lw_at lw_m3 130 rfl) rfl
theorem q708 : (Jvm.Cond.code ({ cls := "LinesPromised", name := "isFull", desc := "()Z" } : Jvm.MethodName) prog_1_method_24_code (1 : Nat) (Option.some Jvm.ClassFile.FieldType.boolean)) ∈ lw_all := lw_g (lw_at lw_m3 131 rfl) rfl
theorem q709 : (Jvm.Cond.classLink "LinesPromised" (130 : Nat) "LinesPromised$Scheme") ∈ lw_all := lw_g (lw_at lw_m3 132 rfl) rfl
theorem q711 : (Jvm.Cond.methodLink "LinesPromised" (197 : Nat) ({ cls := "LinesPromised$Scheme", name := "<init>", desc := "(IIILLinesPromised$Town;LLinesPromised$Town;II)V" } : Jvm.MethodName)) ∈ lw_all := lw_g (lw_at lw_m3 134 rfl) rfl
theorem q720 : (Jvm.Cond.fieldLink "LinesPromised" (221 : Nat) "LinesPromised$Plan" "from" "LLinesPromised$Town;") ∈ lw_all := lw_g (lw_at lw_m3 143 rfl) rfl
theorem q722 : (Jvm.Cond.fieldLink "LinesPromised" (514 : Nat) "LinesPromised$Bill" "from" "LLinesPromised$Town;") ∈ lw_all := lw_g (lw_at lw_m3 145 rfl) rfl
theorem q726 : (Jvm.Cond.fieldLink "LinesPromised" (206 : Nat) "LinesPromised$Plan" "to" "LLinesPromised$Town;") ∈ lw_all := lw_g (lw_at lw_m3 149 rfl) rfl
theorem q728 : (Jvm.Cond.fieldLink "LinesPromised" (516 : Nat) "LinesPromised$Bill" "to" "LLinesPromised$Town;") ∈ lw_all := lw_g (lw_at lw_m3 151 rfl) rfl
theorem q732 : (Jvm.Cond.fieldLink "LinesPromised" (320 : Nat) "LinesPromised$Plan" "gauge" "I") ∈ lw_all := lw_g (lw_at lw_m3 155 rfl) rfl
theorem q734 : (Jvm.Cond.fieldLink "LinesPromised" (513 : Nat) "LinesPromised$Bill" "gauge" "I") ∈ lw_all := lw_g (lw_at lw_m3 157 rfl) rfl
theorem q740 : (Jvm.Cond.fieldLinkNest "LinesPromised" (470 : Nat) "LinesPromised$Scheme" "place" "I" "LinesPromised") ∈ lw_tbl := lw_at lw_m3 163 rfl
theorem q743 : (Jvm.Cond.fieldLinkNest "LinesPromised" (415 : Nat) "LinesPromised$Scheme" "coins" "J" "LinesPromised") ∈ lw_tbl := lw_at lw_m3 166 rfl
theorem q746 : (Jvm.Cond.fieldLinkNest "LinesPromised" (407 : Nat) "LinesPromised$Scheme" "fallen" "Z" "LinesPromised") ∈ lw_tbl := lw_at lw_m3 169 rfl
theorem q749 : (Jvm.Cond.fieldLinkNest "LinesPromised" (446 : Nat) "LinesPromised$Scheme" "price" "I" "LinesPromised") ∈ lw_tbl := lw_at lw_m3 172 rfl
theorem q752 : (Jvm.Cond.fieldLinkNest "LinesPromised" (457 : Nat) "LinesPromised$Scheme" "calledOn" "I" "LinesPromised") ∈ lw_tbl := lw_at lw_m3 175 rfl
theorem q756 : (Jvm.Cond.fieldLinkNest "LinesPromised" (412 : Nat) "LinesPromised$Scheme" "held" "[I" "LinesPromised") ∈ lw_tbl := lw_at lw_m3 179 rfl
theorem q763 : (Jvm.Cond.fieldLink "LinesPromised" (138 : Nat) "LinesPromised$Paper" "number" "I") ∈ lw_all := lw_g (lw_at lw_m3 186 rfl) rfl
theorem q764 : (Jvm.Cond.fieldLink "LinesPromised" (529 : Nat) "LinesPromised$Bill" "number" "I") ∈ lw_all := lw_g (lw_at lw_m3 187 rfl) rfl
theorem q767 : (Jvm.Cond.fieldLink "LinesPromised" (364 : Nat) "LinesPromised$Paper" "day" "I") ∈ lw_all := lw_g (lw_at lw_m3 190 rfl) rfl
theorem q793 : (Jvm.Cond.methodLink "LinesPromised" (200 : Nat) ({ cls := "LinesPromised", name := "add", desc := "(LLinesPromised$Paper;)I" } : Jvm.MethodName)) ∈ lw_all := lw_g (lw_at lw_m3 216 rfl) rfl
theorem q794 : (Jvm.Cond.privateMethod ({ cls := "LinesPromised", name := "add", desc := "(LLinesPromised$Paper;)I" } : Jvm.MethodName)) ∈ lw_tbl := lw_at lw_m3 217 rfl
theorem q795 : (Jvm.Cond.instanceMethod ({ cls := "LinesPromised", name := "add", desc := "(LLinesPromised$Paper;)I" } : Jvm.MethodName)) ∈ lw_all := lw_g (lw_at lw_m3 218 rfl) rfl
theorem q796 : (Jvm.Cond.code ({ cls := "LinesPromised", name := "add", desc := "(LLinesPromised$Paper;)I" } : Jvm.MethodName) prog_1_method_25_code (2 : Nat) (Option.some Jvm.ClassFile.FieldType.int)) ∈ lw_all := lw_g (lw_at lw_m3 219 rfl) rfl
theorem q798 : (Jvm.Cond.instanceMethod ({ cls := "LinesPromised", name := "chain", desc := "(III)I" } : Jvm.MethodName)) ∈ lw_all := lw_g (lw_at lw_m3 221 rfl) rfl
theorem q799 : (Jvm.Cond.selects "LinesPromised" ({ cls := "LinesPromised", name := "chain", desc := "(III)I" } : Jvm.MethodName) ({ cls := "LinesPromised", name := "chain", desc := "(III)I" } : Jvm.MethodName)) ∈ lw_all := lw_g (lw_at lw_m3 222 rfl) rfl
theorem q800 : (Jvm.Cond.codeWith ({ cls := "LinesPromised", name := "chain", desc := "(III)I" } : Jvm.MethodName) prog_1_method_30_code (7 : Nat) (Option.some Jvm.ClassFile.FieldType.int) [((87 : Nat), (99 : Nat), (102 : Nat), (211 : Nat))]) ∈ lw_all := lw_g (lw_at lw_m3 223 rfl) rfl
theorem q801 : (Jvm.Cond.classLink "LinesPromised" (211 : Nat) "LinesPromised$Torn") ∈ lw_all := lw_g (lw_at lw_m3 224 rfl) rfl
theorem q802 : (Jvm.Cond.methodLink "LinesPromised" (244 : Nat) ({ cls := "LinesPromised", name := "schemeAt", desc := "(I)LLinesPromised$Scheme;" } : Jvm.MethodName)) ∈ lw_all := lw_g (lw_at lw_m3 225 rfl) rfl
theorem q803 : (Jvm.Cond.privateMethod ({ cls := "LinesPromised", name := "schemeAt", desc := "(I)LLinesPromised$Scheme;" } : Jvm.MethodName)) ∈ lw_tbl := lw_at lw_m3 226 rfl
theorem q804 : (Jvm.Cond.instanceMethod ({ cls := "LinesPromised", name := "schemeAt", desc := "(I)LLinesPromised$Scheme;" } : Jvm.MethodName)) ∈ lw_all := lw_g (lw_at lw_m3 227 rfl) rfl
theorem q805 : (Jvm.Cond.code ({ cls := "LinesPromised", name := "schemeAt", desc := "(I)LLinesPromised$Scheme;" } : Jvm.MethodName) prog_1_method_21_code (4 : Nat) (Option.some (Jvm.ClassFile.FieldType.object "LinesPromised$Scheme"))) ∈ lw_all := lw_g (lw_at lw_m3 228 rfl) rfl
theorem q806 : (Jvm.Cond.methodLink "LinesPromised" (126 : Nat) ({ cls := "LinesPromised", name := "paperAt", desc := "(I)LLinesPromised$Paper;" } : Jvm.MethodName)) ∈ lw_all := lw_g (lw_at lw_m3 229 rfl) rfl
theorem q807 : (Jvm.Cond.privateMethod ({ cls := "LinesPromised", name := "paperAt", desc := "(I)LLinesPromised$Paper;" } : Jvm.MethodName)) ∈ lw_tbl := lw_at lw_m3 230 rfl
theorem q808 : (Jvm.Cond.instanceMethod ({ cls := "LinesPromised", name := "paperAt", desc := "(I)LLinesPromised$Paper;" } : Jvm.MethodName)) ∈ lw_all := lw_g (lw_at lw_m3 231 rfl) rfl
theorem q809 : (Jvm.Cond.code ({ cls := "LinesPromised", name := "paperAt", desc := "(I)LLinesPromised$Paper;" } : Jvm.MethodName) prog_1_method_20_code (2 : Nat) (Option.some (Jvm.ClassFile.FieldType.object "LinesPromised$Paper"))) ∈ lw_all := lw_g (lw_at lw_m3 232 rfl) rfl
theorem q810 : (Jvm.Cond.classLink "LinesPromised" (124 : Nat) "LinesPromised$Paper") ∈ lw_all := lw_g (lw_at lw_m3 233 rfl) rfl
theorem q811 : (Jvm.Cond.methodLink "LinesPromised" (132 : Nat) ({ cls := "LinesPromised$Scheme", name := "kind", desc := "()I" } : Jvm.MethodName)) ∈ lw_all := lw_g (lw_at lw_m3 234 rfl) rfl
theorem q822 : (Jvm.Cond.methodLink "LinesPromised" (248 : Nat) ({ cls := "LinesPromised", name := "isSheet", desc := "(I)Z" } : Jvm.MethodName)) ∈ lw_all := lw_g (lw_at lw_m4 5 rfl) rfl
theorem q823 : (Jvm.Cond.static ({ cls := "LinesPromised", name := "isSheet", desc := "(I)Z" } : Jvm.MethodName)) ∈ lw_all := lw_g (lw_at lw_m4 6 rfl) rfl
theorem q824 : (Jvm.Cond.code ({ cls := "LinesPromised", name := "isSheet", desc := "(I)Z" } : Jvm.MethodName) prog_1_method_88_code (1 : Nat) (Option.some Jvm.ClassFile.FieldType.boolean)) ∈ lw_all := lw_g (lw_at lw_m4 7 rfl) rfl
theorem q825 : (Jvm.Cond.classLink "LinesPromised" (251 : Nat) "LinesPromised$Bytes") ∈ lw_all := lw_g (lw_at lw_m4 8 rfl) rfl
theorem q826 : (Jvm.Cond.classLink "LinesPromised" (134 : Nat) "LinesPromised$Plan") ∈ lw_all := lw_g (lw_at lw_m4 9 rfl) rfl
theorem q828 : (Jvm.Cond.methodLink "LinesPromised" (253 : Nat) ({ cls := "LinesPromised$Plan", name := "<init>", desc := "(IILLinesPromised$Scheme;)V" } : Jvm.MethodName)) ∈ lw_all := lw_g (lw_at lw_m4 11 rfl) rfl
theorem q836 : (Jvm.Cond.fieldLinkNest "LinesPromised" (203 : Nat) "LinesPromised$Plan" "way" "[I" "LinesPromised") ∈ lw_tbl := lw_at lw_m4 19 rfl
theorem q838 : (Jvm.Cond.fieldLinkNest "LinesPromised" (231 : Nat) "LinesPromised$Plan" "levels" "[I" "LinesPromised") ∈ lw_tbl := lw_at lw_m4 21 rfl
theorem q840 : (Jvm.Cond.fieldLinkNest "LinesPromised" (228 : Nat) "LinesPromised$Plan" "many" "I" "LinesPromised") ∈ lw_tbl := lw_at lw_m4 23 rfl
theorem q842 : (Jvm.Cond.fieldLinkNest "LinesPromised" (261 : Nat) "LinesPromised$Plan" "torn" "I" "LinesPromised") ∈ lw_tbl := lw_at lw_m4 25 rfl
theorem q847 : (Jvm.Cond.fieldLink "LinesPromised" (495 : Nat) "LinesPromised$Bill" "scheme" "LLinesPromised$Scheme;") ∈ lw_all := lw_g (lw_at lw_m4 30 rfl) rfl
theorem q872 : (Jvm.Cond.methodLink "LinesPromised" (256 : Nat) ({ cls := "LinesPromised", name := "walk", desc := "(LLinesPromised$Plan;LLinesPromised$Sheet;)V" } : Jvm.MethodName)) ∈ lw_all := lw_g (lw_at lw_m4 55 rfl) rfl
theorem q873 : (Jvm.Cond.privateMethod ({ cls := "LinesPromised", name := "walk", desc := "(LLinesPromised$Plan;LLinesPromised$Sheet;)V" } : Jvm.MethodName)) ∈ lw_tbl := lw_at lw_m4 56 rfl
theorem q874 : (Jvm.Cond.instanceMethod ({ cls := "LinesPromised", name := "walk", desc := "(LLinesPromised$Plan;LLinesPromised$Sheet;)V" } : Jvm.MethodName)) ∈ lw_all := lw_g (lw_at lw_m4 57 rfl) rfl
theorem q875 : (Jvm.Cond.code ({ cls := "LinesPromised", name := "walk", desc := "(LLinesPromised$Plan;LLinesPromised$Sheet;)V" } : Jvm.MethodName) prog_1_method_28_code (5 : Nat) (Option.none : Option Jvm.ClassFile.FieldType)) ∈ lw_all := lw_g (lw_at lw_m4 58 rfl) rfl
theorem q876 : (Jvm.Cond.methodLink "LinesPromised" (210 : Nat) ({ cls := "LinesPromised$Sheet", name := "size", desc := "()I" } : Jvm.MethodName)) ∈ lw_all := lw_g (lw_at lw_m4 59 rfl) rfl
theorem q896 : (Jvm.Cond.methodLink "LinesPromised" (213 : Nat) ({ cls := "LinesPromised$Torn", name := "<init>", desc := "(I)V" } : Jvm.MethodName)) ∈ lw_all := lw_g (lw_at lw_m4 79 rfl) rfl
theorem q901 : (Jvm.Cond.fieldLinkNest "LinesPromised" (260 : Nat) "LinesPromised$Torn" "place" "I" "LinesPromised") ∈ lw_tbl := lw_at lw_m4 84 rfl
theorem q906 : (Jvm.Cond.methodLink "LinesPromised" (216 : Nat) ({ cls := "LinesPromised$Sheet", name := "get", desc := "(I)I" } : Jvm.MethodName)) ∈ lw_all := lw_g (lw_at lw_m4 89 rfl) rfl
theorem q918 : (Jvm.Cond.methodLink "LinesPromised" (218 : Nat) ({ cls := "LinesPromised$Plan", name := "has", desc := "(I)Z" } : Jvm.MethodName)) ∈ lw_all := lw_g (lw_at lw_m4 101 rfl) rfl
theorem q922 : (Jvm.Cond.methodLink "LinesPromised" (224 : Nat) ({ cls := "LinesPromised", name := "areBeside", desc := "(II)Z" } : Jvm.MethodName)) ∈ lw_all := lw_g (lw_at lw_m4 105 rfl) rfl
theorem q923 : (Jvm.Cond.static ({ cls := "LinesPromised", name := "areBeside", desc := "(II)Z" } : Jvm.MethodName)) ∈ lw_all := lw_g (lw_at lw_m4 106 rfl) rfl
theorem q924 : (Jvm.Cond.code ({ cls := "LinesPromised", name := "areBeside", desc := "(II)Z" } : Jvm.MethodName) prog_1_method_4_code (2 : Nat) (Option.some Jvm.ClassFile.FieldType.boolean)) ∈ lw_all := lw_g (lw_at lw_m4 107 rfl) rfl
theorem q925 : (Jvm.Cond.methodLink "LinesPromised" (7 : Nat) ({ cls := "java/lang/Math", name := "abs", desc := "(I)I" } : Jvm.MethodName)) ∈ lw_all := lw_g (lw_at lw_m4 108 rfl) rfl
theorem q928 : (Jvm.Cond.methodLink "LinesPromised" (264 : Nat) ({ cls := "LinesPromised", name := "survey", desc := "(LLinesPromised$Plan;LLinesPromised$Sheet;)V" } : Jvm.MethodName)) ∈ lw_all := lw_g (lw_at lw_m4 111 rfl) rfl
theorem q929 : (Jvm.Cond.privateMethod ({ cls := "LinesPromised", name := "survey", desc := "(LLinesPromised$Plan;LLinesPromised$Sheet;)V" } : Jvm.MethodName)) ∈ lw_tbl := lw_at lw_m4 112 rfl
theorem q930 : (Jvm.Cond.instanceMethod ({ cls := "LinesPromised", name := "survey", desc := "(LLinesPromised$Plan;LLinesPromised$Sheet;)V" } : Jvm.MethodName)) ∈ lw_all := lw_g (lw_at lw_m4 113 rfl) rfl
theorem q931 : (Jvm.Cond.code ({ cls := "LinesPromised", name := "survey", desc := "(LLinesPromised$Plan;LLinesPromised$Sheet;)V" } : Jvm.MethodName) prog_1_method_29_code (5 : Nat) (Option.none : Option Jvm.ClassFile.FieldType)) ∈ lw_all := lw_g (lw_at lw_m4 114 rfl) rfl
theorem q932 : (Jvm.Cond.constant "LinesPromised" (234 : Nat) (-1000000 : Int32)) ∈ lw_all := lw_g (lw_at lw_m4 115 rfl) rfl
theorem q933 : (Jvm.Cond.classLink "LinesPromised" (235 : Nat) "LinesPromised$Ints") ∈ lw_all := lw_g (lw_at lw_m4 116 rfl) rfl
theorem q934 : (Jvm.Cond.constant "LinesPromised" (237 : Nat) (1000000 : Int32)) ∈ lw_all := lw_g (lw_at lw_m4 117 rfl) rfl
theorem q935 : (Jvm.Cond.methodLink "LinesPromised" (238 : Nat) ({ cls := "java/lang/Math", name := "min", desc := "(II)I" } : Jvm.MethodName)) ∈ lw_all := lw_g (lw_at lw_m4 118 rfl) rfl
theorem q936 : (Jvm.Cond.methodLink "LinesPromised" (241 : Nat) ({ cls := "java/lang/Math", name := "max", desc := "(II)I" } : Jvm.MethodName)) ∈ lw_all := lw_g (lw_at lw_m4 119 rfl) rfl
theorem q938 : (Jvm.Cond.instanceMethod ({ cls := "LinesPromised", name := "way", desc := "(II)I" } : Jvm.MethodName)) ∈ lw_all := lw_g (lw_at lw_m4 121 rfl) rfl
theorem q939 : (Jvm.Cond.selects "LinesPromised" ({ cls := "LinesPromised", name := "way", desc := "(II)I" } : Jvm.MethodName) ({ cls := "LinesPromised", name := "way", desc := "(II)I" } : Jvm.MethodName)) ∈ lw_all := lw_g (lw_at lw_m4 122 rfl) rfl
theorem q940 : (Jvm.Cond.code ({ cls := "LinesPromised", name := "way", desc := "(II)I" } : Jvm.MethodName) prog_1_method_32_code (4 : Nat) (Option.some Jvm.ClassFile.FieldType.int)) ∈ lw_all := lw_g (lw_at lw_m4 123 rfl) rfl
theorem q941 : (Jvm.Cond.methodLink "LinesPromised" (269 : Nat) ({ cls := "LinesPromised", name := "planAt", desc := "(I)LLinesPromised$Plan;" } : Jvm.MethodName)) ∈ lw_all := lw_g (lw_at lw_m4 124 rfl) rfl
theorem q942 : (Jvm.Cond.privateMethod ({ cls := "LinesPromised", name := "planAt", desc := "(I)LLinesPromised$Plan;" } : Jvm.MethodName)) ∈ lw_tbl := lw_at lw_m4 125 rfl
theorem q943 : (Jvm.Cond.instanceMethod ({ cls := "LinesPromised", name := "planAt", desc := "(I)LLinesPromised$Plan;" } : Jvm.MethodName)) ∈ lw_all := lw_g (lw_at lw_m4 126 rfl) rfl
theorem q944 : (Jvm.Cond.code ({ cls := "LinesPromised", name := "planAt", desc := "(I)LLinesPromised$Plan;" } : Jvm.MethodName) prog_1_method_22_code (4 : Nat) (Option.some (Jvm.ClassFile.FieldType.object "LinesPromised$Plan"))) ∈ lw_all := lw_g (lw_at lw_m4 127 rfl) rfl
theorem q945 : (Jvm.Cond.methodLink "LinesPromised" (273 : Nat) ({ cls := "LinesPromised", name := "yardsOf", desc := "(LLinesPromised$Plan;)I" } : Jvm.MethodName)) ∈ lw_all := lw_g (lw_at lw_m4 128 rfl) rfl
theorem q946 : (Jvm.Cond.privateMethod ({ cls := "LinesPromised", name := "yardsOf", desc := "(LLinesPromised$Plan;)I" } : Jvm.MethodName)) ∈ lw_tbl := lw_at lw_m4 129 rfl
theorem q947 : (Jvm.Cond.instanceMethod ({ cls := "LinesPromised", name := "yardsOf", desc := "(LLinesPromised$Plan;)I" } : Jvm.MethodName)) ∈ lw_all := lw_g (lw_at lw_m4 130 rfl) rfl
theorem q948 : (Jvm.Cond.code ({ cls := "LinesPromised", name := "yardsOf", desc := "(LLinesPromised$Plan;)I" } : Jvm.MethodName) prog_1_method_31_code (4 : Nat) (Option.some Jvm.ClassFile.FieldType.int)) ∈ lw_all := lw_g (lw_at lw_m4 131 rfl) rfl
theorem q949 : (Jvm.Cond.methodLink "LinesPromised" (266 : Nat) ({ cls := "LinesPromised", name := "yards", desc := "(II)I" } : Jvm.MethodName)) ∈ lw_all := lw_g (lw_at lw_m4 132 rfl) rfl
theorem q950 : (Jvm.Cond.privateMethod ({ cls := "LinesPromised", name := "yards", desc := "(II)I" } : Jvm.MethodName)) ∈ lw_tbl := lw_at lw_m4 133 rfl
theorem q951 : (Jvm.Cond.instanceMethod ({ cls := "LinesPromised", name := "yards", desc := "(II)I" } : Jvm.MethodName)) ∈ lw_all := lw_g (lw_at lw_m4 134 rfl) rfl
theorem q952 : (Jvm.Cond.code ({ cls := "LinesPromised", name := "yards", desc := "(II)I" } : Jvm.MethodName) prog_1_method_6_code (3 : Nat) (Option.some Jvm.ClassFile.FieldType.int)) ∈ lw_all := lw_g (lw_at lw_m4 135 rfl) rfl
theorem q953 : (Jvm.Cond.methodLink "LinesPromised" (17 : Nat) ({ cls := "LinesPromised", name := "rise", desc := "(II)I" } : Jvm.MethodName)) ∈ lw_all := lw_g (lw_at lw_m4 136 rfl) rfl
theorem q954 : (Jvm.Cond.privateMethod ({ cls := "LinesPromised", name := "rise", desc := "(II)I" } : Jvm.MethodName)) ∈ lw_tbl := lw_at lw_m4 137 rfl
theorem q955 : (Jvm.Cond.instanceMethod ({ cls := "LinesPromised", name := "rise", desc := "(II)I" } : Jvm.MethodName)) ∈ lw_all := lw_g (lw_at lw_m4 138 rfl) rfl
theorem q956 : (Jvm.Cond.code ({ cls := "LinesPromised", name := "rise", desc := "(II)I" } : Jvm.MethodName) prog_1_method_5_code (3 : Nat) (Option.some Jvm.ClassFile.FieldType.int)) ∈ lw_all := lw_g (lw_at lw_m4 139 rfl) rfl
theorem q958 : (Jvm.Cond.instanceMethod ({ cls := "LinesPromised", name := "level", desc := "(II)I" } : Jvm.MethodName)) ∈ lw_all := lw_g (lw_at lw_m4 141 rfl) rfl
theorem q959 : (Jvm.Cond.selects "LinesPromised" ({ cls := "LinesPromised", name := "level", desc := "(II)I" } : Jvm.MethodName) ({ cls := "LinesPromised", name := "level", desc := "(II)I" } : Jvm.MethodName)) ∈ lw_all := lw_g (lw_at lw_m4 142 rfl) rfl
theorem q960 : (Jvm.Cond.code ({ cls := "LinesPromised", name := "level", desc := "(II)I" } : Jvm.MethodName) prog_1_method_33_code (4 : Nat) (Option.some Jvm.ClassFile.FieldType.int)) ∈ lw_all := lw_g (lw_at lw_m4 143 rfl) rfl
theorem q962 : (Jvm.Cond.instanceMethod ({ cls := "LinesPromised", name := "close", desc := "(III)I" } : Jvm.MethodName)) ∈ lw_all := lw_g (lw_at lw_m4 145 rfl) rfl
theorem q963 : (Jvm.Cond.selects "LinesPromised" ({ cls := "LinesPromised", name := "close", desc := "(III)I" } : Jvm.MethodName) ({ cls := "LinesPromised", name := "close", desc := "(III)I" } : Jvm.MethodName)) ∈ lw_all := lw_g (lw_at lw_m4 146 rfl) rfl
theorem q964 : (Jvm.Cond.code ({ cls := "LinesPromised", name := "close", desc := "(III)I" } : Jvm.MethodName) prog_1_method_36_code (5 : Nat) (Option.some Jvm.ClassFile.FieldType.int)) ∈ lw_all := lw_g (lw_at lw_m4 147 rfl) rfl
theorem q965 : (Jvm.Cond.methodLink "LinesPromised" (277 : Nat) ({ cls := "LinesPromised", name := "openAt", desc := "(LLinesPromised$Plan;I)I" } : Jvm.MethodName)) ∈ lw_all := lw_g (lw_at lw_m4 148 rfl) rfl
theorem q966 : (Jvm.Cond.privateMethod ({ cls := "LinesPromised", name := "openAt", desc := "(LLinesPromised$Plan;I)I" } : Jvm.MethodName)) ∈ lw_tbl := lw_at lw_m4 149 rfl
theorem q967 : (Jvm.Cond.instanceMethod ({ cls := "LinesPromised", name := "openAt", desc := "(LLinesPromised$Plan;I)I" } : Jvm.MethodName)) ∈ lw_all := lw_g (lw_at lw_m4 150 rfl) rfl
theorem q968 : (Jvm.Cond.code ({ cls := "LinesPromised", name := "openAt", desc := "(LLinesPromised$Plan;I)I" } : Jvm.MethodName) prog_1_method_34_code (5 : Nat) (Option.some Jvm.ClassFile.FieldType.int)) ∈ lw_all := lw_g (lw_at lw_m4 151 rfl) rfl
theorem q969 : (Jvm.Cond.methodLink "LinesPromised" (281 : Nat) ({ cls := "LinesPromised", name := "steepAt", desc := "(LLinesPromised$Plan;I)I" } : Jvm.MethodName)) ∈ lw_all := lw_g (lw_at lw_m4 152 rfl) rfl
theorem q970 : (Jvm.Cond.privateMethod ({ cls := "LinesPromised", name := "steepAt", desc := "(LLinesPromised$Plan;I)I" } : Jvm.MethodName)) ∈ lw_tbl := lw_at lw_m4 153 rfl
theorem q971 : (Jvm.Cond.instanceMethod ({ cls := "LinesPromised", name := "steepAt", desc := "(LLinesPromised$Plan;I)I" } : Jvm.MethodName)) ∈ lw_all := lw_g (lw_at lw_m4 154 rfl) rfl
theorem q972 : (Jvm.Cond.code ({ cls := "LinesPromised", name := "steepAt", desc := "(LLinesPromised$Plan;I)I" } : Jvm.MethodName) prog_1_method_35_code (5 : Nat) (Option.some Jvm.ClassFile.FieldType.int)) ∈ lw_all := lw_g (lw_at lw_m4 155 rfl) rfl
theorem q974 : (Jvm.Cond.instanceMethod ({ cls := "LinesPromised", name := "quarrel", desc := "(II)I" } : Jvm.MethodName)) ∈ lw_all := lw_g (lw_at lw_m4 157 rfl) rfl
theorem q975 : (Jvm.Cond.selects "LinesPromised" ({ cls := "LinesPromised", name := "quarrel", desc := "(II)I" } : Jvm.MethodName) ({ cls := "LinesPromised", name := "quarrel", desc := "(II)I" } : Jvm.MethodName)) ∈ lw_all := lw_g (lw_at lw_m4 158 rfl) rfl
theorem q976 : (Jvm.Cond.code ({ cls := "LinesPromised", name := "quarrel", desc := "(II)I" } : Jvm.MethodName) prog_1_method_37_code (7 : Nat) (Option.some Jvm.ClassFile.FieldType.int)) ∈ lw_all := lw_g (lw_at lw_m4 159 rfl) rfl
theorem q978 : (Jvm.Cond.instanceMethod ({ cls := "LinesPromised", name := "slope", desc := "(IIII)I" } : Jvm.MethodName)) ∈ lw_all := lw_g (lw_at lw_m4 161 rfl) rfl
theorem q979 : (Jvm.Cond.selects "LinesPromised" ({ cls := "LinesPromised", name := "slope", desc := "(IIII)I" } : Jvm.MethodName) ({ cls := "LinesPromised", name := "slope", desc := "(IIII)I" } : Jvm.MethodName)) ∈ lw_all := lw_g (lw_at lw_m4 162 rfl) rfl
theorem q980 : (Jvm.Cond.code ({ cls := "LinesPromised", name := "slope", desc := "(IIII)I" } : Jvm.MethodName) prog_1_method_40_code (5 : Nat) (Option.some Jvm.ClassFile.FieldType.int)) ∈ lw_all := lw_g (lw_at lw_m4 163 rfl) rfl
theorem q981 : (Jvm.Cond.methodLink "LinesPromised" (291 : Nat) ({ cls := "LinesPromised", name := "findWay", desc := "(LLinesPromised$Town;LLinesPromised$Town;I)Z" } : Jvm.MethodName)) ∈ lw_all := lw_g (lw_at lw_m4 164 rfl) rfl
theorem q982 : (Jvm.Cond.privateMethod ({ cls := "LinesPromised", name := "findWay", desc := "(LLinesPromised$Town;LLinesPromised$Town;I)Z" } : Jvm.MethodName)) ∈ lw_tbl := lw_at lw_m4 165 rfl
theorem q983 : (Jvm.Cond.instanceMethod ({ cls := "LinesPromised", name := "findWay", desc := "(LLinesPromised$Town;LLinesPromised$Town;I)Z" } : Jvm.MethodName)) ∈ lw_all := lw_g (lw_at lw_m4 166 rfl) rfl
theorem q984 : (Jvm.Cond.code ({ cls := "LinesPromised", name := "findWay", desc := "(LLinesPromised$Town;LLinesPromised$Town;I)Z" } : Jvm.MethodName) prog_1_method_39_code (9 : Nat) (Option.some Jvm.ClassFile.FieldType.boolean)) ∈ lw_all := lw_g (lw_at lw_m4 167 rfl) rfl
theorem q985 : (Jvm.Cond.methodLink "LinesPromised" (284 : Nat) ({ cls := "LinesPromised", name := "mayGo", desc := "(ILLinesPromised$Town;LLinesPromised$Town;Z)Z" } : Jvm.MethodName)) ∈ lw_all := lw_g (lw_at lw_m4 168 rfl) rfl
theorem q986 : (Jvm.Cond.privateMethod ({ cls := "LinesPromised", name := "mayGo", desc := "(ILLinesPromised$Town;LLinesPromised$Town;Z)Z" } : Jvm.MethodName)) ∈ lw_tbl := lw_at lw_m4 169 rfl
theorem q987 : (Jvm.Cond.instanceMethod ({ cls := "LinesPromised", name := "mayGo", desc := "(ILLinesPromised$Town;LLinesPromised$Town;Z)Z" } : Jvm.MethodName)) ∈ lw_all := lw_g (lw_at lw_m4 170 rfl) rfl
theorem q988 : (Jvm.Cond.code ({ cls := "LinesPromised", name := "mayGo", desc := "(ILLinesPromised$Town;LLinesPromised$Town;Z)Z" } : Jvm.MethodName) prog_1_method_38_code (5 : Nat) (Option.some Jvm.ClassFile.FieldType.boolean)) ∈ lw_all := lw_g (lw_at lw_m4 171 rfl) rfl
theorem q990 : (Jvm.Cond.instanceMethod ({ cls := "LinesPromised", name := "claim", desc := "(II)I" } : Jvm.MethodName)) ∈ lw_all := lw_g (lw_at lw_m4 173 rfl) rfl
theorem q991 : (Jvm.Cond.selects "LinesPromised" ({ cls := "LinesPromised", name := "claim", desc := "(II)I" } : Jvm.MethodName) ({ cls := "LinesPromised", name := "claim", desc := "(II)I" } : Jvm.MethodName)) ∈ lw_all := lw_g (lw_at lw_m4 174 rfl) rfl
theorem q992 : (Jvm.Cond.code ({ cls := "LinesPromised", name := "claim", desc := "(II)I" } : Jvm.MethodName) prog_1_method_41_code (3 : Nat) (Option.some Jvm.ClassFile.FieldType.int)) ∈ lw_all := lw_g (lw_at lw_m4 175 rfl) rfl
theorem q993 : (Jvm.Cond.classLink "LinesPromised" (295 : Nat) "LinesPromised$Claim") ∈ lw_all := lw_g (lw_at lw_m4 176 rfl) rfl
theorem q995 : (Jvm.Cond.methodLink "LinesPromised" (297 : Nat) ({ cls := "LinesPromised$Claim", name := "<init>", desc := "(IIII)V" } : Jvm.MethodName)) ∈ lw_all := lw_g (lw_at lw_m4 178 rfl) rfl
theorem q1000 : (Jvm.Cond.fieldLinkNest "LinesPromised" (300 : Nat) "LinesPromised$Claim" "cell" "I" "LinesPromised") ∈ lw_tbl := lw_at lw_m4 183 rfl
theorem q1002 : (Jvm.Cond.fieldLinkNest "LinesPromised" (301 : Nat) "LinesPromised$Claim" "coins" "I" "LinesPromised") ∈ lw_tbl := lw_at lw_m4 185 rfl
theorem q1011 : (Jvm.Cond.instanceMethod ({ cls := "LinesPromised", name := "bill", desc := "(I)I" } : Jvm.MethodName)) ∈ lw_all := lw_g (lw_at lw_m4 194 rfl) rfl
theorem q1012 : (Jvm.Cond.selects "LinesPromised" ({ cls := "LinesPromised", name := "bill", desc := "(I)I" } : Jvm.MethodName) ({ cls := "LinesPromised", name := "bill", desc := "(I)I" } : Jvm.MethodName)) ∈ lw_all := lw_g (lw_at lw_m4 195 rfl) rfl
theorem q1013 : (Jvm.Cond.code ({ cls := "LinesPromised", name := "bill", desc := "(I)I" } : Jvm.MethodName) prog_1_method_45_code (7 : Nat) (Option.some Jvm.ClassFile.FieldType.int)) ∈ lw_all := lw_g (lw_at lw_m4 196 rfl) rfl
theorem q1014 : (Jvm.Cond.classLink "LinesPromised" (136 : Nat) "LinesPromised$Bill") ∈ lw_all := lw_g (lw_at lw_m4 197 rfl) rfl
theorem q1016 : (Jvm.Cond.methodLink "LinesPromised" (329 : Nat) ({ cls := "LinesPromised$Bill", name := "<init>", desc := "(IILLinesPromised$Plan;)V" } : Jvm.MethodName)) ∈ lw_all := lw_g (lw_at lw_m4 199 rfl) rfl
theorem q1021 : (Jvm.Cond.fieldLinkNest "LinesPromised" (303 : Nat) "LinesPromised$Bill" "plan" "LLinesPromised$Plan;" "LinesPromised") ∈ lw_tbl := lw_at lw_m4 204 rfl
theorem q1024 : (Jvm.Cond.fieldLinkNest "LinesPromised" (344 : Nat) "LinesPromised$Bill" "granted" "Z" "LinesPromised") ∈ lw_tbl := lw_at lw_m4 207 rfl
theorem q1026 : (Jvm.Cond.fieldLinkNest "LinesPromised" (348 : Nat) "LinesPromised$Bill" "left" "I" "LinesPromised") ∈ lw_tbl := lw_at lw_m4 209 rfl
theorem q1029 : (Jvm.Cond.fieldLinkNest "LinesPromised" (503 : Nat) "LinesPromised$Bill" "doneOn" "I" "LinesPromised") ∈ lw_tbl := lw_at lw_m4 212 rfl
theorem q1031 : (Jvm.Cond.fieldLinkNest "LinesPromised" (340 : Nat) "LinesPromised$Bill" "barred" "J" "LinesPromised") ∈ lw_tbl := lw_at lw_m4 214 rfl
theorem q1057 : (Jvm.Cond.instanceMethod ({ cls := "LinesPromised", name := "hear", desc := "(II)I" } : Jvm.MethodName)) ∈ lw_all := lw_g (lw_at lw_m5 0 rfl) rfl
theorem q1058 : (Jvm.Cond.selects "LinesPromised" ({ cls := "LinesPromised", name := "hear", desc := "(II)I" } : Jvm.MethodName) ({ cls := "LinesPromised", name := "hear", desc := "(II)I" } : Jvm.MethodName)) ∈ lw_all := lw_g (lw_at lw_m5 1 rfl) rfl
theorem q1059 : (Jvm.Cond.code ({ cls := "LinesPromised", name := "hear", desc := "(II)I" } : Jvm.MethodName) prog_1_method_46_code (4 : Nat) (Option.some Jvm.ClassFile.FieldType.int)) ∈ lw_all := lw_g (lw_at lw_m5 2 rfl) rfl
theorem q1060 : (Jvm.Cond.methodLink "LinesPromised" (332 : Nat) ({ cls := "LinesPromised", name := "billAt", desc := "(I)LLinesPromised$Bill;" } : Jvm.MethodName)) ∈ lw_all := lw_g (lw_at lw_m5 3 rfl) rfl
theorem q1061 : (Jvm.Cond.privateMethod ({ cls := "LinesPromised", name := "billAt", desc := "(I)LLinesPromised$Bill;" } : Jvm.MethodName)) ∈ lw_tbl := lw_at lw_m5 4 rfl
theorem q1062 : (Jvm.Cond.instanceMethod ({ cls := "LinesPromised", name := "billAt", desc := "(I)LLinesPromised$Bill;" } : Jvm.MethodName)) ∈ lw_all := lw_g (lw_at lw_m5 5 rfl) rfl
theorem q1063 : (Jvm.Cond.code ({ cls := "LinesPromised", name := "billAt", desc := "(I)LLinesPromised$Bill;" } : Jvm.MethodName) prog_1_method_23_code (4 : Nat) (Option.some (Jvm.ClassFile.FieldType.object "LinesPromised$Bill"))) ∈ lw_all := lw_g (lw_at lw_m5 6 rfl) rfl
theorem q1064 : (Jvm.Cond.methodLink "LinesPromised" (336 : Nat) ({ cls := "LinesPromised", name := "canLet", desc := "(LLinesPromised$Bill;I)Z" } : Jvm.MethodName)) ∈ lw_all := lw_g (lw_at lw_m5 7 rfl) rfl
theorem q1065 : (Jvm.Cond.privateMethod ({ cls := "LinesPromised", name := "canLet", desc := "(LLinesPromised$Bill;I)Z" } : Jvm.MethodName)) ∈ lw_tbl := lw_at lw_m5 8 rfl
theorem q1066 : (Jvm.Cond.instanceMethod ({ cls := "LinesPromised", name := "canLet", desc := "(LLinesPromised$Bill;I)Z" } : Jvm.MethodName)) ∈ lw_all := lw_g (lw_at lw_m5 9 rfl) rfl
theorem q1067 : (Jvm.Cond.code ({ cls := "LinesPromised", name := "canLet", desc := "(LLinesPromised$Bill;I)Z" } : Jvm.MethodName) prog_1_method_44_code (5 : Nat) (Option.some Jvm.ClassFile.FieldType.boolean)) ∈ lw_all := lw_g (lw_at lw_m5 10 rfl) rfl
theorem q1068 : (Jvm.Cond.methodLink "LinesPromised" (314 : Nat) ({ cls := "LinesPromised", name := "cellsOf", desc := "(LLinesPromised$Plan;I)I" } : Jvm.MethodName)) ∈ lw_all := lw_g (lw_at lw_m5 11 rfl) rfl
theorem q1069 : (Jvm.Cond.privateMethod ({ cls := "LinesPromised", name := "cellsOf", desc := "(LLinesPromised$Plan;I)I" } : Jvm.MethodName)) ∈ lw_tbl := lw_at lw_m5 12 rfl
theorem q1070 : (Jvm.Cond.instanceMethod ({ cls := "LinesPromised", name := "cellsOf", desc := "(LLinesPromised$Plan;I)I" } : Jvm.MethodName)) ∈ lw_all := lw_g (lw_at lw_m5 13 rfl) rfl
theorem q1071 : (Jvm.Cond.code ({ cls := "LinesPromised", name := "cellsOf", desc := "(LLinesPromised$Plan;I)I" } : Jvm.MethodName) prog_1_method_43_code (5 : Nat) (Option.some Jvm.ClassFile.FieldType.int)) ∈ lw_all := lw_g (lw_at lw_m5 14 rfl) rfl
theorem q1072 : (Jvm.Cond.methodLink "LinesPromised" (317 : Nat) ({ cls := "LinesPromised", name := "claimsOn", desc := "(LLinesPromised$Plan;)I" } : Jvm.MethodName)) ∈ lw_all := lw_g (lw_at lw_m5 15 rfl) rfl
theorem q1073 : (Jvm.Cond.privateMethod ({ cls := "LinesPromised", name := "claimsOn", desc := "(LLinesPromised$Plan;)I" } : Jvm.MethodName)) ∈ lw_tbl := lw_at lw_m5 16 rfl
theorem q1074 : (Jvm.Cond.instanceMethod ({ cls := "LinesPromised", name := "claimsOn", desc := "(LLinesPromised$Plan;)I" } : Jvm.MethodName)) ∈ lw_all := lw_g (lw_at lw_m5 17 rfl) rfl
theorem q1075 : (Jvm.Cond.code ({ cls := "LinesPromised", name := "claimsOn", desc := "(LLinesPromised$Plan;)I" } : Jvm.MethodName) prog_1_method_42_code (6 : Nat) (Option.some Jvm.ClassFile.FieldType.int)) ∈ lw_all := lw_g (lw_at lw_m5 18 rfl) rfl
theorem q1076 : (Jvm.Cond.methodLink "LinesPromised" (323 : Nat) ({ cls := "LinesPromised$Test", name := "holds", desc := "([I)Z" } : Jvm.MethodName)) ∈ lw_all := lw_g (lw_at lw_m5 19 rfl) rfl
theorem q1096 : (Jvm.Cond.instanceMethod ({ cls := "LinesPromised", name := "bar", desc := "(II)I" } : Jvm.MethodName)) ∈ lw_all := lw_g (lw_at lw_m5 39 rfl) rfl
theorem q1097 : (Jvm.Cond.selects "LinesPromised" ({ cls := "LinesPromised", name := "bar", desc := "(II)I" } : Jvm.MethodName) ({ cls := "LinesPromised", name := "bar", desc := "(II)I" } : Jvm.MethodName)) ∈ lw_all := lw_g (lw_at lw_m5 40 rfl) rfl
theorem q1098 : (Jvm.Cond.code ({ cls := "LinesPromised", name := "bar", desc := "(II)I" } : Jvm.MethodName) prog_1_method_47_code (6 : Nat) (Option.some Jvm.ClassFile.FieldType.int)) ∈ lw_all := lw_g (lw_at lw_m5 41 rfl) rfl
theorem q1100 : (Jvm.Cond.instanceMethod ({ cls := "LinesPromised", name := "grant", desc := "(I)I" } : Jvm.MethodName)) ∈ lw_all := lw_g (lw_at lw_m5 43 rfl) rfl
theorem q1101 : (Jvm.Cond.selects "LinesPromised" ({ cls := "LinesPromised", name := "grant", desc := "(I)I" } : Jvm.MethodName) ({ cls := "LinesPromised", name := "grant", desc := "(I)I" } : Jvm.MethodName)) ∈ lw_all := lw_g (lw_at lw_m5 44 rfl) rfl
theorem q1102 : (Jvm.Cond.code ({ cls := "LinesPromised", name := "grant", desc := "(I)I" } : Jvm.MethodName) prog_1_method_49_code (7 : Nat) (Option.some Jvm.ClassFile.FieldType.int)) ∈ lw_all := lw_g (lw_at lw_m5 45 rfl) rfl
theorem q1103 : (Jvm.Cond.methodLink "LinesPromised" (351 : Nat) ({ cls := "LinesPromised", name := "grantedMany", desc := "()I" } : Jvm.MethodName)) ∈ lw_all := lw_g (lw_at lw_m5 46 rfl) rfl
theorem q1104 : (Jvm.Cond.privateMethod ({ cls := "LinesPromised", name := "grantedMany", desc := "()I" } : Jvm.MethodName)) ∈ lw_tbl := lw_at lw_m5 47 rfl
theorem q1105 : (Jvm.Cond.instanceMethod ({ cls := "LinesPromised", name := "grantedMany", desc := "()I" } : Jvm.MethodName)) ∈ lw_all := lw_g (lw_at lw_m5 48 rfl) rfl
theorem q1106 : (Jvm.Cond.code ({ cls := "LinesPromised", name := "grantedMany", desc := "()I" } : Jvm.MethodName) prog_1_method_48_code (5 : Nat) (Option.some Jvm.ClassFile.FieldType.int)) ∈ lw_all := lw_g (lw_at lw_m5 49 rfl) rfl
theorem q1108 : (Jvm.Cond.instanceMethod ({ cls := "LinesPromised", name := "cast", desc := "(II)I" } : Jvm.MethodName)) ∈ lw_all := lw_g (lw_at lw_m5 51 rfl) rfl
theorem q1109 : (Jvm.Cond.selects "LinesPromised" ({ cls := "LinesPromised", name := "cast", desc := "(II)I" } : Jvm.MethodName) ({ cls := "LinesPromised", name := "cast", desc := "(II)I" } : Jvm.MethodName)) ∈ lw_all := lw_g (lw_at lw_m5 52 rfl) rfl
theorem q1110 : (Jvm.Cond.code ({ cls := "LinesPromised", name := "cast", desc := "(II)I" } : Jvm.MethodName) prog_1_method_50_code (4 : Nat) (Option.some Jvm.ClassFile.FieldType.int)) ∈ lw_all := lw_g (lw_at lw_m5 53 rfl) rfl
theorem q1111 : (Jvm.Cond.methodLink "LinesPromised" (354 : Nat) ({ cls := "LinesPromised$Paper", name := "isUnder", desc := "(I)Z" } : Jvm.MethodName)) ∈ lw_all := lw_g (lw_at lw_m5 54 rfl) rfl
theorem q1145 : (Jvm.Cond.methodLink "LinesPromised" (357 : Nat) ({ cls := "LinesPromised$Paper", name := "worth", desc := "()I" } : Jvm.MethodName)) ∈ lw_all := lw_g (lw_at lw_m5 88 rfl) rfl
theorem q1177 : (Jvm.Cond.instanceMethod ({ cls := "LinesPromised", name := "about", desc := "(II)I" } : Jvm.MethodName)) ∈ lw_all := lw_g (lw_at lw_m5 120 rfl) rfl
theorem q1178 : (Jvm.Cond.selects "LinesPromised" ({ cls := "LinesPromised", name := "about", desc := "(II)I" } : Jvm.MethodName) ({ cls := "LinesPromised", name := "about", desc := "(II)I" } : Jvm.MethodName)) ∈ lw_all := lw_g (lw_at lw_m5 121 rfl) rfl
theorem q1179 : (Jvm.Cond.code ({ cls := "LinesPromised", name := "about", desc := "(II)I" } : Jvm.MethodName) prog_1_method_51_code (4 : Nat) (Option.some Jvm.ClassFile.FieldType.int)) ∈ lw_all := lw_g (lw_at lw_m5 122 rfl) rfl
theorem q1180 : (Jvm.Cond.methodLink "LinesPromised" (360 : Nat) ({ cls := "LinesPromised$Paper", name := "kind", desc := "()I" } : Jvm.MethodName)) ∈ lw_all := lw_g (lw_at lw_m5 123 rfl) rfl
theorem q1181 : (Jvm.Cond.methodLink "LinesPromised" (361 : Nat) ({ cls := "LinesPromised$Paper", name := "of", desc := "()I" } : Jvm.MethodName)) ∈ lw_all := lw_g (lw_at lw_m5 124 rfl) rfl
theorem q1197 : (Jvm.Cond.methodLink "LinesPromised" (365 : Nat) ({ cls := "LinesPromised$Paper", name := "first", desc := "()I" } : Jvm.MethodName)) ∈ lw_all := lw_g (lw_at lw_m5 140 rfl) rfl
theorem q1213 : (Jvm.Cond.methodLink "LinesPromised" (368 : Nat) ({ cls := "LinesPromised$Paper", name := "second", desc := "()I" } : Jvm.MethodName)) ∈ lw_all := lw_g (lw_at lw_m5 156 rfl) rfl
theorem q1225 : (Jvm.Cond.methodLink "LinesPromised" (371 : Nat) ({ cls := "LinesPromised$Paper", name := "gauge", desc := "()I" } : Jvm.MethodName)) ∈ lw_all := lw_g (lw_at lw_m5 168 rfl) rfl
theorem q1237 : (Jvm.Cond.methodLink "LinesPromised" (373 : Nat) ({ cls := "LinesPromised$Paper", name := "size", desc := "()I" } : Jvm.MethodName)) ∈ lw_all := lw_g (lw_at lw_m5 180 rfl) rfl
theorem q1255 : (Jvm.Cond.methodLink "LinesPromised" (374 : Nat) ({ cls := "LinesPromised$Paper", name := "isDone", desc := "()Z" } : Jvm.MethodName)) ∈ lw_all := lw_g (lw_at lw_m5 198 rfl) rfl
theorem q1272 : (Jvm.Cond.instanceMethod ({ cls := "LinesPromised", name := "board", desc := "(IIZ)I" } : Jvm.MethodName)) ∈ lw_all := lw_g (lw_at lw_m5 215 rfl) rfl
theorem q1273 : (Jvm.Cond.selects "LinesPromised" ({ cls := "LinesPromised", name := "board", desc := "(IIZ)I" } : Jvm.MethodName) ({ cls := "LinesPromised", name := "board", desc := "(IIZ)I" } : Jvm.MethodName)) ∈ lw_all := lw_g (lw_at lw_m5 216 rfl) rfl
theorem q1274 : (Jvm.Cond.code ({ cls := "LinesPromised", name := "board", desc := "(IIZ)I" } : Jvm.MethodName) prog_1_method_52_code (4 : Nat) (Option.some Jvm.ClassFile.FieldType.int)) ∈ lw_all := lw_g (lw_at lw_m5 217 rfl) rfl
theorem q1275 : (Jvm.Cond.classLink "LinesPromised" (377 : Nat) "LinesPromised$Vote") ∈ lw_all := lw_g (lw_at lw_m5 218 rfl) rfl
theorem q1277 : (Jvm.Cond.methodLink "LinesPromised" (379 : Nat) ({ cls := "LinesPromised$Vote", name := "<init>", desc := "(IIZ)V" } : Jvm.MethodName)) ∈ lw_all := lw_g (lw_at lw_m5 220 rfl) rfl
theorem q1282 : (Jvm.Cond.fieldLinkNest "LinesPromised" (382 : Nat) "LinesPromised$Vote" "holder" "I" "LinesPromised") ∈ lw_tbl := lw_at lw_m5 225 rfl
theorem q1284 : (Jvm.Cond.fieldLinkNest "LinesPromised" (385 : Nat) "LinesPromised$Vote" "bill" "I" "LinesPromised") ∈ lw_tbl := lw_at lw_m5 227 rfl
theorem q1286 : (Jvm.Cond.fieldLinkNest "LinesPromised" (388 : Nat) "LinesPromised$Vote" "yes" "Z" "LinesPromised") ∈ lw_tbl := lw_at lw_m5 229 rfl
theorem q1295 : (Jvm.Cond.instanceMethod ({ cls := "LinesPromised", name := "doubled", desc := "()I" } : Jvm.MethodName)) ∈ lw_all := lw_g (lw_at lw_m5 238 rfl) rfl
theorem q1296 : (Jvm.Cond.selects "LinesPromised" ({ cls := "LinesPromised", name := "doubled", desc := "()I" } : Jvm.MethodName) ({ cls := "LinesPromised", name := "doubled", desc := "()I" } : Jvm.MethodName)) ∈ lw_all := lw_g (lw_at lw_m5 239 rfl) rfl
theorem q1297 : (Jvm.Cond.code ({ cls := "LinesPromised", name := "doubled", desc := "()I" } : Jvm.MethodName) prog_1_method_53_code (5 : Nat) (Option.some Jvm.ClassFile.FieldType.int)) ∈ lw_all := lw_g (lw_at lw_m6 0 rfl) rfl
theorem q1299 : (Jvm.Cond.instanceMethod ({ cls := "LinesPromised", name := "hand", desc := "(II)I" } : Jvm.MethodName)) ∈ lw_all := lw_g (lw_at lw_m6 2 rfl) rfl
theorem q1300 : (Jvm.Cond.selects "LinesPromised" ({ cls := "LinesPromised", name := "hand", desc := "(II)I" } : Jvm.MethodName) ({ cls := "LinesPromised", name := "hand", desc := "(II)I" } : Jvm.MethodName)) ∈ lw_all := lw_g (lw_at lw_m6 3 rfl) rfl
theorem q1301 : (Jvm.Cond.code ({ cls := "LinesPromised", name := "hand", desc := "(II)I" } : Jvm.MethodName) prog_1_method_54_code (3 : Nat) (Option.some Jvm.ClassFile.FieldType.int)) ∈ lw_all := lw_g (lw_at lw_m6 4 rfl) rfl
theorem q1303 : (Jvm.Cond.instanceMethod ({ cls := "LinesPromised", name := "midnight", desc := "(II)I" } : Jvm.MethodName)) ∈ lw_all := lw_g (lw_at lw_m6 6 rfl) rfl
theorem q1304 : (Jvm.Cond.selects "LinesPromised" ({ cls := "LinesPromised", name := "midnight", desc := "(II)I" } : Jvm.MethodName) ({ cls := "LinesPromised", name := "midnight", desc := "(II)I" } : Jvm.MethodName)) ∈ lw_all := lw_g (lw_at lw_m6 7 rfl) rfl
theorem q1305 : (Jvm.Cond.code ({ cls := "LinesPromised", name := "midnight", desc := "(II)I" } : Jvm.MethodName) prog_1_method_56_code (3 : Nat) (Option.some Jvm.ClassFile.FieldType.int)) ∈ lw_all := lw_g (lw_at lw_m6 8 rfl) rfl
theorem q1306 : (Jvm.Cond.methodLink "LinesPromised" (403 : Nat) ({ cls := "LinesPromised", name := "goOn", desc := "(IIIII)V" } : Jvm.MethodName)) ∈ lw_all := lw_g (lw_at lw_m6 9 rfl) rfl
theorem q1307 : (Jvm.Cond.privateMethod ({ cls := "LinesPromised", name := "goOn", desc := "(IIIII)V" } : Jvm.MethodName)) ∈ lw_tbl := lw_at lw_m6 10 rfl
theorem q1308 : (Jvm.Cond.instanceMethod ({ cls := "LinesPromised", name := "goOn", desc := "(IIIII)V" } : Jvm.MethodName)) ∈ lw_all := lw_g (lw_at lw_m6 11 rfl) rfl
theorem q1309 : (Jvm.Cond.code ({ cls := "LinesPromised", name := "goOn", desc := "(IIIII)V" } : Jvm.MethodName) prog_1_method_55_code (9 : Nat) (Option.none : Option Jvm.ClassFile.FieldType)) ∈ lw_all := lw_g (lw_at lw_m6 12 rfl) rfl
theorem q1310 : (Jvm.Cond.methodLink "LinesPromised" (397 : Nat) ({ cls := "java/lang/System", name := "arraycopy", desc := "(Ljava/lang/Object;ILjava/lang/Object;II)V" } : Jvm.MethodName)) ∈ lw_all := lw_g (lw_at lw_m6 13 rfl) rfl
theorem q1312 : (Jvm.Cond.instanceMethod ({ cls := "LinesPromised", name := "scrip", desc := "(III)I" } : Jvm.MethodName)) ∈ lw_all := lw_g (lw_at lw_m6 15 rfl) rfl
theorem q1313 : (Jvm.Cond.selects "LinesPromised" ({ cls := "LinesPromised", name := "scrip", desc := "(III)I" } : Jvm.MethodName) ({ cls := "LinesPromised", name := "scrip", desc := "(III)I" } : Jvm.MethodName)) ∈ lw_all := lw_g (lw_at lw_m6 16 rfl) rfl
theorem q1314 : (Jvm.Cond.code ({ cls := "LinesPromised", name := "scrip", desc := "(III)I" } : Jvm.MethodName) prog_1_method_57_code (5 : Nat) (Option.some Jvm.ClassFile.FieldType.int)) ∈ lw_all := lw_g (lw_at lw_m6 17 rfl) rfl
theorem q1315 : (Jvm.Cond.methodLink "LinesPromised" (410 : Nat) ({ cls := "LinesPromised$Scheme", name := "left", desc := "()I" } : Jvm.MethodName)) ∈ lw_all := lw_g (lw_at lw_m6 18 rfl) rfl
theorem q1323 : (Jvm.Cond.instanceMethod ({ cls := "LinesPromised", name := "held", desc := "(II)I" } : Jvm.MethodName)) ∈ lw_all := lw_g (lw_at lw_m6 26 rfl) rfl
theorem q1324 : (Jvm.Cond.selects "LinesPromised" ({ cls := "LinesPromised", name := "held", desc := "(II)I" } : Jvm.MethodName) ({ cls := "LinesPromised", name := "held", desc := "(II)I" } : Jvm.MethodName)) ∈ lw_all := lw_g (lw_at lw_m6 27 rfl) rfl
theorem q1325 : (Jvm.Cond.code ({ cls := "LinesPromised", name := "held", desc := "(II)I" } : Jvm.MethodName) prog_1_method_58_code (4 : Nat) (Option.some Jvm.ClassFile.FieldType.int)) ∈ lw_all := lw_g (lw_at lw_m6 28 rfl) rfl
theorem q1327 : (Jvm.Cond.instanceMethod ({ cls := "LinesPromised", name := "purse", desc := "(II)I" } : Jvm.MethodName)) ∈ lw_all := lw_g (lw_at lw_m6 30 rfl) rfl
theorem q1328 : (Jvm.Cond.selects "LinesPromised" ({ cls := "LinesPromised", name := "purse", desc := "(II)I" } : Jvm.MethodName) ({ cls := "LinesPromised", name := "purse", desc := "(II)I" } : Jvm.MethodName)) ∈ lw_all := lw_g (lw_at lw_m6 31 rfl) rfl
theorem q1329 : (Jvm.Cond.code ({ cls := "LinesPromised", name := "purse", desc := "(II)I" } : Jvm.MethodName) prog_1_method_59_code (3 : Nat) (Option.some Jvm.ClassFile.FieldType.int)) ∈ lw_all := lw_g (lw_at lw_m6 32 rfl) rfl
theorem q1331 : (Jvm.Cond.instanceMethod ({ cls := "LinesPromised", name := "ask", desc := "(IIIIZ)I" } : Jvm.MethodName)) ∈ lw_all := lw_g (lw_at lw_m6 34 rfl) rfl
theorem q1332 : (Jvm.Cond.selects "LinesPromised" ({ cls := "LinesPromised", name := "ask", desc := "(IIIIZ)I" } : Jvm.MethodName) ({ cls := "LinesPromised", name := "ask", desc := "(IIIIZ)I" } : Jvm.MethodName)) ∈ lw_all := lw_g (lw_at lw_m6 35 rfl) rfl
theorem q1333 : (Jvm.Cond.code ({ cls := "LinesPromised", name := "ask", desc := "(IIIIZ)I" } : Jvm.MethodName) prog_1_method_60_code (7 : Nat) (Option.some Jvm.ClassFile.FieldType.int)) ∈ lw_all := lw_g (lw_at lw_m6 36 rfl) rfl
theorem q1334 : (Jvm.Cond.classLink "LinesPromised" (417 : Nat) "LinesPromised$Word") ∈ lw_all := lw_g (lw_at lw_m6 37 rfl) rfl
theorem q1336 : (Jvm.Cond.methodLink "LinesPromised" (419 : Nat) ({ cls := "LinesPromised$Word", name := "<init>", desc := "(LLinesPromised$Scheme;IIIZ)V" } : Jvm.MethodName)) ∈ lw_all := lw_g (lw_at lw_m6 39 rfl) rfl
theorem q1341 : (Jvm.Cond.fieldLinkNest "LinesPromised" (422 : Nat) "LinesPromised$Word" "scheme" "LLinesPromised$Scheme;" "LinesPromised") ∈ lw_tbl := lw_at lw_m6 44 rfl
theorem q1343 : (Jvm.Cond.fieldLinkNest "LinesPromised" (434 : Nat) "LinesPromised$Word" "holder" "I" "LinesPromised") ∈ lw_tbl := lw_at lw_m6 46 rfl
theorem q1345 : (Jvm.Cond.fieldLinkNest "LinesPromised" (437 : Nat) "LinesPromised$Word" "price" "I" "LinesPromised") ∈ lw_tbl := lw_at lw_m6 48 rfl
theorem q1347 : (Jvm.Cond.fieldLinkNest "LinesPromised" (426 : Nat) "LinesPromised$Word" "ask" "Z" "LinesPromised") ∈ lw_tbl := lw_at lw_m6 50 rfl
theorem q1350 : (Jvm.Cond.fieldLinkNest "LinesPromised" (433 : Nat) "LinesPromised$Word" "left" "I" "LinesPromised") ∈ lw_tbl := lw_at lw_m6 53 rfl
theorem q1363 : (Jvm.Cond.instanceMethod ({ cls := "LinesPromised", name := "price", desc := "(I)I" } : Jvm.MethodName)) ∈ lw_all := lw_g (lw_at lw_m6 66 rfl) rfl
theorem q1364 : (Jvm.Cond.selects "LinesPromised" ({ cls := "LinesPromised", name := "price", desc := "(I)I" } : Jvm.MethodName) ({ cls := "LinesPromised", name := "price", desc := "(I)I" } : Jvm.MethodName)) ∈ lw_all := lw_g (lw_at lw_m6 67 rfl) rfl
theorem q1365 : (Jvm.Cond.code ({ cls := "LinesPromised", name := "price", desc := "(I)I" } : Jvm.MethodName) prog_1_method_63_code (7 : Nat) (Option.some Jvm.ClassFile.FieldType.int)) ∈ lw_all := lw_g (lw_at lw_m6 68 rfl) rfl
theorem q1366 : (Jvm.Cond.methodLink "LinesPromised" (447 : Nat) ({ cls := "LinesPromised", name := "best", desc := "(LLinesPromised$Scheme;Z)LLinesPromised$Word;" } : Jvm.MethodName)) ∈ lw_all := lw_g (lw_at lw_m6 69 rfl) rfl
theorem q1367 : (Jvm.Cond.privateMethod ({ cls := "LinesPromised", name := "best", desc := "(LLinesPromised$Scheme;Z)LLinesPromised$Word;" } : Jvm.MethodName)) ∈ lw_tbl := lw_at lw_m6 70 rfl
theorem q1368 : (Jvm.Cond.instanceMethod ({ cls := "LinesPromised", name := "best", desc := "(LLinesPromised$Scheme;Z)LLinesPromised$Word;" } : Jvm.MethodName)) ∈ lw_all := lw_g (lw_at lw_m6 71 rfl) rfl
theorem q1369 : (Jvm.Cond.code ({ cls := "LinesPromised", name := "best", desc := "(LLinesPromised$Scheme;Z)LLinesPromised$Word;" } : Jvm.MethodName) prog_1_method_61_code (6 : Nat) (Option.some (Jvm.ClassFile.FieldType.object "LinesPromised$Word"))) ∈ lw_all := lw_g (lw_at lw_m6 72 rfl) rfl
theorem q1370 : (Jvm.Cond.methodLink "LinesPromised" (429 : Nat) ({ cls := "LinesPromised$Word", name := "isBetter", desc := "(LLinesPromised$Word;)Z" } : Jvm.MethodName)) ∈ lw_all := lw_g (lw_at lw_m6 73 rfl) rfl
theorem q1374 : (Jvm.Cond.methodLink "LinesPromised" (451 : Nat) ({ cls := "LinesPromised", name := "goes", desc := "(LLinesPromised$Word;LLinesPromised$Word;)I" } : Jvm.MethodName)) ∈ lw_all := lw_g (lw_at lw_m6 77 rfl) rfl
theorem q1375 : (Jvm.Cond.privateMethod ({ cls := "LinesPromised", name := "goes", desc := "(LLinesPromised$Word;LLinesPromised$Word;)I" } : Jvm.MethodName)) ∈ lw_tbl := lw_at lw_m6 78 rfl
theorem q1376 : (Jvm.Cond.instanceMethod ({ cls := "LinesPromised", name := "goes", desc := "(LLinesPromised$Word;LLinesPromised$Word;)I" } : Jvm.MethodName)) ∈ lw_all := lw_g (lw_at lw_m6 79 rfl) rfl
theorem q1377 : (Jvm.Cond.code ({ cls := "LinesPromised", name := "goes", desc := "(LLinesPromised$Word;LLinesPromised$Word;)I" } : Jvm.MethodName) prog_1_method_62_code (5 : Nat) (Option.some Jvm.ClassFile.FieldType.int)) ∈ lw_all := lw_g (lw_at lw_m6 80 rfl) rfl
theorem q1378 : (Jvm.Cond.constantLong "LinesPromised" (435 : Nat) (99 : Int64)) ∈ lw_all := lw_g (lw_at lw_m6 81 rfl) rfl
theorem q1379 : (Jvm.Cond.methodLink "LinesPromised" (440 : Nat) ({ cls := "java/lang/Math", name := "min", desc := "(JJ)J" } : Jvm.MethodName)) ∈ lw_all := lw_g (lw_at lw_m6 82 rfl) rfl
theorem q1382 : (Jvm.Cond.methodLink "LinesPromised" (443 : Nat) ({ cls := "java/util/ArrayList", name := "remove", desc := "(Ljava/lang/Object;)Z" } : Jvm.MethodName)) ∈ lw_all := lw_g (lw_at lw_m6 85 rfl) rfl
theorem q1390 : (Jvm.Cond.selects "LinesPromised" ({ cls := "java/lang/Object", name := "equals", desc := "(Ljava/lang/Object;)Z" } : Jvm.MethodName) ({ cls := "java/lang/Object", name := "equals", desc := "(Ljava/lang/Object;)Z" } : Jvm.MethodName)) ∈ lw_all := lw_g (lw_at lw_m6 93 rfl) rfl
theorem q1430 : (Jvm.Cond.methodLink "LinesPromised" (455 : Nat) ({ cls := "java/util/ArrayList", name := "remove", desc := "(I)Ljava/lang/Object;" } : Jvm.MethodName)) ∈ lw_all := lw_g (lw_at lw_m6 133 rfl) rfl
theorem q1435 : (Jvm.Cond.instanceMethod ({ cls := "LinesPromised", name := "read", desc := "(I)I" } : Jvm.MethodName)) ∈ lw_all := lw_g (lw_at lw_m6 138 rfl) rfl
theorem q1436 : (Jvm.Cond.selects "LinesPromised" ({ cls := "LinesPromised", name := "read", desc := "(I)I" } : Jvm.MethodName) ({ cls := "LinesPromised", name := "read", desc := "(I)I" } : Jvm.MethodName)) ∈ lw_all := lw_g (lw_at lw_m6 139 rfl) rfl
theorem q1437 : (Jvm.Cond.code ({ cls := "LinesPromised", name := "read", desc := "(I)I" } : Jvm.MethodName) prog_1_method_64_code (2 : Nat) (Option.some Jvm.ClassFile.FieldType.int)) ∈ lw_all := lw_g (lw_at lw_m6 140 rfl) rfl
theorem q1439 : (Jvm.Cond.instanceMethod ({ cls := "LinesPromised", name := "call", desc := "(II)I" } : Jvm.MethodName)) ∈ lw_all := lw_g (lw_at lw_m6 142 rfl) rfl
theorem q1440 : (Jvm.Cond.selects "LinesPromised" ({ cls := "LinesPromised", name := "call", desc := "(II)I" } : Jvm.MethodName) ({ cls := "LinesPromised", name := "call", desc := "(II)I" } : Jvm.MethodName)) ∈ lw_all := lw_g (lw_at lw_m6 143 rfl) rfl
theorem q1441 : (Jvm.Cond.code ({ cls := "LinesPromised", name := "call", desc := "(II)I" } : Jvm.MethodName) prog_1_method_65_code (4 : Nat) (Option.some Jvm.ClassFile.FieldType.int)) ∈ lw_all := lw_g (lw_at lw_m6 144 rfl) rfl
theorem q1442 : (Jvm.Cond.classLink "LinesPromised" (460 : Nat) "LinesPromised$Call") ∈ lw_all := lw_g (lw_at lw_m6 145 rfl) rfl
theorem q1444 : (Jvm.Cond.methodLink "LinesPromised" (462 : Nat) ({ cls := "LinesPromised$Call", name := "<init>", desc := "(IILLinesPromised$Scheme;I)V" } : Jvm.MethodName)) ∈ lw_all := lw_g (lw_at lw_m6 147 rfl) rfl
theorem q1457 : (Jvm.Cond.fieldLinkNest "LinesPromised" (489 : Nat) "LinesPromised$Call" "settled" "Z" "LinesPromised") ∈ lw_tbl := lw_at lw_m6 160 rfl
theorem q1467 : (Jvm.Cond.instanceMethod ({ cls := "LinesPromised", name := "lend", desc := "(III)I" } : Jvm.MethodName)) ∈ lw_all := lw_g (lw_at lw_m6 170 rfl) rfl
theorem q1468 : (Jvm.Cond.selects "LinesPromised" ({ cls := "LinesPromised", name := "lend", desc := "(III)I" } : Jvm.MethodName) ({ cls := "LinesPromised", name := "lend", desc := "(III)I" } : Jvm.MethodName)) ∈ lw_all := lw_g (lw_at lw_m6 171 rfl) rfl
theorem q1469 : (Jvm.Cond.code ({ cls := "LinesPromised", name := "lend", desc := "(III)I" } : Jvm.MethodName) prog_1_method_66_code (5 : Nat) (Option.some Jvm.ClassFile.FieldType.int)) ∈ lw_all := lw_g (lw_at lw_m6 172 rfl) rfl
theorem q1470 : (Jvm.Cond.classLink "LinesPromised" (465 : Nat) "LinesPromised$Loan") ∈ lw_all := lw_g (lw_at lw_m6 173 rfl) rfl
theorem q1472 : (Jvm.Cond.methodLink "LinesPromised" (467 : Nat) ({ cls := "LinesPromised$Loan", name := "<init>", desc := "(IILLinesPromised$Scheme;II)V" } : Jvm.MethodName)) ∈ lw_all := lw_g (lw_at lw_m6 175 rfl) rfl
theorem q1486 : (Jvm.Cond.instanceMethod ({ cls := "LinesPromised", name := "settle", desc := "()I" } : Jvm.MethodName)) ∈ lw_all := lw_g (lw_at lw_m6 189 rfl) rfl
theorem q1487 : (Jvm.Cond.selects "LinesPromised" ({ cls := "LinesPromised", name := "settle", desc := "()I" } : Jvm.MethodName) ({ cls := "LinesPromised", name := "settle", desc := "()I" } : Jvm.MethodName)) ∈ lw_all := lw_g (lw_at lw_m6 190 rfl) rfl
theorem q1488 : (Jvm.Cond.code ({ cls := "LinesPromised", name := "settle", desc := "()I" } : Jvm.MethodName) prog_1_method_68_code (6 : Nat) (Option.some Jvm.ClassFile.FieldType.int)) ∈ lw_all := lw_g (lw_at lw_m6 191 rfl) rfl
theorem q1489 : (Jvm.Cond.classLink "LinesPromised" (471 : Nat) "LinesPromised$Payments") ∈ lw_all := lw_g (lw_at lw_m6 192 rfl) rfl
theorem q1491 : (Jvm.Cond.methodLink "LinesPromised" (473 : Nat) ({ cls := "LinesPromised$Payments", name := "<init>", desc := "(LLinesPromised;)V" } : Jvm.MethodName)) ∈ lw_all := lw_g (lw_at lw_m6 194 rfl) rfl
theorem q1512 : (Jvm.Cond.fieldLinkNest "LinesPromised" (474 : Nat) "LinesPromised$Payments" "many" "I" "LinesPromised") ∈ lw_tbl := lw_at lw_m6 215 rfl
theorem q1514 : (Jvm.Cond.fieldLinkNest "LinesPromised" (482 : Nat) "LinesPromised$Payments" "owes" "[[J" "LinesPromised") ∈ lw_tbl := lw_at lw_m6 217 rfl
theorem q1535 : (Jvm.Cond.methodLink "LinesPromised" (475 : Nat) ({ cls := "LinesPromised$Payments", name := "falls", desc := "(I)Z" } : Jvm.MethodName)) ∈ lw_all := lw_g (lw_at lw_m6 238 rfl) rfl
theorem q1539 : (Jvm.Cond.methodLink "LinesPromised" (478 : Nat) ({ cls := "LinesPromised$Payments", name := "gets", desc := "(I)J" } : Jvm.MethodName)) ∈ lw_all := lw_g (lw_at lw_m7 2 rfl) rfl
theorem q1543 : (Jvm.Cond.methodLink "LinesPromised" (486 : Nat) ({ cls := "LinesPromised", name := "schemeBy", desc := "(I)LLinesPromised$Scheme;" } : Jvm.MethodName)) ∈ lw_all := lw_g (lw_at lw_m7 6 rfl) rfl
theorem q1544 : (Jvm.Cond.privateMethod ({ cls := "LinesPromised", name := "schemeBy", desc := "(I)LLinesPromised$Scheme;" } : Jvm.MethodName)) ∈ lw_tbl := lw_at lw_m7 7 rfl
theorem q1545 : (Jvm.Cond.instanceMethod ({ cls := "LinesPromised", name := "schemeBy", desc := "(I)LLinesPromised$Scheme;" } : Jvm.MethodName)) ∈ lw_all := lw_g (lw_at lw_m7 8 rfl) rfl
theorem q1546 : (Jvm.Cond.code ({ cls := "LinesPromised", name := "schemeBy", desc := "(I)LLinesPromised$Scheme;" } : Jvm.MethodName) prog_1_method_67_code (3 : Nat) (Option.some (Jvm.ClassFile.FieldType.object "LinesPromised$Scheme"))) ∈ lw_all := lw_g (lw_at lw_m7 9 rfl) rfl
theorem q1548 : (Jvm.Cond.instanceMethod ({ cls := "LinesPromised", name := "along", desc := "(II)I" } : Jvm.MethodName)) ∈ lw_all := lw_g (lw_at lw_m7 11 rfl) rfl
theorem q1549 : (Jvm.Cond.selects "LinesPromised" ({ cls := "LinesPromised", name := "along", desc := "(II)I" } : Jvm.MethodName) ({ cls := "LinesPromised", name := "along", desc := "(II)I" } : Jvm.MethodName)) ∈ lw_all := lw_g (lw_at lw_m7 12 rfl) rfl
theorem q1550 : (Jvm.Cond.code ({ cls := "LinesPromised", name := "along", desc := "(II)I" } : Jvm.MethodName) prog_1_method_69_code (3 : Nat) (Option.some Jvm.ClassFile.FieldType.int)) ∈ lw_all := lw_g (lw_at lw_m7 13 rfl) rfl
theorem q1551 : (Jvm.Cond.methodLink "LinesPromised" (492 : Nat) ({ cls := "LinesPromised$Payments", name := "paid", desc := "(I)J" } : Jvm.MethodName)) ∈ lw_all := lw_g (lw_at lw_m7 14 rfl) rfl
theorem q1556 : (Jvm.Cond.instanceMethod ({ cls := "LinesPromised", name := "dig", desc := "(I)I" } : Jvm.MethodName)) ∈ lw_all := lw_g (lw_at lw_m7 19 rfl) rfl
theorem q1557 : (Jvm.Cond.selects "LinesPromised" ({ cls := "LinesPromised", name := "dig", desc := "(I)I" } : Jvm.MethodName) ({ cls := "LinesPromised", name := "dig", desc := "(I)I" } : Jvm.MethodName)) ∈ lw_all := lw_g (lw_at lw_m7 20 rfl) rfl
theorem q1558 : (Jvm.Cond.code ({ cls := "LinesPromised", name := "dig", desc := "(I)I" } : Jvm.MethodName) prog_1_method_72_code (3 : Nat) (Option.some Jvm.ClassFile.FieldType.int)) ∈ lw_all := lw_g (lw_at lw_m7 21 rfl) rfl
theorem q1559 : (Jvm.Cond.methodLink "LinesPromised" (510 : Nat) ({ cls := "LinesPromised", name := "goDay", desc := "()V" } : Jvm.MethodName)) ∈ lw_all := lw_g (lw_at lw_m7 22 rfl) rfl
theorem q1560 : (Jvm.Cond.privateMethod ({ cls := "LinesPromised", name := "goDay", desc := "()V" } : Jvm.MethodName)) ∈ lw_tbl := lw_at lw_m7 23 rfl
theorem q1561 : (Jvm.Cond.instanceMethod ({ cls := "LinesPromised", name := "goDay", desc := "()V" } : Jvm.MethodName)) ∈ lw_all := lw_g (lw_at lw_m7 24 rfl) rfl
theorem q1562 : (Jvm.Cond.code ({ cls := "LinesPromised", name := "goDay", desc := "()V" } : Jvm.MethodName) prog_1_method_71_code (4 : Nat) (Option.none : Option Jvm.ClassFile.FieldType)) ∈ lw_all := lw_g (lw_at lw_m7 25 rfl) rfl
theorem q1563 : (Jvm.Cond.methodLink "LinesPromised" (506 : Nat) ({ cls := "LinesPromised", name := "digs", desc := "(LLinesPromised$Bill;)V" } : Jvm.MethodName)) ∈ lw_all := lw_g (lw_at lw_m7 26 rfl) rfl
theorem q1564 : (Jvm.Cond.privateMethod ({ cls := "LinesPromised", name := "digs", desc := "(LLinesPromised$Bill;)V" } : Jvm.MethodName)) ∈ lw_tbl := lw_at lw_m7 27 rfl
theorem q1565 : (Jvm.Cond.instanceMethod ({ cls := "LinesPromised", name := "digs", desc := "(LLinesPromised$Bill;)V" } : Jvm.MethodName)) ∈ lw_all := lw_g (lw_at lw_m7 28 rfl) rfl
theorem q1566 : (Jvm.Cond.code ({ cls := "LinesPromised", name := "digs", desc := "(LLinesPromised$Bill;)V" } : Jvm.MethodName) prog_1_method_70_code (4 : Nat) (Option.none : Option Jvm.ClassFile.FieldType)) ∈ lw_all := lw_g (lw_at lw_m7 29 rfl) rfl
theorem q1567 : (Jvm.Cond.constantLong "LinesPromised" (496 : Nat) (3 : Int64)) ∈ lw_all := lw_g (lw_at lw_m7 30 rfl) rfl
theorem q1568 : (Jvm.Cond.constantLong "LinesPromised" (498 : Nat) (2 : Int64)) ∈ lw_all := lw_g (lw_at lw_m7 31 rfl) rfl
theorem q1570 : (Jvm.Cond.instanceMethod ({ cls := "LinesPromised", name := "last", desc := "(II)I" } : Jvm.MethodName)) ∈ lw_all := lw_g (lw_at lw_m7 33 rfl) rfl
theorem q1571 : (Jvm.Cond.selects "LinesPromised" ({ cls := "LinesPromised", name := "last", desc := "(II)I" } : Jvm.MethodName) ({ cls := "LinesPromised", name := "last", desc := "(II)I" } : Jvm.MethodName)) ∈ lw_all := lw_g (lw_at lw_m7 34 rfl) rfl
theorem q1572 : (Jvm.Cond.code ({ cls := "LinesPromised", name := "last", desc := "(II)I" } : Jvm.MethodName) prog_1_method_73_code (4 : Nat) (Option.some Jvm.ClassFile.FieldType.int)) ∈ lw_all := lw_g (lw_at lw_m7 35 rfl) rfl
theorem q1574 : (Jvm.Cond.instanceMethod ({ cls := "LinesPromised", name := "known", desc := "(II)I" } : Jvm.MethodName)) ∈ lw_all := lw_g (lw_at lw_m7 37 rfl) rfl
theorem q1575 : (Jvm.Cond.selects "LinesPromised" ({ cls := "LinesPromised", name := "known", desc := "(II)I" } : Jvm.MethodName) ({ cls := "LinesPromised", name := "known", desc := "(II)I" } : Jvm.MethodName)) ∈ lw_all := lw_g (lw_at lw_m7 38 rfl) rfl
theorem q1576 : (Jvm.Cond.code ({ cls := "LinesPromised", name := "known", desc := "(II)I" } : Jvm.MethodName) prog_1_method_74_code (3 : Nat) (Option.some Jvm.ClassFile.FieldType.int)) ∈ lw_all := lw_g (lw_at lw_m7 39 rfl) rfl
theorem q1578 : (Jvm.Cond.instanceMethod ({ cls := "LinesPromised", name := "meet", desc := "()I" } : Jvm.MethodName)) ∈ lw_all := lw_g (lw_at lw_m7 41 rfl) rfl
theorem q1579 : (Jvm.Cond.selects "LinesPromised" ({ cls := "LinesPromised", name := "meet", desc := "()I" } : Jvm.MethodName) ({ cls := "LinesPromised", name := "meet", desc := "()I" } : Jvm.MethodName)) ∈ lw_all := lw_g (lw_at lw_m7 42 rfl) rfl
theorem q1580 : (Jvm.Cond.code ({ cls := "LinesPromised", name := "meet", desc := "()I" } : Jvm.MethodName) prog_1_method_75_code (5 : Nat) (Option.some Jvm.ClassFile.FieldType.int)) ∈ lw_all := lw_g (lw_at lw_m7 43 rfl) rfl
theorem q1582 : (Jvm.Cond.instanceMethod ({ cls := "LinesPromised", name := "gauge", desc := "(I)I" } : Jvm.MethodName)) ∈ lw_all := lw_g (lw_at lw_m7 45 rfl) rfl
theorem q1583 : (Jvm.Cond.selects "LinesPromised" ({ cls := "LinesPromised", name := "gauge", desc := "(I)I" } : Jvm.MethodName) ({ cls := "LinesPromised", name := "gauge", desc := "(I)I" } : Jvm.MethodName)) ∈ lw_all := lw_g (lw_at lw_m7 46 rfl) rfl
theorem q1584 : (Jvm.Cond.code ({ cls := "LinesPromised", name := "gauge", desc := "(I)I" } : Jvm.MethodName) prog_1_method_78_code (7 : Nat) (Option.some Jvm.ClassFile.FieldType.int)) ∈ lw_all := lw_g (lw_at lw_m7 47 rfl) rfl
theorem q1585 : (Jvm.Cond.methodLink "LinesPromised" (517 : Nat) ({ cls := "LinesPromised", name := "areTowns", desc := "(I)Z" } : Jvm.MethodName)) ∈ lw_all := lw_g (lw_at lw_m7 48 rfl) rfl
theorem q1586 : (Jvm.Cond.privateMethod ({ cls := "LinesPromised", name := "areTowns", desc := "(I)Z" } : Jvm.MethodName)) ∈ lw_tbl := lw_at lw_m7 49 rfl
theorem q1587 : (Jvm.Cond.instanceMethod ({ cls := "LinesPromised", name := "areTowns", desc := "(I)Z" } : Jvm.MethodName)) ∈ lw_all := lw_g (lw_at lw_m7 50 rfl) rfl
theorem q1588 : (Jvm.Cond.code ({ cls := "LinesPromised", name := "areTowns", desc := "(I)Z" } : Jvm.MethodName) prog_1_method_77_code (2 : Nat) (Option.some Jvm.ClassFile.FieldType.boolean)) ∈ lw_all := lw_g (lw_at lw_m7 51 rfl) rfl
theorem q1589 : (Jvm.Cond.methodLink "LinesPromised" (520 : Nat) ({ cls := "java/lang/Integer", name := "bitCount", desc := "(I)I" } : Jvm.MethodName)) ∈ lw_all := lw_g (lw_at lw_m7 52 rfl) rfl
theorem q1595 : (Jvm.Cond.methodLink "LinesPromised" (525 : Nat) ({ cls := "LinesPromised", name := "join", desc := "(ILjava/util/ArrayList;I)Z" } : Jvm.MethodName)) ∈ lw_all := lw_g (lw_at lw_m7 58 rfl) rfl
theorem q1596 : (Jvm.Cond.privateMethod ({ cls := "LinesPromised", name := "join", desc := "(ILjava/util/ArrayList;I)Z" } : Jvm.MethodName)) ∈ lw_tbl := lw_at lw_m7 59 rfl
theorem q1597 : (Jvm.Cond.instanceMethod ({ cls := "LinesPromised", name := "join", desc := "(ILjava/util/ArrayList;I)Z" } : Jvm.MethodName)) ∈ lw_all := lw_g (lw_at lw_m7 60 rfl) rfl
theorem q1598 : (Jvm.Cond.code ({ cls := "LinesPromised", name := "join", desc := "(ILjava/util/ArrayList;I)Z" } : Jvm.MethodName) prog_1_method_76_code (8 : Nat) (Option.some Jvm.ClassFile.FieldType.boolean)) ∈ lw_all := lw_g (lw_at lw_m7 61 rfl) rfl
theorem q1600 : (Jvm.Cond.instanceMethod ({ cls := "LinesPromised", name := "plan", desc := "(IIII)I" } : Jvm.MethodName)) ∈ lw_all := lw_g (lw_at lw_m7 63 rfl) rfl
theorem q1601 : (Jvm.Cond.selects "LinesPromised" ({ cls := "LinesPromised", name := "plan", desc := "(IIII)I" } : Jvm.MethodName) ({ cls := "LinesPromised", name := "plan", desc := "(IIII)I" } : Jvm.MethodName)) ∈ lw_all := lw_g (lw_at lw_m7 64 rfl) rfl
theorem q1602 : (Jvm.Cond.code ({ cls := "LinesPromised", name := "plan", desc := "(IIII)I" } : Jvm.MethodName) prog_1_method_81_code (14 : Nat) (Option.some Jvm.ClassFile.FieldType.int)) ∈ lw_all := lw_g (lw_at lw_m7 65 rfl) rfl
theorem q1603 : (Jvm.Cond.constant "LinesPromised" (530 : Nat) (999999 : Int32)) ∈ lw_all := lw_g (lw_at lw_m7 66 rfl) rfl
theorem q1604 : (Jvm.Cond.methodLink "LinesPromised" (531 : Nat) ({ cls := "LinesPromised", name := "sumOf", desc := "([JI)J" } : Jvm.MethodName)) ∈ lw_all := lw_g (lw_at lw_m7 67 rfl) rfl
theorem q1605 : (Jvm.Cond.static ({ cls := "LinesPromised", name := "sumOf", desc := "([JI)J" } : Jvm.MethodName)) ∈ lw_all := lw_g (lw_at lw_m7 68 rfl) rfl
theorem q1606 : (Jvm.Cond.code ({ cls := "LinesPromised", name := "sumOf", desc := "([JI)J" } : Jvm.MethodName) prog_1_method_80_code (5 : Nat) (Option.some Jvm.ClassFile.FieldType.long)) ∈ lw_all := lw_g (lw_at lw_m7 69 rfl) rfl
theorem q1607 : (Jvm.Cond.methodLink "LinesPromised" (535 : Nat) ({ cls := "LinesPromised", name := "barsSome", desc := "(Ljava/util/ArrayList;I)Z" } : Jvm.MethodName)) ∈ lw_all := lw_g (lw_at lw_m7 70 rfl) rfl
theorem q1608 : (Jvm.Cond.privateMethod ({ cls := "LinesPromised", name := "barsSome", desc := "(Ljava/util/ArrayList;I)Z" } : Jvm.MethodName)) ∈ lw_tbl := lw_at lw_m7 71 rfl
theorem q1609 : (Jvm.Cond.instanceMethod ({ cls := "LinesPromised", name := "barsSome", desc := "(Ljava/util/ArrayList;I)Z" } : Jvm.MethodName)) ∈ lw_all := lw_g (lw_at lw_m7 72 rfl) rfl
theorem q1610 : (Jvm.Cond.code ({ cls := "LinesPromised", name := "barsSome", desc := "(Ljava/util/ArrayList;I)Z" } : Jvm.MethodName) prog_1_method_79_code (5 : Nat) (Option.some Jvm.ClassFile.FieldType.boolean)) ∈ lw_all := lw_g (lw_at lw_m7 73 rfl) rfl
theorem q1612 : (Jvm.Cond.instanceMethod ({ cls := "LinesPromised", name := "tried", desc := "(I)I" } : Jvm.MethodName)) ∈ lw_all := lw_g (lw_at lw_m7 75 rfl) rfl
theorem q1613 : (Jvm.Cond.selects "LinesPromised" ({ cls := "LinesPromised", name := "tried", desc := "(I)I" } : Jvm.MethodName) ({ cls := "LinesPromised", name := "tried", desc := "(I)I" } : Jvm.MethodName)) ∈ lw_all := lw_g (lw_at lw_m7 76 rfl) rfl
theorem q1614 : (Jvm.Cond.codeWith ({ cls := "LinesPromised", name := "tried", desc := "(I)I" } : Jvm.MethodName) prog_1_method_83_code (5 : Nat) (Option.some Jvm.ClassFile.FieldType.int) [((11 : Nat), (55 : Nat), (62 : Nat), (90 : Nat)), ((11 : Nat), (55 : Nat), (78 : Nat), (0 : Nat)), ((62 : Nat), (71 : Nat), (78 : Nat), (0 : Nat)), ((78 : Nat), (80 : Nat), (78 : Nat), (0 : Nat))]) ∈ lw_all := lw_g (lw_at lw_m7 77 rfl) rfl
theorem q1615 : (Jvm.Cond.methodLink "LinesPromised" (539 : Nat) ({ cls := "LinesPromised", name := "triedOf", desc := "(I)I" } : Jvm.MethodName)) ∈ lw_all := lw_g (lw_at lw_m7 78 rfl) rfl
theorem q1616 : (Jvm.Cond.privateMethod ({ cls := "LinesPromised", name := "triedOf", desc := "(I)I" } : Jvm.MethodName)) ∈ lw_tbl := lw_at lw_m7 79 rfl
theorem q1617 : (Jvm.Cond.instanceMethod ({ cls := "LinesPromised", name := "triedOf", desc := "(I)I" } : Jvm.MethodName)) ∈ lw_all := lw_g (lw_at lw_m7 80 rfl) rfl
theorem q1618 : (Jvm.Cond.code ({ cls := "LinesPromised", name := "triedOf", desc := "(I)I" } : Jvm.MethodName) prog_1_method_82_code (7 : Nat) (Option.some Jvm.ClassFile.FieldType.int)) ∈ lw_all := lw_g (lw_at lw_m7 81 rfl) rfl
theorem q1620 : (Jvm.Cond.instanceMethod ({ cls := "LinesPromised", name := "image", desc := "()I" } : Jvm.MethodName)) ∈ lw_all := lw_g (lw_at lw_m7 83 rfl) rfl
theorem q1621 : (Jvm.Cond.selects "LinesPromised" ({ cls := "LinesPromised", name := "image", desc := "()I" } : Jvm.MethodName) ({ cls := "LinesPromised", name := "image", desc := "()I" } : Jvm.MethodName)) ∈ lw_all := lw_g (lw_at lw_m7 84 rfl) rfl
theorem q1622 : (Jvm.Cond.code ({ cls := "LinesPromised", name := "image", desc := "()I" } : Jvm.MethodName) prog_1_method_84_code (1 : Nat) (Option.some Jvm.ClassFile.FieldType.int)) ∈ lw_all := lw_g (lw_at lw_m7 85 rfl) rfl
theorem q1623 : (Jvm.Cond.classLink "LinesPromised" (542 : Nat) "LinesPromised$Image") ∈ lw_all := lw_g (lw_at lw_m7 86 rfl) rfl
theorem q1625 : (Jvm.Cond.methodLink "LinesPromised" (544 : Nat) ({ cls := "LinesPromised$Image", name := "<init>", desc := "(LLinesPromised;)V" } : Jvm.MethodName)) ∈ lw_all := lw_g (lw_at lw_m7 88 rfl) rfl
theorem q1803 : (Jvm.Cond.instanceMethod ({ cls := "LinesPromised", name := "undo", desc := "()I" } : Jvm.MethodName)) ∈ lw_all := lw_g (lw_at lw_m8 26 rfl) rfl
theorem q1804 : (Jvm.Cond.selects "LinesPromised" ({ cls := "LinesPromised", name := "undo", desc := "()I" } : Jvm.MethodName) ({ cls := "LinesPromised", name := "undo", desc := "()I" } : Jvm.MethodName)) ∈ lw_all := lw_g (lw_at lw_m8 27 rfl) rfl
theorem q1805 : (Jvm.Cond.code ({ cls := "LinesPromised", name := "undo", desc := "()I" } : Jvm.MethodName) prog_1_method_85_code (1 : Nat) (Option.some Jvm.ClassFile.FieldType.int)) ∈ lw_all := lw_g (lw_at lw_m8 28 rfl) rfl
theorem q1806 : (Jvm.Cond.methodLink "LinesPromised" (549 : Nat) ({ cls := "LinesPromised$Image", name := "putBack", desc := "()V" } : Jvm.MethodName)) ∈ lw_all := lw_g (lw_at lw_m8 29 rfl) rfl
theorem q1827 : (Jvm.Cond.instanceMethod ({ cls := "LinesPromised", name := "count", desc := "(I)I" } : Jvm.MethodName)) ∈ lw_all := lw_g (lw_at lw_m8 50 rfl) rfl
theorem q1828 : (Jvm.Cond.selects "LinesPromised" ({ cls := "LinesPromised", name := "count", desc := "(I)I" } : Jvm.MethodName) ({ cls := "LinesPromised", name := "count", desc := "(I)I" } : Jvm.MethodName)) ∈ lw_all := lw_g (lw_at lw_m8 51 rfl) rfl
theorem q1829 : (Jvm.Cond.code ({ cls := "LinesPromised", name := "count", desc := "(I)I" } : Jvm.MethodName) prog_1_method_87_code (2 : Nat) (Option.some Jvm.ClassFile.FieldType.int)) ∈ lw_all := lw_g (lw_at lw_m8 52 rfl) rfl
theorem q1830 : (Jvm.Cond.methodLink "LinesPromised" (552 : Nat) ({ cls := "LinesPromised", name := "doneMany", desc := "()I" } : Jvm.MethodName)) ∈ lw_all := lw_g (lw_at lw_m8 53 rfl) rfl
theorem q1831 : (Jvm.Cond.privateMethod ({ cls := "LinesPromised", name := "doneMany", desc := "()I" } : Jvm.MethodName)) ∈ lw_tbl := lw_at lw_m8 54 rfl
theorem q1832 : (Jvm.Cond.instanceMethod ({ cls := "LinesPromised", name := "doneMany", desc := "()I" } : Jvm.MethodName)) ∈ lw_all := lw_g (lw_at lw_m8 55 rfl) rfl
theorem q1833 : (Jvm.Cond.code ({ cls := "LinesPromised", name := "doneMany", desc := "()I" } : Jvm.MethodName) prog_1_method_86_code (5 : Nat) (Option.some Jvm.ClassFile.FieldType.int)) ∈ lw_all := lw_g (lw_at lw_m8 56 rfl) rfl
theorem q1835 : (Jvm.Cond.instanceMethod ({ cls := "LinesPromised", name := "sheet", desc := "(III)I" } : Jvm.MethodName)) ∈ lw_all := lw_g (lw_at lw_m8 58 rfl) rfl
theorem q1836 : (Jvm.Cond.selects "LinesPromised" ({ cls := "LinesPromised", name := "sheet", desc := "(III)I" } : Jvm.MethodName) ({ cls := "LinesPromised", name := "sheet", desc := "(III)I" } : Jvm.MethodName)) ∈ lw_all := lw_g (lw_at lw_m8 59 rfl) rfl
theorem q1837 : (Jvm.Cond.code ({ cls := "LinesPromised", name := "sheet", desc := "(III)I" } : Jvm.MethodName) prog_1_method_89_code (4 : Nat) (Option.some Jvm.ClassFile.FieldType.int)) ∈ lw_all := lw_g (lw_at lw_m8 60 rfl) rfl
theorem q1838 : (Jvm.Cond.methodLink "LinesPromised" (555 : Nat) ({ cls := "LinesPromised$Bytes", name := "<init>", desc := "([B)V" } : Jvm.MethodName)) ∈ lw_all := lw_g (lw_at lw_m8 61 rfl) rfl
theorem q1839 : (Jvm.Cond.classLink "LinesPromised" (558 : Nat) "LinesPromised$Shorts") ∈ lw_all := lw_g (lw_at lw_m8 62 rfl) rfl
theorem q1840 : (Jvm.Cond.methodLink "LinesPromised" (560 : Nat) ({ cls := "LinesPromised$Shorts", name := "<init>", desc := "([S)V" } : Jvm.MethodName)) ∈ lw_all := lw_g (lw_at lw_m8 63 rfl) rfl
theorem q1841 : (Jvm.Cond.methodLink "LinesPromised" (563 : Nat) ({ cls := "LinesPromised$Ints", name := "<init>", desc := "([I)V" } : Jvm.MethodName)) ∈ lw_all := lw_g (lw_at lw_m8 64 rfl) rfl
theorem q1843 : (Jvm.Cond.instanceMethod ({ cls := "LinesPromised", name := "item", desc := "(III)I" } : Jvm.MethodName)) ∈ lw_all := lw_g (lw_at lw_m8 66 rfl) rfl
theorem q1844 : (Jvm.Cond.selects "LinesPromised" ({ cls := "LinesPromised", name := "item", desc := "(III)I" } : Jvm.MethodName) ({ cls := "LinesPromised", name := "item", desc := "(III)I" } : Jvm.MethodName)) ∈ lw_all := lw_g (lw_at lw_m8 67 rfl) rfl
theorem q1845 : (Jvm.Cond.code ({ cls := "LinesPromised", name := "item", desc := "(III)I" } : Jvm.MethodName) prog_1_method_90_code (4 : Nat) (Option.some Jvm.ClassFile.FieldType.int)) ∈ lw_all := lw_g (lw_at lw_m8 68 rfl) rfl
theorem q1846 : (Jvm.Cond.methodLink "LinesPromised" (566 : Nat) ({ cls := "LinesPromised$Sheet", name := "set", desc := "(II)V" } : Jvm.MethodName)) ∈ lw_all := lw_g (lw_at lw_m8 69 rfl) rfl
theorem q1859 : (Jvm.Cond.instanceMethod ({ cls := "LinesPromised", name := "copy", desc := "(IIIII)I" } : Jvm.MethodName)) ∈ lw_all := lw_g (lw_at lw_m8 82 rfl) rfl
theorem q1860 : (Jvm.Cond.selects "LinesPromised" ({ cls := "LinesPromised", name := "copy", desc := "(IIIII)I" } : Jvm.MethodName) ({ cls := "LinesPromised", name := "copy", desc := "(IIIII)I" } : Jvm.MethodName)) ∈ lw_all := lw_g (lw_at lw_m8 83 rfl) rfl
theorem q1861 : (Jvm.Cond.code ({ cls := "LinesPromised", name := "copy", desc := "(IIIII)I" } : Jvm.MethodName) prog_1_method_91_code (8 : Nat) (Option.some Jvm.ClassFile.FieldType.int)) ∈ lw_all := lw_g (lw_at lw_m8 84 rfl) rfl
theorem q1862 : (Jvm.Cond.methodLink "LinesPromised" (570 : Nat) ({ cls := "LinesPromised$Sheet", name := "sort", desc := "()I" } : Jvm.MethodName)) ∈ lw_all := lw_g (lw_at lw_m8 85 rfl) rfl
theorem q1874 : (Jvm.Cond.methodLink "LinesPromised" (573 : Nat) ({ cls := "LinesPromised$Sheet", name := "copyTo", desc := "(ILLinesPromised$Sheet;II)V" } : Jvm.MethodName)) ∈ lw_all := lw_g (lw_at lw_m8 97 rfl) rfl
theorem q2429 : (Jvm.Cond.castable "LinesPromised" "java/lang/Object") ∈ lw_tbl := lw_at lw_m10 172 rfl
theorem q102 : (Jvm.Cond.initialized "LinesPromised$Reader") ∈ lw_all := lw_g (lw_at lw_m1 5 rfl) rfl
theorem q247 : (Jvm.Cond.selects "LinesPromised$Reader" ({ cls := "java/lang/Object", name := "getClass", desc := "()Ljava/lang/Class;" } : Jvm.MethodName) ({ cls := "java/lang/Object", name := "getClass", desc := "()Ljava/lang/Class;" } : Jvm.MethodName)) ∈ lw_all := lw_g (lw_at lw_m1 150 rfl) rfl
theorem q297 : (Jvm.Cond.instanceMethod ({ cls := "LinesPromised$Reader", name := "order", desc := "(I)LLinesPromised$Order;" } : Jvm.MethodName)) ∈ lw_all := lw_g (lw_at lw_m1 200 rfl) rfl
theorem q298 : (Jvm.Cond.selects "LinesPromised$Reader" ({ cls := "LinesPromised$Reader", name := "order", desc := "(I)LLinesPromised$Order;" } : Jvm.MethodName) ({ cls := "LinesPromised$Reader", name := "order", desc := "(I)LLinesPromised$Order;" } : Jvm.MethodName)) ∈ lw_all := lw_g (lw_at lw_m1 201 rfl) rfl
theorem q299 : (Jvm.Cond.code ({ cls := "LinesPromised$Reader", name := "order", desc := "(I)LLinesPromised$Order;" } : Jvm.MethodName) prog_19_method_13_code (3 : Nat) (Option.some (Jvm.ClassFile.FieldType.object "LinesPromised$Order"))) ∈ lw_all := lw_g (lw_at lw_m1 202 rfl) rfl
theorem q300 : (Jvm.Cond.classLink "LinesPromised$Reader" (106 : Nat) "LinesPromised$Order") ∈ lw_all := lw_g (lw_at lw_m1 203 rfl) rfl
theorem q302 : (Jvm.Cond.methodLink "LinesPromised$Reader" (108 : Nat) ({ cls := "LinesPromised$Order", name := "<init>", desc := "(I)V" } : Jvm.MethodName)) ∈ lw_all := lw_g (lw_at lw_m1 205 rfl) rfl
theorem q332 : (Jvm.Cond.fieldLinkNest "LinesPromised$Reader" (109 : Nat) "LinesPromised$Order" "clauses" "Ljava/util/ArrayList;" "LinesPromised") ∈ lw_tbl := lw_at lw_m1 235 rfl
theorem q339 : (Jvm.Cond.methodLink "LinesPromised$Reader" (113 : Nat) ({ cls := "LinesPromised$Reader", name := "clause", desc := "()LLinesPromised$Clause;" } : Jvm.MethodName)) ∈ lw_all := lw_g (lw_at lw_m2 2 rfl) rfl
theorem q340 : (Jvm.Cond.privateMethod ({ cls := "LinesPromised$Reader", name := "clause", desc := "()LLinesPromised$Clause;" } : Jvm.MethodName)) ∈ lw_tbl := lw_at lw_m2 3 rfl
theorem q341 : (Jvm.Cond.instanceMethod ({ cls := "LinesPromised$Reader", name := "clause", desc := "()LLinesPromised$Clause;" } : Jvm.MethodName)) ∈ lw_all := lw_g (lw_at lw_m2 4 rfl) rfl
theorem q342 : (Jvm.Cond.instantiable "LinesPromised$Reader" (5 : Nat)) ∈ lw_all := lw_g (lw_at lw_m2 5 rfl) rfl
theorem q343 : (Jvm.Cond.code ({ cls := "LinesPromised$Reader", name := "clause", desc := "()LLinesPromised$Clause;" } : Jvm.MethodName) prog_19_method_12_code (2 : Nat) (Option.some (Jvm.ClassFile.FieldType.object "LinesPromised$Clause"))) ∈ lw_all := lw_g (lw_at lw_m2 6 rfl) rfl
theorem q344 : (Jvm.Cond.methodLink "LinesPromised$Reader" (98 : Nat) ({ cls := "LinesPromised$Reader", name := "word", desc := "()I" } : Jvm.MethodName)) ∈ lw_all := lw_g (lw_at lw_m2 7 rfl) rfl
theorem q345 : (Jvm.Cond.privateMethod ({ cls := "LinesPromised$Reader", name := "word", desc := "()I" } : Jvm.MethodName)) ∈ lw_tbl := lw_at lw_m2 8 rfl
theorem q346 : (Jvm.Cond.instanceMethod ({ cls := "LinesPromised$Reader", name := "word", desc := "()I" } : Jvm.MethodName)) ∈ lw_all := lw_g (lw_at lw_m2 9 rfl) rfl
theorem q347 : (Jvm.Cond.code ({ cls := "LinesPromised$Reader", name := "word", desc := "()I" } : Jvm.MethodName) prog_19_method_7_code (4 : Nat) (Option.some Jvm.ClassFile.FieldType.int)) ∈ lw_all := lw_g (lw_at lw_m2 10 rfl) rfl
theorem q348 : (Jvm.Cond.methodLink "LinesPromised$Reader" (48 : Nat) ({ cls := "LinesPromised$Reader", name := "matches", desc := "([C)I" } : Jvm.MethodName)) ∈ lw_all := lw_g (lw_at lw_m2 11 rfl) rfl
theorem q349 : (Jvm.Cond.privateMethod ({ cls := "LinesPromised$Reader", name := "matches", desc := "([C)I" } : Jvm.MethodName)) ∈ lw_tbl := lw_at lw_m2 12 rfl
theorem q350 : (Jvm.Cond.instanceMethod ({ cls := "LinesPromised$Reader", name := "matches", desc := "([C)I" } : Jvm.MethodName)) ∈ lw_all := lw_g (lw_at lw_m2 13 rfl) rfl
theorem q351 : (Jvm.Cond.code ({ cls := "LinesPromised$Reader", name := "matches", desc := "([C)I" } : Jvm.MethodName) prog_19_method_6_code (3 : Nat) (Option.some Jvm.ClassFile.FieldType.int)) ∈ lw_all := lw_g (lw_at lw_m2 14 rfl) rfl
theorem q352 : (Jvm.Cond.methodLink "LinesPromised$Reader" (52 : Nat) ({ cls := "java/lang/Math", name := "max", desc := "(II)I" } : Jvm.MethodName)) ∈ lw_all := lw_g (lw_at lw_m2 15 rfl) rfl
theorem q353 : (Jvm.Cond.methodLink "LinesPromised$Reader" (58 : Nat) ({ cls := "LinesPromised$Reader", name := "sign", desc := "(I)V" } : Jvm.MethodName)) ∈ lw_all := lw_g (lw_at lw_m2 16 rfl) rfl
theorem q354 : (Jvm.Cond.privateMethod ({ cls := "LinesPromised$Reader", name := "sign", desc := "(I)V" } : Jvm.MethodName)) ∈ lw_tbl := lw_at lw_m2 17 rfl
theorem q355 : (Jvm.Cond.instanceMethod ({ cls := "LinesPromised$Reader", name := "sign", desc := "(I)V" } : Jvm.MethodName)) ∈ lw_all := lw_g (lw_at lw_m2 18 rfl) rfl
theorem q356 : (Jvm.Cond.code ({ cls := "LinesPromised$Reader", name := "sign", desc := "(I)V" } : Jvm.MethodName) prog_19_method_3_code (2 : Nat) (Option.none : Option Jvm.ClassFile.FieldType)) ∈ lw_all := lw_g (lw_at lw_m2 19 rfl) rfl
theorem q357 : (Jvm.Cond.methodLink "LinesPromised$Reader" (35 : Nat) ({ cls := "LinesPromised$Reader", name := "next", desc := "()I" } : Jvm.MethodName)) ∈ lw_all := lw_g (lw_at lw_m2 20 rfl) rfl
theorem q358 : (Jvm.Cond.privateMethod ({ cls := "LinesPromised$Reader", name := "next", desc := "()I" } : Jvm.MethodName)) ∈ lw_tbl := lw_at lw_m2 21 rfl
theorem q359 : (Jvm.Cond.instanceMethod ({ cls := "LinesPromised$Reader", name := "next", desc := "()I" } : Jvm.MethodName)) ∈ lw_all := lw_g (lw_at lw_m2 22 rfl) rfl
theorem q360 : (Jvm.Cond.code ({ cls := "LinesPromised$Reader", name := "next", desc := "()I" } : Jvm.MethodName) prog_19_method_2_code (1 : Nat) (Option.some Jvm.ClassFile.FieldType.int)) ∈ lw_all := lw_g (lw_at lw_m2 23 rfl) rfl
theorem q361 : (Jvm.Cond.classLink "LinesPromised$Reader" (39 : Nat) "LinesPromised$Wrong") ∈ lw_all := lw_g (lw_at lw_m2 24 rfl) rfl
theorem q399 : (Jvm.Cond.methodLink "LinesPromised$Reader" (41 : Nat) ({ cls := "LinesPromised$Wrong", name := "<init>", desc := "(I)V" } : Jvm.MethodName)) ∈ lw_all := lw_g (lw_at lw_m2 62 rfl) rfl
theorem q425 : (Jvm.Cond.classLink "LinesPromised$Reader" (101 : Nat) "LinesPromised$Clause") ∈ lw_all := lw_g (lw_at lw_m2 88 rfl) rfl
theorem q427 : (Jvm.Cond.methodLink "LinesPromised$Reader" (76 : Nat) ({ cls := "LinesPromised$Reader", name := "either", desc := "()LLinesPromised$Test;" } : Jvm.MethodName)) ∈ lw_all := lw_g (lw_at lw_m2 90 rfl) rfl
theorem q428 : (Jvm.Cond.privateMethod ({ cls := "LinesPromised$Reader", name := "either", desc := "()LLinesPromised$Test;" } : Jvm.MethodName)) ∈ lw_tbl := lw_at lw_m2 91 rfl
theorem q429 : (Jvm.Cond.instanceMethod ({ cls := "LinesPromised$Reader", name := "either", desc := "()LLinesPromised$Test;" } : Jvm.MethodName)) ∈ lw_all := lw_g (lw_at lw_m2 92 rfl) rfl
theorem q430 : (Jvm.Cond.code ({ cls := "LinesPromised$Reader", name := "either", desc := "()LLinesPromised$Test;" } : Jvm.MethodName) prog_19_method_11_code (2 : Nat) (Option.some (Jvm.ClassFile.FieldType.object "LinesPromised$Test"))) ∈ lw_all := lw_g (lw_at lw_m2 93 rfl) rfl
theorem q431 : (Jvm.Cond.methodLink "LinesPromised$Reader" (92 : Nat) ({ cls := "LinesPromised$Reader", name := "both", desc := "()LLinesPromised$Test;" } : Jvm.MethodName)) ∈ lw_all := lw_g (lw_at lw_m2 94 rfl) rfl
theorem q432 : (Jvm.Cond.privateMethod ({ cls := "LinesPromised$Reader", name := "both", desc := "()LLinesPromised$Test;" } : Jvm.MethodName)) ∈ lw_tbl := lw_at lw_m2 95 rfl
theorem q433 : (Jvm.Cond.instanceMethod ({ cls := "LinesPromised$Reader", name := "both", desc := "()LLinesPromised$Test;" } : Jvm.MethodName)) ∈ lw_all := lw_g (lw_at lw_m2 96 rfl) rfl
theorem q434 : (Jvm.Cond.code ({ cls := "LinesPromised$Reader", name := "both", desc := "()LLinesPromised$Test;" } : Jvm.MethodName) prog_19_method_10_code (2 : Nat) (Option.some (Jvm.ClassFile.FieldType.object "LinesPromised$Test"))) ∈ lw_all := lw_g (lw_at lw_m2 97 rfl) rfl
theorem q435 : (Jvm.Cond.methodLink "LinesPromised$Reader" (67 : Nat) ({ cls := "LinesPromised$Reader", name := "fact", desc := "()LLinesPromised$Test;" } : Jvm.MethodName)) ∈ lw_all := lw_g (lw_at lw_m2 98 rfl) rfl
theorem q436 : (Jvm.Cond.privateMethod ({ cls := "LinesPromised$Reader", name := "fact", desc := "()LLinesPromised$Test;" } : Jvm.MethodName)) ∈ lw_tbl := lw_at lw_m2 99 rfl
theorem q437 : (Jvm.Cond.instanceMethod ({ cls := "LinesPromised$Reader", name := "fact", desc := "()LLinesPromised$Test;" } : Jvm.MethodName)) ∈ lw_all := lw_g (lw_at lw_m2 100 rfl) rfl
theorem q438 : (Jvm.Cond.code ({ cls := "LinesPromised$Reader", name := "fact", desc := "()LLinesPromised$Test;" } : Jvm.MethodName) prog_19_method_9_code (4 : Nat) (Option.some (Jvm.ClassFile.FieldType.object "LinesPromised$Test"))) ∈ lw_all := lw_g (lw_at lw_m2 101 rfl) rfl
theorem q439 : (Jvm.Cond.methodLink "LinesPromised$Reader" (64 : Nat) ({ cls := "LinesPromised$Reader", name := "opens", desc := "()V" } : Jvm.MethodName)) ∈ lw_all := lw_g (lw_at lw_m2 102 rfl) rfl
theorem q440 : (Jvm.Cond.privateMethod ({ cls := "LinesPromised$Reader", name := "opens", desc := "()V" } : Jvm.MethodName)) ∈ lw_tbl := lw_at lw_m2 103 rfl
theorem q441 : (Jvm.Cond.instanceMethod ({ cls := "LinesPromised$Reader", name := "opens", desc := "()V" } : Jvm.MethodName)) ∈ lw_all := lw_g (lw_at lw_m2 104 rfl) rfl
theorem q442 : (Jvm.Cond.code ({ cls := "LinesPromised$Reader", name := "opens", desc := "()V" } : Jvm.MethodName) prog_19_method_8_code (1 : Nat) (Option.none : Option Jvm.ClassFile.FieldType)) ∈ lw_all := lw_g (lw_at lw_m2 105 rfl) rfl
theorem q443 : (Jvm.Cond.classLink "LinesPromised$Reader" (71 : Nat) "LinesPromised$Not") ∈ lw_all := lw_g (lw_at lw_m2 106 rfl) rfl
theorem q445 : (Jvm.Cond.methodLink "LinesPromised$Reader" (73 : Nat) ({ cls := "LinesPromised$Not", name := "<init>", desc := "(LLinesPromised$Test;)V" } : Jvm.MethodName)) ∈ lw_all := lw_g (lw_at lw_m2 108 rfl) rfl
theorem q456 : (Jvm.Cond.classLink "LinesPromised$Reader" (79 : Nat) "LinesPromised$Fact") ∈ lw_all := lw_g (lw_at lw_m2 119 rfl) rfl
theorem q458 : (Jvm.Cond.methodLink "LinesPromised$Reader" (81 : Nat) ({ cls := "LinesPromised$Fact", name := "<init>", desc := "(III)V" } : Jvm.MethodName)) ∈ lw_all := lw_g (lw_at lw_m2 121 rfl) rfl
theorem q472 : (Jvm.Cond.methodLink "LinesPromised$Reader" (84 : Nat) ({ cls := "LinesPromised$Reader", name := "number", desc := "()I" } : Jvm.MethodName)) ∈ lw_all := lw_g (lw_at lw_m2 135 rfl) rfl
theorem q473 : (Jvm.Cond.privateMethod ({ cls := "LinesPromised$Reader", name := "number", desc := "()I" } : Jvm.MethodName)) ∈ lw_tbl := lw_at lw_m2 136 rfl
theorem q474 : (Jvm.Cond.instanceMethod ({ cls := "LinesPromised$Reader", name := "number", desc := "()I" } : Jvm.MethodName)) ∈ lw_all := lw_g (lw_at lw_m2 137 rfl) rfl
theorem q475 : (Jvm.Cond.code ({ cls := "LinesPromised$Reader", name := "number", desc := "()I" } : Jvm.MethodName) prog_19_method_5_code (3 : Nat) (Option.some Jvm.ClassFile.FieldType.int)) ∈ lw_all := lw_g (lw_at lw_m2 138 rfl) rfl
theorem q476 : (Jvm.Cond.methodLink "LinesPromised$Reader" (44 : Nat) ({ cls := "LinesPromised$Reader", name := "isDigit", desc := "()Z" } : Jvm.MethodName)) ∈ lw_all := lw_g (lw_at lw_m2 139 rfl) rfl
theorem q477 : (Jvm.Cond.privateMethod ({ cls := "LinesPromised$Reader", name := "isDigit", desc := "()Z" } : Jvm.MethodName)) ∈ lw_tbl := lw_at lw_m2 140 rfl
theorem q478 : (Jvm.Cond.instanceMethod ({ cls := "LinesPromised$Reader", name := "isDigit", desc := "()Z" } : Jvm.MethodName)) ∈ lw_all := lw_g (lw_at lw_m2 141 rfl) rfl
theorem q479 : (Jvm.Cond.code ({ cls := "LinesPromised$Reader", name := "isDigit", desc := "()Z" } : Jvm.MethodName) prog_19_method_4_code (1 : Nat) (Option.some Jvm.ClassFile.FieldType.boolean)) ∈ lw_all := lw_g (lw_at lw_m2 142 rfl) rfl
theorem q480 : (Jvm.Cond.classLink "LinesPromised$Reader" (87 : Nat) "LinesPromised$Both") ∈ lw_all := lw_g (lw_at lw_m2 143 rfl) rfl
theorem q482 : (Jvm.Cond.methodLink "LinesPromised$Reader" (89 : Nat) ({ cls := "LinesPromised$Both", name := "<init>", desc := "(LLinesPromised$Test;LLinesPromised$Test;)V" } : Jvm.MethodName)) ∈ lw_all := lw_g (lw_at lw_m2 145 rfl) rfl
theorem q497 : (Jvm.Cond.classLink "LinesPromised$Reader" (95 : Nat) "LinesPromised$Either") ∈ lw_all := lw_g (lw_at lw_m2 160 rfl) rfl
theorem q499 : (Jvm.Cond.methodLink "LinesPromised$Reader" (97 : Nat) ({ cls := "LinesPromised$Either", name := "<init>", desc := "(LLinesPromised$Test;LLinesPromised$Test;)V" } : Jvm.MethodName)) ∈ lw_all := lw_g (lw_at lw_m2 162 rfl) rfl
theorem q506 : (Jvm.Cond.methodLink "LinesPromised$Reader" (103 : Nat) ({ cls := "LinesPromised$Clause", name := "<init>", desc := "(IILLinesPromised$Test;)V" } : Jvm.MethodName)) ∈ lw_all := lw_g (lw_at lw_m2 169 rfl) rfl
theorem q523 : (Jvm.Cond.methodLink "LinesPromised$Reader" (117 : Nat) ({ cls := "java/util/ArrayList", name := "add", desc := "(Ljava/lang/Object;)Z" } : Jvm.MethodName)) ∈ lw_all := lw_g (lw_at lw_m2 186 rfl) rfl
theorem q524 : (Jvm.Cond.methodLink "LinesPromised$Reader" (123 : Nat) ({ cls := "java/util/ArrayList", name := "size", desc := "()I" } : Jvm.MethodName)) ∈ lw_all := lw_g (lw_at lw_m2 187 rfl) rfl
theorem q564 : (Jvm.Cond.instanceMethod ({ cls := "LinesPromised$Reader", name := "<init>", desc := "(LLinesPromised;)V" } : Jvm.MethodName)) ∈ lw_all := lw_g (lw_at lw_m2 227 rfl) rfl
theorem q565 : (Jvm.Cond.code ({ cls := "LinesPromised$Reader", name := "<init>", desc := "(LLinesPromised;)V" } : Jvm.MethodName) prog_19_method_1_code (2 : Nat) (Option.none : Option Jvm.ClassFile.FieldType)) ∈ lw_all := lw_g (lw_at lw_m2 228 rfl) rfl
theorem q566 : (Jvm.Cond.methodLink "LinesPromised$Reader" (9 : Nat) ({ cls := "java/lang/Object", name := "<init>", desc := "()V" } : Jvm.MethodName)) ∈ lw_all := lw_g (lw_at lw_m2 229 rfl) rfl
theorem q567 : (Jvm.Cond.classLink "LinesPromised$Reader" (15 : Nat) "[C") ∈ lw_all := lw_g (lw_at lw_m2 230 rfl) rfl
theorem q569 : (Jvm.Cond.fieldLink "LinesPromised$Reader" (17 : Nat) "LinesPromised$Reader" "words" "[[C") ∈ lw_all := lw_g (lw_at lw_m2 232 rfl) rfl
theorem q570 : (Jvm.Cond.fieldLink "LinesPromised$Reader" (21 : Nat) "LinesPromised$Reader" "letters" "[C") ∈ lw_all := lw_g (lw_at lw_m2 233 rfl) rfl
theorem q571 : (Jvm.Cond.fieldLink "LinesPromised$Reader" (24 : Nat) "LinesPromised$Reader" "at" "I") ∈ lw_all := lw_g (lw_at lw_m2 234 rfl) rfl
theorem q572 : (Jvm.Cond.fieldLink "LinesPromised$Reader" (61 : Nat) "LinesPromised$Reader" "open" "I") ∈ lw_all := lw_g (lw_at lw_m2 235 rfl) rfl
theorem q573 : (Jvm.Cond.fieldLink "LinesPromised$Reader" (3 : Nat) "LinesPromised$Reader" "this$0" "LLinesPromised;") ∈ lw_all := lw_g (lw_at lw_m2 236 rfl) rfl
theorem q574 : (Jvm.Cond.laysFinal "LinesPromised$Reader" "LinesPromised$Reader" "words" "[[C") ∈ lw_all := lw_g (lw_at lw_m2 237 rfl) rfl
theorem q575 : (Jvm.Cond.soleField "LinesPromised$Reader" "words") ∈ lw_all := lw_g (lw_at lw_m2 238 rfl) rfl
theorem q576 : (Jvm.Cond.laysFinal "LinesPromised$Reader" "LinesPromised$Reader" "letters" "[C") ∈ lw_all := lw_g (lw_at lw_m2 239 rfl) rfl
theorem q577 : (Jvm.Cond.soleField "LinesPromised$Reader" "letters") ∈ lw_all := lw_g (lw_at lw_m3 0 rfl) rfl
theorem q578 : (Jvm.Cond.lays "LinesPromised$Reader" "LinesPromised$Reader" "at" "I") ∈ lw_all := lw_g (lw_at lw_m3 1 rfl) rfl
theorem q579 : (Jvm.Cond.soleField "LinesPromised$Reader" "at") ∈ lw_all := lw_g (lw_at lw_m3 2 rfl) rfl
theorem q580 : (Jvm.Cond.lays "LinesPromised$Reader" "LinesPromised$Reader" "open" "I") ∈ lw_all := lw_g (lw_at lw_m3 3 rfl) rfl
theorem q581 : (Jvm.Cond.soleField "LinesPromised$Reader" "open") ∈ lw_all := lw_g (lw_at lw_m3 4 rfl) rfl
theorem q582 : (Jvm.Cond.laysFinal "LinesPromised$Reader" "LinesPromised$Reader" "this$0" "LLinesPromised;") ∈ lw_all := lw_g (lw_at lw_m3 5 rfl) rfl
theorem q583 : (Jvm.Cond.soleField "LinesPromised$Reader" "this$0") ∈ lw_all := lw_g (lw_at lw_m3 6 rfl) rfl
theorem q584 : (Jvm.Cond.superclass "LinesPromised$Reader" "java/lang/Object") ∈ lw_all := lw_g (lw_at lw_m3 7 rfl) rfl
theorem q607 : (Jvm.Cond.fieldLinkNest "LinesPromised$Reader" (31 : Nat) "LinesPromised" "tape" "[B" "LinesPromised") ∈ lw_tbl := lw_at lw_m3 30 rfl
theorem q610 : (Jvm.Cond.fieldLinkNest "LinesPromised$Reader" (28 : Nat) "LinesPromised" "taped" "I" "LinesPromised") ∈ lw_tbl := lw_at lw_m3 33 rfl
theorem q1406 : (Jvm.Cond.selects "LinesPromised$Reader" ({ cls := "java/lang/Object", name := "equals", desc := "(Ljava/lang/Object;)Z" } : Jvm.MethodName) ({ cls := "java/lang/Object", name := "equals", desc := "(Ljava/lang/Object;)Z" } : Jvm.MethodName)) ∈ lw_all := lw_g (lw_at lw_m6 109 rfl) rfl
theorem q2431 : (Jvm.Cond.castable "LinesPromised$Reader" "java/lang/Object") ∈ lw_tbl := lw_at lw_m10 174 rfl
theorem q119 : (Jvm.Cond.initialized "LinesPromised$Both") ∈ lw_all := lw_g (lw_at lw_m1 22 rfl) rfl
theorem q233 : (Jvm.Cond.selects "LinesPromised$Both" ({ cls := "java/lang/Object", name := "getClass", desc := "()Ljava/lang/Class;" } : Jvm.MethodName) ({ cls := "java/lang/Object", name := "getClass", desc := "()Ljava/lang/Class;" } : Jvm.MethodName)) ∈ lw_all := lw_g (lw_at lw_m1 136 rfl) rfl
theorem q481 : (Jvm.Cond.instantiable "LinesPromised$Both" (2 : Nat)) ∈ lw_all := lw_g (lw_at lw_m2 144 rfl) rfl
theorem q483 : (Jvm.Cond.instanceMethod ({ cls := "LinesPromised$Both", name := "<init>", desc := "(LLinesPromised$Test;LLinesPromised$Test;)V" } : Jvm.MethodName)) ∈ lw_all := lw_g (lw_at lw_m2 146 rfl) rfl
theorem q484 : (Jvm.Cond.code ({ cls := "LinesPromised$Both", name := "<init>", desc := "(LLinesPromised$Test;LLinesPromised$Test;)V" } : Jvm.MethodName) prog_3_method_1_code (3 : Nat) (Option.none : Option Jvm.ClassFile.FieldType)) ∈ lw_all := lw_g (lw_at lw_m2 147 rfl) rfl
theorem q485 : (Jvm.Cond.methodLinkNest "LinesPromised$Both" (1 : Nat) ({ cls := "LinesPromised$Test", name := "<init>", desc := "()V" } : Jvm.MethodName) "LinesPromised") ∈ lw_tbl := lw_at lw_m2 148 rfl
theorem q486 : (Jvm.Cond.fieldLink "LinesPromised$Both" (7 : Nat) "LinesPromised$Both" "first" "LLinesPromised$Test;") ∈ lw_all := lw_g (lw_at lw_m2 149 rfl) rfl
theorem q489 : (Jvm.Cond.fieldLink "LinesPromised$Both" (13 : Nat) "LinesPromised$Both" "second" "LLinesPromised$Test;") ∈ lw_all := lw_g (lw_at lw_m2 152 rfl) rfl
theorem q492 : (Jvm.Cond.laysFinal "LinesPromised$Both" "LinesPromised$Both" "first" "LLinesPromised$Test;") ∈ lw_all := lw_g (lw_at lw_m2 155 rfl) rfl
theorem q493 : (Jvm.Cond.soleField "LinesPromised$Both" "first") ∈ lw_all := lw_g (lw_at lw_m2 156 rfl) rfl
theorem q494 : (Jvm.Cond.laysFinal "LinesPromised$Both" "LinesPromised$Both" "second" "LLinesPromised$Test;") ∈ lw_all := lw_g (lw_at lw_m2 157 rfl) rfl
theorem q495 : (Jvm.Cond.soleField "LinesPromised$Both" "second") ∈ lw_all := lw_g (lw_at lw_m2 158 rfl) rfl
theorem q496 : (Jvm.Cond.superclass "LinesPromised$Both" "LinesPromised$Test") ∈ lw_all := lw_g (lw_at lw_m2 159 rfl) rfl
theorem q1079 : (Jvm.Cond.selects "LinesPromised$Both" ({ cls := "LinesPromised$Test", name := "holds", desc := "([I)Z" } : Jvm.MethodName) ({ cls := "LinesPromised$Both", name := "holds", desc := "([I)Z" } : Jvm.MethodName)) ∈ lw_all := lw_g (lw_at lw_m5 22 rfl) rfl
theorem q1080 : (Jvm.Cond.instanceMethod ({ cls := "LinesPromised$Both", name := "holds", desc := "([I)Z" } : Jvm.MethodName)) ∈ lw_all := lw_g (lw_at lw_m5 23 rfl) rfl
theorem q1081 : (Jvm.Cond.code ({ cls := "LinesPromised$Both", name := "holds", desc := "([I)Z" } : Jvm.MethodName) prog_3_method_2_code (2 : Nat) (Option.some Jvm.ClassFile.FieldType.boolean)) ∈ lw_all := lw_g (lw_at lw_m5 24 rfl) rfl
theorem q1082 : (Jvm.Cond.methodLink "LinesPromised$Both" (16 : Nat) ({ cls := "LinesPromised$Test", name := "holds", desc := "([I)Z" } : Jvm.MethodName)) ∈ lw_all := lw_g (lw_at lw_m5 25 rfl) rfl
theorem q1392 : (Jvm.Cond.selects "LinesPromised$Both" ({ cls := "java/lang/Object", name := "equals", desc := "(Ljava/lang/Object;)Z" } : Jvm.MethodName) ({ cls := "java/lang/Object", name := "equals", desc := "(Ljava/lang/Object;)Z" } : Jvm.MethodName)) ∈ lw_all := lw_g (lw_at lw_m6 95 rfl) rfl
theorem q2416 : (Jvm.Cond.sameMethod "LinesPromised$Both" "LinesPromised$Both" "holds" "([I)Z") ∈ lw_all := lw_g (lw_at lw_m10 159 rfl) rfl
theorem q2439 : (Jvm.Cond.castable "LinesPromised$Both" "java/lang/Object") ∈ lw_tbl := lw_at lw_m10 182 rfl
theorem q120 : (Jvm.Cond.initialized "LinesPromised$Either") ∈ lw_all := lw_g (lw_at lw_m1 23 rfl) rfl
theorem q238 : (Jvm.Cond.selects "LinesPromised$Either" ({ cls := "java/lang/Object", name := "getClass", desc := "()Ljava/lang/Class;" } : Jvm.MethodName) ({ cls := "java/lang/Object", name := "getClass", desc := "()Ljava/lang/Class;" } : Jvm.MethodName)) ∈ lw_all := lw_g (lw_at lw_m1 141 rfl) rfl
theorem q487 : (Jvm.Cond.fieldLink "LinesPromised$Either" (11 : Nat) "LinesPromised$Either" "first" "LLinesPromised$Test;") ∈ lw_all := lw_g (lw_at lw_m2 150 rfl) rfl
theorem q488 : (Jvm.Cond.sameField "LinesPromised$Either" "LinesPromised$Both" "first" "LLinesPromised$Test;") ∈ lw_all := lw_g (lw_at lw_m2 151 rfl) rfl
theorem q490 : (Jvm.Cond.fieldLink "LinesPromised$Either" (20 : Nat) "LinesPromised$Either" "second" "LLinesPromised$Test;") ∈ lw_all := lw_g (lw_at lw_m2 153 rfl) rfl
theorem q491 : (Jvm.Cond.sameField "LinesPromised$Either" "LinesPromised$Both" "second" "LLinesPromised$Test;") ∈ lw_all := lw_g (lw_at lw_m2 154 rfl) rfl
theorem q498 : (Jvm.Cond.instantiable "LinesPromised$Either" (2 : Nat)) ∈ lw_all := lw_g (lw_at lw_m2 161 rfl) rfl
theorem q500 : (Jvm.Cond.instanceMethod ({ cls := "LinesPromised$Either", name := "<init>", desc := "(LLinesPromised$Test;LLinesPromised$Test;)V" } : Jvm.MethodName)) ∈ lw_all := lw_g (lw_at lw_m2 163 rfl) rfl
theorem q501 : (Jvm.Cond.code ({ cls := "LinesPromised$Either", name := "<init>", desc := "(LLinesPromised$Test;LLinesPromised$Test;)V" } : Jvm.MethodName) prog_8_method_1_code (3 : Nat) (Option.none : Option Jvm.ClassFile.FieldType)) ∈ lw_all := lw_g (lw_at lw_m2 164 rfl) rfl
theorem q502 : (Jvm.Cond.methodLink "LinesPromised$Either" (1 : Nat) ({ cls := "LinesPromised$Both", name := "<init>", desc := "(LLinesPromised$Test;LLinesPromised$Test;)V" } : Jvm.MethodName)) ∈ lw_all := lw_g (lw_at lw_m2 165 rfl) rfl
theorem q503 : (Jvm.Cond.laysFinal "LinesPromised$Either" "LinesPromised$Both" "first" "LLinesPromised$Test;") ∈ lw_all := lw_g (lw_at lw_m2 166 rfl) rfl
theorem q504 : (Jvm.Cond.laysFinal "LinesPromised$Either" "LinesPromised$Both" "second" "LLinesPromised$Test;") ∈ lw_all := lw_g (lw_at lw_m2 167 rfl) rfl
theorem q505 : (Jvm.Cond.superclass "LinesPromised$Either" "LinesPromised$Both") ∈ lw_all := lw_g (lw_at lw_m2 168 rfl) rfl
theorem q1083 : (Jvm.Cond.instanceMethod ({ cls := "LinesPromised$Either", name := "holds", desc := "([I)Z" } : Jvm.MethodName)) ∈ lw_all := lw_g (lw_at lw_m5 26 rfl) rfl
theorem q1084 : (Jvm.Cond.code ({ cls := "LinesPromised$Either", name := "holds", desc := "([I)Z" } : Jvm.MethodName) prog_8_method_2_code (2 : Nat) (Option.some Jvm.ClassFile.FieldType.boolean)) ∈ lw_all := lw_g (lw_at lw_m5 27 rfl) rfl
theorem q1085 : (Jvm.Cond.methodLink "LinesPromised$Either" (7 : Nat) ({ cls := "LinesPromised$Both", name := "holds", desc := "([I)Z" } : Jvm.MethodName)) ∈ lw_all := lw_g (lw_at lw_m5 28 rfl) rfl
theorem q1086 : (Jvm.Cond.methodLink "LinesPromised$Either" (17 : Nat) ({ cls := "LinesPromised$Test", name := "holds", desc := "([I)Z" } : Jvm.MethodName)) ∈ lw_all := lw_g (lw_at lw_m5 29 rfl) rfl
theorem q1092 : (Jvm.Cond.selects "LinesPromised$Either" ({ cls := "LinesPromised$Test", name := "holds", desc := "([I)Z" } : Jvm.MethodName) ({ cls := "LinesPromised$Either", name := "holds", desc := "([I)Z" } : Jvm.MethodName)) ∈ lw_all := lw_g (lw_at lw_m5 35 rfl) rfl
theorem q1397 : (Jvm.Cond.selects "LinesPromised$Either" ({ cls := "java/lang/Object", name := "equals", desc := "(Ljava/lang/Object;)Z" } : Jvm.MethodName) ({ cls := "java/lang/Object", name := "equals", desc := "(Ljava/lang/Object;)Z" } : Jvm.MethodName)) ∈ lw_all := lw_g (lw_at lw_m6 100 rfl) rfl
theorem q2440 : (Jvm.Cond.castable "LinesPromised$Either" "java/lang/Object") ∈ lw_tbl := lw_at lw_m10 183 rfl
theorem q124 : (Jvm.Cond.initialized "LinesPromised$Paper") ∈ lw_all := lw_g (lw_at lw_m1 27 rfl) rfl
theorem q715 : (Jvm.Cond.instanceMethod ({ cls := "LinesPromised$Paper", name := "<init>", desc := "(II)V" } : Jvm.MethodName)) ∈ lw_all := lw_g (lw_at lw_m3 138 rfl) rfl
theorem q716 : (Jvm.Cond.code ({ cls := "LinesPromised$Paper", name := "<init>", desc := "(II)V" } : Jvm.MethodName) prog_16_method_1_code (3 : Nat) (Option.none : Option Jvm.ClassFile.FieldType)) ∈ lw_all := lw_g (lw_at lw_m3 139 rfl) rfl
theorem q717 : (Jvm.Cond.methodLink "LinesPromised$Paper" (3 : Nat) ({ cls := "java/lang/Object", name := "<init>", desc := "()V" } : Jvm.MethodName)) ∈ lw_all := lw_g (lw_at lw_m3 140 rfl) rfl
theorem q757 : (Jvm.Cond.fieldLink "LinesPromised$Paper" (9 : Nat) "LinesPromised$Paper" "number" "I") ∈ lw_all := lw_g (lw_at lw_m3 180 rfl) rfl
theorem q766 : (Jvm.Cond.fieldLink "LinesPromised$Paper" (15 : Nat) "LinesPromised$Paper" "day" "I") ∈ lw_all := lw_g (lw_at lw_m3 189 rfl) rfl
theorem q789 : (Jvm.Cond.soleField "LinesPromised$Paper" "number") ∈ lw_all := lw_g (lw_at lw_m3 212 rfl) rfl
theorem q791 : (Jvm.Cond.soleField "LinesPromised$Paper" "day") ∈ lw_all := lw_g (lw_at lw_m3 214 rfl) rfl
theorem q1112 : (Jvm.Cond.instanceMethod ({ cls := "LinesPromised$Paper", name := "isUnder", desc := "(I)Z" } : Jvm.MethodName)) ∈ lw_all := lw_g (lw_at lw_m5 55 rfl) rfl
theorem q1113 : (Jvm.Cond.sameMethod "LinesPromised$Paper" "LinesPromised$Paper" "isUnder" "(I)Z") ∈ lw_all := lw_g (lw_at lw_m5 56 rfl) rfl
theorem q1127 : (Jvm.Cond.code ({ cls := "LinesPromised$Paper", name := "isUnder", desc := "(I)Z" } : Jvm.MethodName) prog_16_method_3_code (2 : Nat) (Option.some Jvm.ClassFile.FieldType.boolean)) ∈ lw_all := lw_g (lw_at lw_m5 70 rfl) rfl
theorem q1128 : (Jvm.Cond.methodLink "LinesPromised$Paper" (18 : Nat) ({ cls := "LinesPromised$Paper", name := "kind", desc := "()I" } : Jvm.MethodName)) ∈ lw_all := lw_g (lw_at lw_m5 71 rfl) rfl
theorem q1129 : (Jvm.Cond.declares ({ cls := "LinesPromised$Paper", name := "kind", desc := "()I" } : Jvm.MethodName)) ∈ lw_tbl := lw_at lw_m5 72 rfl
theorem q1130 : (Jvm.Cond.sameMethod "LinesPromised$Paper" "LinesPromised$Paper" "kind" "()I") ∈ lw_all := lw_g (lw_at lw_m5 73 rfl) rfl
theorem q1146 : (Jvm.Cond.instanceMethod ({ cls := "LinesPromised$Paper", name := "worth", desc := "()I" } : Jvm.MethodName)) ∈ lw_all := lw_g (lw_at lw_m5 89 rfl) rfl
theorem q1147 : (Jvm.Cond.sameMethod "LinesPromised$Paper" "LinesPromised$Paper" "worth" "()I") ∈ lw_all := lw_g (lw_at lw_m5 90 rfl) rfl
theorem q1175 : (Jvm.Cond.code ({ cls := "LinesPromised$Paper", name := "worth", desc := "()I" } : Jvm.MethodName) prog_16_method_4_code (1 : Nat) (Option.some Jvm.ClassFile.FieldType.int)) ∈ lw_all := lw_g (lw_at lw_m5 118 rfl) rfl
theorem q1182 : (Jvm.Cond.instanceMethod ({ cls := "LinesPromised$Paper", name := "of", desc := "()I" } : Jvm.MethodName)) ∈ lw_all := lw_g (lw_at lw_m5 125 rfl) rfl
theorem q1183 : (Jvm.Cond.sameMethod "LinesPromised$Paper" "LinesPromised$Paper" "of" "()I") ∈ lw_all := lw_g (lw_at lw_m5 126 rfl) rfl
theorem q1196 : (Jvm.Cond.code ({ cls := "LinesPromised$Paper", name := "of", desc := "()I" } : Jvm.MethodName) prog_16_method_5_code (1 : Nat) (Option.some Jvm.ClassFile.FieldType.int)) ∈ lw_all := lw_g (lw_at lw_m5 139 rfl) rfl
theorem q1198 : (Jvm.Cond.instanceMethod ({ cls := "LinesPromised$Paper", name := "first", desc := "()I" } : Jvm.MethodName)) ∈ lw_all := lw_g (lw_at lw_m5 141 rfl) rfl
theorem q1199 : (Jvm.Cond.sameMethod "LinesPromised$Paper" "LinesPromised$Paper" "first" "()I") ∈ lw_all := lw_g (lw_at lw_m5 142 rfl) rfl
theorem q1212 : (Jvm.Cond.code ({ cls := "LinesPromised$Paper", name := "first", desc := "()I" } : Jvm.MethodName) prog_16_method_6_code (1 : Nat) (Option.some Jvm.ClassFile.FieldType.int)) ∈ lw_all := lw_g (lw_at lw_m5 155 rfl) rfl
theorem q1214 : (Jvm.Cond.instanceMethod ({ cls := "LinesPromised$Paper", name := "second", desc := "()I" } : Jvm.MethodName)) ∈ lw_all := lw_g (lw_at lw_m5 157 rfl) rfl
theorem q1215 : (Jvm.Cond.sameMethod "LinesPromised$Paper" "LinesPromised$Paper" "second" "()I") ∈ lw_all := lw_g (lw_at lw_m5 158 rfl) rfl
theorem q1224 : (Jvm.Cond.code ({ cls := "LinesPromised$Paper", name := "second", desc := "()I" } : Jvm.MethodName) prog_16_method_7_code (1 : Nat) (Option.some Jvm.ClassFile.FieldType.int)) ∈ lw_all := lw_g (lw_at lw_m5 167 rfl) rfl
theorem q1226 : (Jvm.Cond.instanceMethod ({ cls := "LinesPromised$Paper", name := "gauge", desc := "()I" } : Jvm.MethodName)) ∈ lw_all := lw_g (lw_at lw_m5 169 rfl) rfl
theorem q1227 : (Jvm.Cond.sameMethod "LinesPromised$Paper" "LinesPromised$Paper" "gauge" "()I") ∈ lw_all := lw_g (lw_at lw_m5 170 rfl) rfl
theorem q1236 : (Jvm.Cond.code ({ cls := "LinesPromised$Paper", name := "gauge", desc := "()I" } : Jvm.MethodName) prog_16_method_8_code (1 : Nat) (Option.some Jvm.ClassFile.FieldType.int)) ∈ lw_all := lw_g (lw_at lw_m5 179 rfl) rfl
theorem q1238 : (Jvm.Cond.instanceMethod ({ cls := "LinesPromised$Paper", name := "size", desc := "()I" } : Jvm.MethodName)) ∈ lw_all := lw_g (lw_at lw_m5 181 rfl) rfl
theorem q1239 : (Jvm.Cond.sameMethod "LinesPromised$Paper" "LinesPromised$Paper" "size" "()I") ∈ lw_all := lw_g (lw_at lw_m5 182 rfl) rfl
theorem q1254 : (Jvm.Cond.code ({ cls := "LinesPromised$Paper", name := "size", desc := "()I" } : Jvm.MethodName) prog_16_method_9_code (1 : Nat) (Option.some Jvm.ClassFile.FieldType.int)) ∈ lw_all := lw_g (lw_at lw_m5 197 rfl) rfl
theorem q1256 : (Jvm.Cond.instanceMethod ({ cls := "LinesPromised$Paper", name := "isDone", desc := "()Z" } : Jvm.MethodName)) ∈ lw_all := lw_g (lw_at lw_m5 199 rfl) rfl
theorem q1257 : (Jvm.Cond.sameMethod "LinesPromised$Paper" "LinesPromised$Paper" "isDone" "()Z") ∈ lw_all := lw_g (lw_at lw_m5 200 rfl) rfl
theorem q1270 : (Jvm.Cond.code ({ cls := "LinesPromised$Paper", name := "isDone", desc := "()Z" } : Jvm.MethodName) prog_16_method_10_code (1 : Nat) (Option.some Jvm.ClassFile.FieldType.boolean)) ∈ lw_all := lw_g (lw_at lw_m5 213 rfl) rfl
theorem q125 : (Jvm.Cond.initialized "LinesPromised$Scheme") ∈ lw_all := lw_g (lw_at lw_m1 28 rfl) rfl
theorem q183 : (Jvm.Cond.fieldLinkNest "LinesPromised$Scheme" (42 : Nat) "LinesPromised$Town" "number" "I" "LinesPromised") ∈ lw_tbl := lw_at lw_m1 86 rfl
theorem q248 : (Jvm.Cond.selects "LinesPromised$Scheme" ({ cls := "java/lang/Object", name := "getClass", desc := "()Ljava/lang/Class;" } : Jvm.MethodName) ({ cls := "java/lang/Object", name := "getClass", desc := "()Ljava/lang/Class;" } : Jvm.MethodName)) ∈ lw_all := lw_g (lw_at lw_m1 151 rfl) rfl
theorem q710 : (Jvm.Cond.instantiable "LinesPromised$Scheme" (12 : Nat)) ∈ lw_all := lw_g (lw_at lw_m3 133 rfl) rfl
theorem q712 : (Jvm.Cond.instanceMethod ({ cls := "LinesPromised$Scheme", name := "<init>", desc := "(IIILLinesPromised$Town;LLinesPromised$Town;II)V" } : Jvm.MethodName)) ∈ lw_all := lw_g (lw_at lw_m3 135 rfl) rfl
theorem q713 : (Jvm.Cond.code ({ cls := "LinesPromised$Scheme", name := "<init>", desc := "(IIILLinesPromised$Town;LLinesPromised$Town;II)V" } : Jvm.MethodName) prog_20_method_1_code (8 : Nat) (Option.none : Option Jvm.ClassFile.FieldType)) ∈ lw_all := lw_g (lw_at lw_m3 136 rfl) rfl
theorem q714 : (Jvm.Cond.methodLink "LinesPromised$Scheme" (3 : Nat) ({ cls := "LinesPromised$Paper", name := "<init>", desc := "(II)V" } : Jvm.MethodName)) ∈ lw_all := lw_g (lw_at lw_m3 137 rfl) rfl
theorem q719 : (Jvm.Cond.fieldLink "LinesPromised$Scheme" (25 : Nat) "LinesPromised$Scheme" "from" "LLinesPromised$Town;") ∈ lw_all := lw_g (lw_at lw_m3 142 rfl) rfl
theorem q725 : (Jvm.Cond.fieldLink "LinesPromised$Scheme" (29 : Nat) "LinesPromised$Scheme" "to" "LLinesPromised$Town;") ∈ lw_all := lw_g (lw_at lw_m3 148 rfl) rfl
theorem q731 : (Jvm.Cond.fieldLink "LinesPromised$Scheme" (32 : Nat) "LinesPromised$Scheme" "gauge" "I") ∈ lw_all := lw_g (lw_at lw_m3 154 rfl) rfl
theorem q737 : (Jvm.Cond.fieldLink "LinesPromised$Scheme" (35 : Nat) "LinesPromised$Scheme" "shares" "I") ∈ lw_all := lw_g (lw_at lw_m3 160 rfl) rfl
theorem q738 : (Jvm.Cond.fieldLink "LinesPromised$Scheme" (22 : Nat) "LinesPromised$Scheme" "place" "I") ∈ lw_all := lw_g (lw_at lw_m3 161 rfl) rfl
theorem q745 : (Jvm.Cond.fieldLink "LinesPromised$Scheme" (47 : Nat) "LinesPromised$Scheme" "fallen" "Z") ∈ lw_all := lw_g (lw_at lw_m3 168 rfl) rfl
theorem q747 : (Jvm.Cond.fieldLink "LinesPromised$Scheme" (9 : Nat) "LinesPromised$Scheme" "price" "I") ∈ lw_all := lw_g (lw_at lw_m3 170 rfl) rfl
theorem q750 : (Jvm.Cond.fieldLink "LinesPromised$Scheme" (15 : Nat) "LinesPromised$Scheme" "calledOn" "I") ∈ lw_all := lw_g (lw_at lw_m3 173 rfl) rfl
theorem q753 : (Jvm.Cond.fieldLink "LinesPromised$Scheme" (18 : Nat) "LinesPromised$Scheme" "held" "[I") ∈ lw_all := lw_g (lw_at lw_m3 176 rfl) rfl
theorem q761 : (Jvm.Cond.sameField "LinesPromised$Scheme" "LinesPromised$Paper" "number" "I") ∈ lw_all := lw_g (lw_at lw_m3 184 rfl) rfl
theorem q768 : (Jvm.Cond.laysFinal "LinesPromised$Scheme" "LinesPromised$Scheme" "from" "LLinesPromised$Town;") ∈ lw_all := lw_g (lw_at lw_m3 191 rfl) rfl
theorem q769 : (Jvm.Cond.soleField "LinesPromised$Scheme" "from") ∈ lw_all := lw_g (lw_at lw_m3 192 rfl) rfl
theorem q770 : (Jvm.Cond.laysFinal "LinesPromised$Scheme" "LinesPromised$Scheme" "to" "LLinesPromised$Town;") ∈ lw_all := lw_g (lw_at lw_m3 193 rfl) rfl
theorem q771 : (Jvm.Cond.soleField "LinesPromised$Scheme" "to") ∈ lw_all := lw_g (lw_at lw_m3 194 rfl) rfl
theorem q772 : (Jvm.Cond.laysFinal "LinesPromised$Scheme" "LinesPromised$Scheme" "gauge" "I") ∈ lw_all := lw_g (lw_at lw_m3 195 rfl) rfl
theorem q773 : (Jvm.Cond.soleField "LinesPromised$Scheme" "gauge") ∈ lw_all := lw_g (lw_at lw_m3 196 rfl) rfl
theorem q774 : (Jvm.Cond.laysFinal "LinesPromised$Scheme" "LinesPromised$Scheme" "shares" "I") ∈ lw_all := lw_g (lw_at lw_m3 197 rfl) rfl
theorem q775 : (Jvm.Cond.soleField "LinesPromised$Scheme" "shares") ∈ lw_all := lw_g (lw_at lw_m3 198 rfl) rfl
theorem q776 : (Jvm.Cond.laysFinal "LinesPromised$Scheme" "LinesPromised$Scheme" "place" "I") ∈ lw_all := lw_g (lw_at lw_m3 199 rfl) rfl
theorem q777 : (Jvm.Cond.soleField "LinesPromised$Scheme" "place") ∈ lw_all := lw_g (lw_at lw_m3 200 rfl) rfl
theorem q778 : (Jvm.Cond.lays "LinesPromised$Scheme" "LinesPromised$Scheme" "coins" "J") ∈ lw_all := lw_g (lw_at lw_m3 201 rfl) rfl
theorem q779 : (Jvm.Cond.soleField "LinesPromised$Scheme" "coins") ∈ lw_all := lw_g (lw_at lw_m3 202 rfl) rfl
theorem q780 : (Jvm.Cond.lays "LinesPromised$Scheme" "LinesPromised$Scheme" "fallen" "Z") ∈ lw_all := lw_g (lw_at lw_m3 203 rfl) rfl
theorem q781 : (Jvm.Cond.soleField "LinesPromised$Scheme" "fallen") ∈ lw_all := lw_g (lw_at lw_m3 204 rfl) rfl
theorem q782 : (Jvm.Cond.lays "LinesPromised$Scheme" "LinesPromised$Scheme" "price" "I") ∈ lw_all := lw_g (lw_at lw_m3 205 rfl) rfl
theorem q783 : (Jvm.Cond.soleField "LinesPromised$Scheme" "price") ∈ lw_all := lw_g (lw_at lw_m3 206 rfl) rfl
theorem q784 : (Jvm.Cond.lays "LinesPromised$Scheme" "LinesPromised$Scheme" "calledOn" "I") ∈ lw_all := lw_g (lw_at lw_m3 207 rfl) rfl
theorem q785 : (Jvm.Cond.soleField "LinesPromised$Scheme" "calledOn") ∈ lw_all := lw_g (lw_at lw_m3 208 rfl) rfl
theorem q786 : (Jvm.Cond.lays "LinesPromised$Scheme" "LinesPromised$Scheme" "held" "[I") ∈ lw_all := lw_g (lw_at lw_m3 209 rfl) rfl
theorem q787 : (Jvm.Cond.soleField "LinesPromised$Scheme" "held") ∈ lw_all := lw_g (lw_at lw_m3 210 rfl) rfl
theorem q788 : (Jvm.Cond.laysFinal "LinesPromised$Scheme" "LinesPromised$Paper" "number" "I") ∈ lw_all := lw_g (lw_at lw_m3 211 rfl) rfl
theorem q790 : (Jvm.Cond.laysFinal "LinesPromised$Scheme" "LinesPromised$Paper" "day" "I") ∈ lw_all := lw_g (lw_at lw_m3 213 rfl) rfl
theorem q792 : (Jvm.Cond.superclass "LinesPromised$Scheme" "LinesPromised$Paper") ∈ lw_all := lw_g (lw_at lw_m3 215 rfl) rfl
theorem q812 : (Jvm.Cond.instanceMethod ({ cls := "LinesPromised$Scheme", name := "kind", desc := "()I" } : Jvm.MethodName)) ∈ lw_all := lw_g (lw_at lw_m3 235 rfl) rfl
theorem q813 : (Jvm.Cond.selects "LinesPromised$Scheme" ({ cls := "LinesPromised$Scheme", name := "kind", desc := "()I" } : Jvm.MethodName) ({ cls := "LinesPromised$Scheme", name := "kind", desc := "()I" } : Jvm.MethodName)) ∈ lw_all := lw_g (lw_at lw_m3 236 rfl) rfl
theorem q814 : (Jvm.Cond.sameMethod "LinesPromised$Scheme" "LinesPromised$Scheme" "kind" "()I") ∈ lw_all := lw_g (lw_at lw_m3 237 rfl) rfl
theorem q821 : (Jvm.Cond.code ({ cls := "LinesPromised$Scheme", name := "kind", desc := "()I" } : Jvm.MethodName) prog_20_method_2_code (1 : Nat) (Option.some Jvm.ClassFile.FieldType.int)) ∈ lw_all := lw_g (lw_at lw_m4 4 rfl) rfl
theorem q1115 : (Jvm.Cond.instanceMethod ({ cls := "LinesPromised$Scheme", name := "isUnder", desc := "(I)Z" } : Jvm.MethodName)) ∈ lw_all := lw_g (lw_at lw_m5 58 rfl) rfl
theorem q1116 : (Jvm.Cond.code ({ cls := "LinesPromised$Scheme", name := "isUnder", desc := "(I)Z" } : Jvm.MethodName) prog_20_method_3_code (2 : Nat) (Option.some Jvm.ClassFile.FieldType.boolean)) ∈ lw_all := lw_g (lw_at lw_m5 59 rfl) rfl
theorem q1117 : (Jvm.Cond.methodLink "LinesPromised$Scheme" (38 : Nat) ({ cls := "LinesPromised$Paper", name := "isUnder", desc := "(I)Z" } : Jvm.MethodName)) ∈ lw_all := lw_g (lw_at lw_m5 60 rfl) rfl
theorem q1126 : (Jvm.Cond.selects "LinesPromised$Scheme" ({ cls := "LinesPromised$Paper", name := "isUnder", desc := "(I)Z" } : Jvm.MethodName) ({ cls := "LinesPromised$Scheme", name := "isUnder", desc := "(I)Z" } : Jvm.MethodName)) ∈ lw_all := lw_g (lw_at lw_m5 69 rfl) rfl
theorem q1144 : (Jvm.Cond.selects "LinesPromised$Scheme" ({ cls := "LinesPromised$Paper", name := "kind", desc := "()I" } : Jvm.MethodName) ({ cls := "LinesPromised$Scheme", name := "kind", desc := "()I" } : Jvm.MethodName)) ∈ lw_all := lw_g (lw_at lw_m5 87 rfl) rfl
theorem q1157 : (Jvm.Cond.declares ({ cls := "LinesPromised$Scheme", name := "worth", desc := "()I" } : Jvm.MethodName)) ∈ lw_tbl := lw_at lw_m5 100 rfl
theorem q1159 : (Jvm.Cond.instanceMethod ({ cls := "LinesPromised$Scheme", name := "worth", desc := "()I" } : Jvm.MethodName)) ∈ lw_all := lw_g (lw_at lw_m5 102 rfl) rfl
theorem q1160 : (Jvm.Cond.code ({ cls := "LinesPromised$Scheme", name := "worth", desc := "()I" } : Jvm.MethodName) prog_20_method_4_code (1 : Nat) (Option.some Jvm.ClassFile.FieldType.int)) ∈ lw_all := lw_g (lw_at lw_m5 103 rfl) rfl
theorem q1174 : (Jvm.Cond.selects "LinesPromised$Scheme" ({ cls := "LinesPromised$Paper", name := "worth", desc := "()I" } : Jvm.MethodName) ({ cls := "LinesPromised$Scheme", name := "worth", desc := "()I" } : Jvm.MethodName)) ∈ lw_all := lw_g (lw_at lw_m5 117 rfl) rfl
theorem q1195 : (Jvm.Cond.selects "LinesPromised$Scheme" ({ cls := "LinesPromised$Paper", name := "of", desc := "()I" } : Jvm.MethodName) ({ cls := "LinesPromised$Paper", name := "of", desc := "()I" } : Jvm.MethodName)) ∈ lw_all := lw_g (lw_at lw_m5 138 rfl) rfl
theorem q1201 : (Jvm.Cond.instanceMethod ({ cls := "LinesPromised$Scheme", name := "first", desc := "()I" } : Jvm.MethodName)) ∈ lw_all := lw_g (lw_at lw_m5 144 rfl) rfl
theorem q1202 : (Jvm.Cond.code ({ cls := "LinesPromised$Scheme", name := "first", desc := "()I" } : Jvm.MethodName) prog_20_method_5_code (1 : Nat) (Option.some Jvm.ClassFile.FieldType.int)) ∈ lw_all := lw_g (lw_at lw_m5 145 rfl) rfl
theorem q1211 : (Jvm.Cond.selects "LinesPromised$Scheme" ({ cls := "LinesPromised$Paper", name := "first", desc := "()I" } : Jvm.MethodName) ({ cls := "LinesPromised$Scheme", name := "first", desc := "()I" } : Jvm.MethodName)) ∈ lw_all := lw_g (lw_at lw_m5 154 rfl) rfl
theorem q1217 : (Jvm.Cond.instanceMethod ({ cls := "LinesPromised$Scheme", name := "second", desc := "()I" } : Jvm.MethodName)) ∈ lw_all := lw_g (lw_at lw_m5 160 rfl) rfl
theorem q1218 : (Jvm.Cond.code ({ cls := "LinesPromised$Scheme", name := "second", desc := "()I" } : Jvm.MethodName) prog_20_method_6_code (1 : Nat) (Option.some Jvm.ClassFile.FieldType.int)) ∈ lw_all := lw_g (lw_at lw_m5 161 rfl) rfl
theorem q1223 : (Jvm.Cond.selects "LinesPromised$Scheme" ({ cls := "LinesPromised$Paper", name := "second", desc := "()I" } : Jvm.MethodName) ({ cls := "LinesPromised$Scheme", name := "second", desc := "()I" } : Jvm.MethodName)) ∈ lw_all := lw_g (lw_at lw_m5 166 rfl) rfl
theorem q1229 : (Jvm.Cond.instanceMethod ({ cls := "LinesPromised$Scheme", name := "gauge", desc := "()I" } : Jvm.MethodName)) ∈ lw_all := lw_g (lw_at lw_m5 172 rfl) rfl
theorem q1230 : (Jvm.Cond.code ({ cls := "LinesPromised$Scheme", name := "gauge", desc := "()I" } : Jvm.MethodName) prog_20_method_7_code (1 : Nat) (Option.some Jvm.ClassFile.FieldType.int)) ∈ lw_all := lw_g (lw_at lw_m5 173 rfl) rfl
theorem q1235 : (Jvm.Cond.selects "LinesPromised$Scheme" ({ cls := "LinesPromised$Paper", name := "gauge", desc := "()I" } : Jvm.MethodName) ({ cls := "LinesPromised$Scheme", name := "gauge", desc := "()I" } : Jvm.MethodName)) ∈ lw_all := lw_g (lw_at lw_m5 178 rfl) rfl
theorem q1251 : (Jvm.Cond.selects "LinesPromised$Scheme" ({ cls := "LinesPromised$Paper", name := "size", desc := "()I" } : Jvm.MethodName) ({ cls := "LinesPromised$Scheme", name := "size", desc := "()I" } : Jvm.MethodName)) ∈ lw_all := lw_g (lw_at lw_m5 194 rfl) rfl
theorem q1252 : (Jvm.Cond.instanceMethod ({ cls := "LinesPromised$Scheme", name := "size", desc := "()I" } : Jvm.MethodName)) ∈ lw_all := lw_g (lw_at lw_m5 195 rfl) rfl
theorem q1253 : (Jvm.Cond.code ({ cls := "LinesPromised$Scheme", name := "size", desc := "()I" } : Jvm.MethodName) prog_20_method_8_code (1 : Nat) (Option.some Jvm.ClassFile.FieldType.int)) ∈ lw_all := lw_g (lw_at lw_m5 196 rfl) rfl
theorem q1267 : (Jvm.Cond.instanceMethod ({ cls := "LinesPromised$Scheme", name := "isDone", desc := "()Z" } : Jvm.MethodName)) ∈ lw_all := lw_g (lw_at lw_m5 210 rfl) rfl
theorem q1268 : (Jvm.Cond.code ({ cls := "LinesPromised$Scheme", name := "isDone", desc := "()Z" } : Jvm.MethodName) prog_20_method_9_code (1 : Nat) (Option.some Jvm.ClassFile.FieldType.boolean)) ∈ lw_all := lw_g (lw_at lw_m5 211 rfl) rfl
theorem q1269 : (Jvm.Cond.selects "LinesPromised$Scheme" ({ cls := "LinesPromised$Paper", name := "isDone", desc := "()Z" } : Jvm.MethodName) ({ cls := "LinesPromised$Scheme", name := "isDone", desc := "()Z" } : Jvm.MethodName)) ∈ lw_all := lw_g (lw_at lw_m5 212 rfl) rfl
theorem q1316 : (Jvm.Cond.instanceMethod ({ cls := "LinesPromised$Scheme", name := "left", desc := "()I" } : Jvm.MethodName)) ∈ lw_all := lw_g (lw_at lw_m6 19 rfl) rfl
theorem q1317 : (Jvm.Cond.selects "LinesPromised$Scheme" ({ cls := "LinesPromised$Scheme", name := "left", desc := "()I" } : Jvm.MethodName) ({ cls := "LinesPromised$Scheme", name := "left", desc := "()I" } : Jvm.MethodName)) ∈ lw_all := lw_g (lw_at lw_m6 20 rfl) rfl
theorem q1318 : (Jvm.Cond.sameMethod "LinesPromised$Scheme" "LinesPromised$Scheme" "left" "()I") ∈ lw_all := lw_g (lw_at lw_m6 21 rfl) rfl
theorem q1321 : (Jvm.Cond.code ({ cls := "LinesPromised$Scheme", name := "left", desc := "()I" } : Jvm.MethodName) prog_20_method_10_code (6 : Nat) (Option.some Jvm.ClassFile.FieldType.int)) ∈ lw_all := lw_g (lw_at lw_m6 24 rfl) rfl
theorem q1407 : (Jvm.Cond.selects "LinesPromised$Scheme" ({ cls := "java/lang/Object", name := "equals", desc := "(Ljava/lang/Object;)Z" } : Jvm.MethodName) ({ cls := "java/lang/Object", name := "equals", desc := "(Ljava/lang/Object;)Z" } : Jvm.MethodName)) ∈ lw_all := lw_g (lw_at lw_m6 110 rfl) rfl
theorem q2424 : (Jvm.Cond.castable "LinesPromised$Scheme" "LinesPromised$Paper") ∈ lw_tbl := lw_at lw_m10 167 rfl
theorem q2441 : (Jvm.Cond.castable "LinesPromised$Scheme" "java/lang/Object") ∈ lw_tbl := lw_at lw_m10 184 rfl
theorem q126 : (Jvm.Cond.initialized "LinesPromised$Going") ∈ lw_all := lw_g (lw_at lw_m1 29 rfl) rfl
theorem q718 : (Jvm.Cond.fieldLink "LinesPromised$Going" (3 : Nat) "LinesPromised$Scheme" "from" "LLinesPromised$Town;") ∈ lw_all := lw_g (lw_at lw_m3 141 rfl) rfl
theorem q724 : (Jvm.Cond.fieldLink "LinesPromised$Going" (9 : Nat) "LinesPromised$Scheme" "to" "LLinesPromised$Town;") ∈ lw_all := lw_g (lw_at lw_m3 147 rfl) rfl
theorem q730 : (Jvm.Cond.fieldLink "LinesPromised$Going" (12 : Nat) "LinesPromised$Scheme" "gauge" "I") ∈ lw_all := lw_g (lw_at lw_m3 153 rfl) rfl
theorem q736 : (Jvm.Cond.fieldLink "LinesPromised$Going" (16 : Nat) "LinesPromised$Scheme" "shares" "I") ∈ lw_all := lw_g (lw_at lw_m3 159 rfl) rfl
theorem q832 : (Jvm.Cond.instanceMethod ({ cls := "LinesPromised$Going", name := "<init>", desc := "(IILLinesPromised$Scheme;)V" } : Jvm.MethodName)) ∈ lw_all := lw_g (lw_at lw_m4 15 rfl) rfl
theorem q833 : (Jvm.Cond.code ({ cls := "LinesPromised$Going", name := "<init>", desc := "(IILLinesPromised$Scheme;)V" } : Jvm.MethodName) prog_10_method_1_code (4 : Nat) (Option.none : Option Jvm.ClassFile.FieldType)) ∈ lw_all := lw_g (lw_at lw_m4 16 rfl) rfl
theorem q834 : (Jvm.Cond.methodLink "LinesPromised$Going" (19 : Nat) ({ cls := "LinesPromised$Scheme", name := "<init>", desc := "(IIILLinesPromised$Town;LLinesPromised$Town;II)V" } : Jvm.MethodName)) ∈ lw_all := lw_g (lw_at lw_m4 17 rfl) rfl
theorem q845 : (Jvm.Cond.fieldLink "LinesPromised$Going" (23 : Nat) "LinesPromised$Going" "scheme" "LLinesPromised$Scheme;") ∈ lw_all := lw_g (lw_at lw_m4 28 rfl) rfl
theorem q858 : (Jvm.Cond.soleField "LinesPromised$Going" "scheme") ∈ lw_all := lw_g (lw_at lw_m4 41 rfl) rfl
theorem q1156 : (Jvm.Cond.sameMethod "LinesPromised$Going" "LinesPromised$Scheme" "worth" "()I") ∈ lw_all := lw_g (lw_at lw_m5 99 rfl) rfl
theorem q1158 : (Jvm.Cond.superclass "LinesPromised$Going" "LinesPromised$Scheme") ∈ lw_all := lw_g (lw_at lw_m5 101 rfl) rfl
theorem q1241 : (Jvm.Cond.instanceMethod ({ cls := "LinesPromised$Going", name := "size", desc := "()I" } : Jvm.MethodName)) ∈ lw_all := lw_g (lw_at lw_m5 184 rfl) rfl
theorem q1242 : (Jvm.Cond.code ({ cls := "LinesPromised$Going", name := "size", desc := "()I" } : Jvm.MethodName) prog_10_method_2_code (1 : Nat) (Option.some Jvm.ClassFile.FieldType.int)) ∈ lw_all := lw_g (lw_at lw_m5 185 rfl) rfl
theorem q127 : (Jvm.Cond.initialized "LinesPromised$Plan") ∈ lw_all := lw_g (lw_at lw_m1 30 rfl) rfl
theorem q246 : (Jvm.Cond.selects "LinesPromised$Plan" ({ cls := "java/lang/Object", name := "getClass", desc := "()Ljava/lang/Class;" } : Jvm.MethodName) ({ cls := "java/lang/Object", name := "getClass", desc := "()Ljava/lang/Class;" } : Jvm.MethodName)) ∈ lw_all := lw_g (lw_at lw_m1 149 rfl) rfl
theorem q721 : (Jvm.Cond.sameField "LinesPromised$Plan" "LinesPromised$Scheme" "from" "LLinesPromised$Town;") ∈ lw_all := lw_g (lw_at lw_m3 144 rfl) rfl
theorem q727 : (Jvm.Cond.sameField "LinesPromised$Plan" "LinesPromised$Scheme" "to" "LLinesPromised$Town;") ∈ lw_all := lw_g (lw_at lw_m3 150 rfl) rfl
theorem q733 : (Jvm.Cond.sameField "LinesPromised$Plan" "LinesPromised$Scheme" "gauge" "I") ∈ lw_all := lw_g (lw_at lw_m3 156 rfl) rfl
theorem q759 : (Jvm.Cond.sameField "LinesPromised$Plan" "LinesPromised$Paper" "number" "I") ∈ lw_all := lw_g (lw_at lw_m3 182 rfl) rfl
theorem q760 : (Jvm.Cond.fieldLink "LinesPromised$Plan" (26 : Nat) "LinesPromised$Scheme" "number" "I") ∈ lw_all := lw_g (lw_at lw_m3 183 rfl) rfl
theorem q818 : (Jvm.Cond.selects "LinesPromised$Plan" ({ cls := "LinesPromised$Scheme", name := "kind", desc := "()I" } : Jvm.MethodName) ({ cls := "LinesPromised$Plan", name := "kind", desc := "()I" } : Jvm.MethodName)) ∈ lw_all := lw_g (lw_at lw_m4 1 rfl) rfl
theorem q819 : (Jvm.Cond.instanceMethod ({ cls := "LinesPromised$Plan", name := "kind", desc := "()I" } : Jvm.MethodName)) ∈ lw_all := lw_g (lw_at lw_m4 2 rfl) rfl
theorem q820 : (Jvm.Cond.code ({ cls := "LinesPromised$Plan", name := "kind", desc := "()I" } : Jvm.MethodName) prog_18_method_2_code (1 : Nat) (Option.some Jvm.ClassFile.FieldType.int)) ∈ lw_all := lw_g (lw_at lw_m4 3 rfl) rfl
theorem q827 : (Jvm.Cond.instantiable "LinesPromised$Plan" (17 : Nat)) ∈ lw_all := lw_g (lw_at lw_m4 10 rfl) rfl
theorem q829 : (Jvm.Cond.instanceMethod ({ cls := "LinesPromised$Plan", name := "<init>", desc := "(IILLinesPromised$Scheme;)V" } : Jvm.MethodName)) ∈ lw_all := lw_g (lw_at lw_m4 12 rfl) rfl
theorem q830 : (Jvm.Cond.code ({ cls := "LinesPromised$Plan", name := "<init>", desc := "(IILLinesPromised$Scheme;)V" } : Jvm.MethodName) prog_18_method_1_code (4 : Nat) (Option.none : Option Jvm.ClassFile.FieldType)) ∈ lw_all := lw_g (lw_at lw_m4 13 rfl) rfl
theorem q831 : (Jvm.Cond.methodLink "LinesPromised$Plan" (3 : Nat) ({ cls := "LinesPromised$Going", name := "<init>", desc := "(IILLinesPromised$Scheme;)V" } : Jvm.MethodName)) ∈ lw_all := lw_g (lw_at lw_m4 14 rfl) rfl
theorem q835 : (Jvm.Cond.fieldLink "LinesPromised$Plan" (9 : Nat) "LinesPromised$Plan" "way" "[I") ∈ lw_all := lw_g (lw_at lw_m4 18 rfl) rfl
theorem q837 : (Jvm.Cond.fieldLink "LinesPromised$Plan" (15 : Nat) "LinesPromised$Plan" "levels" "[I") ∈ lw_all := lw_g (lw_at lw_m4 20 rfl) rfl
theorem q839 : (Jvm.Cond.fieldLink "LinesPromised$Plan" (35 : Nat) "LinesPromised$Plan" "many" "I") ∈ lw_all := lw_g (lw_at lw_m4 22 rfl) rfl
theorem q841 : (Jvm.Cond.fieldLink "LinesPromised$Plan" (18 : Nat) "LinesPromised$Plan" "torn" "I") ∈ lw_all := lw_g (lw_at lw_m4 24 rfl) rfl
theorem q844 : (Jvm.Cond.sameField "LinesPromised$Plan" "LinesPromised$Going" "scheme" "LLinesPromised$Scheme;") ∈ lw_all := lw_g (lw_at lw_m4 27 rfl) rfl
theorem q846 : (Jvm.Cond.fieldLink "LinesPromised$Plan" (22 : Nat) "LinesPromised$Plan" "scheme" "LLinesPromised$Scheme;") ∈ lw_all := lw_g (lw_at lw_m4 29 rfl) rfl
theorem q849 : (Jvm.Cond.laysFinal "LinesPromised$Plan" "LinesPromised$Plan" "way" "[I") ∈ lw_all := lw_g (lw_at lw_m4 32 rfl) rfl
theorem q850 : (Jvm.Cond.soleField "LinesPromised$Plan" "way") ∈ lw_all := lw_g (lw_at lw_m4 33 rfl) rfl
theorem q851 : (Jvm.Cond.laysFinal "LinesPromised$Plan" "LinesPromised$Plan" "levels" "[I") ∈ lw_all := lw_g (lw_at lw_m4 34 rfl) rfl
theorem q852 : (Jvm.Cond.soleField "LinesPromised$Plan" "levels") ∈ lw_all := lw_g (lw_at lw_m4 35 rfl) rfl
theorem q853 : (Jvm.Cond.lays "LinesPromised$Plan" "LinesPromised$Plan" "many" "I") ∈ lw_all := lw_g (lw_at lw_m4 36 rfl) rfl
theorem q854 : (Jvm.Cond.soleField "LinesPromised$Plan" "many") ∈ lw_all := lw_g (lw_at lw_m4 37 rfl) rfl
theorem q855 : (Jvm.Cond.lays "LinesPromised$Plan" "LinesPromised$Plan" "torn" "I") ∈ lw_all := lw_g (lw_at lw_m4 38 rfl) rfl
theorem q856 : (Jvm.Cond.soleField "LinesPromised$Plan" "torn") ∈ lw_all := lw_g (lw_at lw_m4 39 rfl) rfl
theorem q857 : (Jvm.Cond.laysFinal "LinesPromised$Plan" "LinesPromised$Going" "scheme" "LLinesPromised$Scheme;") ∈ lw_all := lw_g (lw_at lw_m4 40 rfl) rfl
theorem q859 : (Jvm.Cond.laysFinal "LinesPromised$Plan" "LinesPromised$Scheme" "from" "LLinesPromised$Town;") ∈ lw_all := lw_g (lw_at lw_m4 42 rfl) rfl
theorem q860 : (Jvm.Cond.laysFinal "LinesPromised$Plan" "LinesPromised$Scheme" "to" "LLinesPromised$Town;") ∈ lw_all := lw_g (lw_at lw_m4 43 rfl) rfl
theorem q861 : (Jvm.Cond.laysFinal "LinesPromised$Plan" "LinesPromised$Scheme" "gauge" "I") ∈ lw_all := lw_g (lw_at lw_m4 44 rfl) rfl
theorem q862 : (Jvm.Cond.laysFinal "LinesPromised$Plan" "LinesPromised$Scheme" "shares" "I") ∈ lw_all := lw_g (lw_at lw_m4 45 rfl) rfl
theorem q863 : (Jvm.Cond.laysFinal "LinesPromised$Plan" "LinesPromised$Scheme" "place" "I") ∈ lw_all := lw_g (lw_at lw_m4 46 rfl) rfl
theorem q864 : (Jvm.Cond.lays "LinesPromised$Plan" "LinesPromised$Scheme" "coins" "J") ∈ lw_all := lw_g (lw_at lw_m4 47 rfl) rfl
theorem q865 : (Jvm.Cond.lays "LinesPromised$Plan" "LinesPromised$Scheme" "fallen" "Z") ∈ lw_all := lw_g (lw_at lw_m4 48 rfl) rfl
theorem q866 : (Jvm.Cond.lays "LinesPromised$Plan" "LinesPromised$Scheme" "price" "I") ∈ lw_all := lw_g (lw_at lw_m4 49 rfl) rfl
theorem q867 : (Jvm.Cond.lays "LinesPromised$Plan" "LinesPromised$Scheme" "calledOn" "I") ∈ lw_all := lw_g (lw_at lw_m4 50 rfl) rfl
theorem q868 : (Jvm.Cond.lays "LinesPromised$Plan" "LinesPromised$Scheme" "held" "[I") ∈ lw_all := lw_g (lw_at lw_m4 51 rfl) rfl
theorem q869 : (Jvm.Cond.laysFinal "LinesPromised$Plan" "LinesPromised$Paper" "number" "I") ∈ lw_all := lw_g (lw_at lw_m4 52 rfl) rfl
theorem q870 : (Jvm.Cond.laysFinal "LinesPromised$Plan" "LinesPromised$Paper" "day" "I") ∈ lw_all := lw_g (lw_at lw_m4 53 rfl) rfl
theorem q871 : (Jvm.Cond.superclass "LinesPromised$Plan" "LinesPromised$Going") ∈ lw_all := lw_g (lw_at lw_m4 54 rfl) rfl
theorem q919 : (Jvm.Cond.instanceMethod ({ cls := "LinesPromised$Plan", name := "has", desc := "(I)Z" } : Jvm.MethodName)) ∈ lw_all := lw_g (lw_at lw_m4 102 rfl) rfl
theorem q920 : (Jvm.Cond.selects "LinesPromised$Plan" ({ cls := "LinesPromised$Plan", name := "has", desc := "(I)Z" } : Jvm.MethodName) ({ cls := "LinesPromised$Plan", name := "has", desc := "(I)Z" } : Jvm.MethodName)) ∈ lw_all := lw_g (lw_at lw_m4 103 rfl) rfl
theorem q921 : (Jvm.Cond.code ({ cls := "LinesPromised$Plan", name := "has", desc := "(I)Z" } : Jvm.MethodName) prog_18_method_5_code (4 : Nat) (Option.some Jvm.ClassFile.FieldType.boolean)) ∈ lw_all := lw_g (lw_at lw_m4 104 rfl) rfl
theorem q1125 : (Jvm.Cond.selects "LinesPromised$Plan" ({ cls := "LinesPromised$Paper", name := "isUnder", desc := "(I)Z" } : Jvm.MethodName) ({ cls := "LinesPromised$Scheme", name := "isUnder", desc := "(I)Z" } : Jvm.MethodName)) ∈ lw_all := lw_g (lw_at lw_m5 68 rfl) rfl
theorem q1143 : (Jvm.Cond.selects "LinesPromised$Plan" ({ cls := "LinesPromised$Paper", name := "kind", desc := "()I" } : Jvm.MethodName) ({ cls := "LinesPromised$Plan", name := "kind", desc := "()I" } : Jvm.MethodName)) ∈ lw_all := lw_g (lw_at lw_m5 86 rfl) rfl
theorem q1152 : (Jvm.Cond.instanceMethod ({ cls := "LinesPromised$Plan", name := "worth", desc := "()I" } : Jvm.MethodName)) ∈ lw_all := lw_g (lw_at lw_m5 95 rfl) rfl
theorem q1153 : (Jvm.Cond.selects "LinesPromised$Plan" ({ cls := "LinesPromised$Plan", name := "worth", desc := "()I" } : Jvm.MethodName) ({ cls := "LinesPromised$Plan", name := "worth", desc := "()I" } : Jvm.MethodName)) ∈ lw_all := lw_g (lw_at lw_m5 96 rfl) rfl
theorem q1154 : (Jvm.Cond.code ({ cls := "LinesPromised$Plan", name := "worth", desc := "()I" } : Jvm.MethodName) prog_18_method_4_code (1 : Nat) (Option.some Jvm.ClassFile.FieldType.int)) ∈ lw_all := lw_g (lw_at lw_m5 97 rfl) rfl
theorem q1155 : (Jvm.Cond.methodLink "LinesPromised$Plan" (31 : Nat) ({ cls := "LinesPromised$Going", name := "worth", desc := "()I" } : Jvm.MethodName)) ∈ lw_all := lw_g (lw_at lw_m5 98 rfl) rfl
theorem q1173 : (Jvm.Cond.selects "LinesPromised$Plan" ({ cls := "LinesPromised$Paper", name := "worth", desc := "()I" } : Jvm.MethodName) ({ cls := "LinesPromised$Plan", name := "worth", desc := "()I" } : Jvm.MethodName)) ∈ lw_all := lw_g (lw_at lw_m5 116 rfl) rfl
theorem q1192 : (Jvm.Cond.selects "LinesPromised$Plan" ({ cls := "LinesPromised$Paper", name := "of", desc := "()I" } : Jvm.MethodName) ({ cls := "LinesPromised$Plan", name := "of", desc := "()I" } : Jvm.MethodName)) ∈ lw_all := lw_g (lw_at lw_m5 135 rfl) rfl
theorem q1193 : (Jvm.Cond.instanceMethod ({ cls := "LinesPromised$Plan", name := "of", desc := "()I" } : Jvm.MethodName)) ∈ lw_all := lw_g (lw_at lw_m5 136 rfl) rfl
theorem q1194 : (Jvm.Cond.code ({ cls := "LinesPromised$Plan", name := "of", desc := "()I" } : Jvm.MethodName) prog_18_method_3_code (1 : Nat) (Option.some Jvm.ClassFile.FieldType.int)) ∈ lw_all := lw_g (lw_at lw_m5 137 rfl) rfl
theorem q1210 : (Jvm.Cond.selects "LinesPromised$Plan" ({ cls := "LinesPromised$Paper", name := "first", desc := "()I" } : Jvm.MethodName) ({ cls := "LinesPromised$Scheme", name := "first", desc := "()I" } : Jvm.MethodName)) ∈ lw_all := lw_g (lw_at lw_m5 153 rfl) rfl
theorem q1222 : (Jvm.Cond.selects "LinesPromised$Plan" ({ cls := "LinesPromised$Paper", name := "second", desc := "()I" } : Jvm.MethodName) ({ cls := "LinesPromised$Scheme", name := "second", desc := "()I" } : Jvm.MethodName)) ∈ lw_all := lw_g (lw_at lw_m5 165 rfl) rfl
theorem q1234 : (Jvm.Cond.selects "LinesPromised$Plan" ({ cls := "LinesPromised$Paper", name := "gauge", desc := "()I" } : Jvm.MethodName) ({ cls := "LinesPromised$Scheme", name := "gauge", desc := "()I" } : Jvm.MethodName)) ∈ lw_all := lw_g (lw_at lw_m5 177 rfl) rfl
theorem q1250 : (Jvm.Cond.selects "LinesPromised$Plan" ({ cls := "LinesPromised$Paper", name := "size", desc := "()I" } : Jvm.MethodName) ({ cls := "LinesPromised$Going", name := "size", desc := "()I" } : Jvm.MethodName)) ∈ lw_all := lw_g (lw_at lw_m5 193 rfl) rfl
theorem q1266 : (Jvm.Cond.selects "LinesPromised$Plan" ({ cls := "LinesPromised$Paper", name := "isDone", desc := "()Z" } : Jvm.MethodName) ({ cls := "LinesPromised$Scheme", name := "isDone", desc := "()Z" } : Jvm.MethodName)) ∈ lw_all := lw_g (lw_at lw_m5 209 rfl) rfl
theorem q1320 : (Jvm.Cond.selects "LinesPromised$Plan" ({ cls := "LinesPromised$Scheme", name := "left", desc := "()I" } : Jvm.MethodName) ({ cls := "LinesPromised$Scheme", name := "left", desc := "()I" } : Jvm.MethodName)) ∈ lw_all := lw_g (lw_at lw_m6 23 rfl) rfl
theorem q1405 : (Jvm.Cond.selects "LinesPromised$Plan" ({ cls := "java/lang/Object", name := "equals", desc := "(Ljava/lang/Object;)Z" } : Jvm.MethodName) ({ cls := "java/lang/Object", name := "equals", desc := "(Ljava/lang/Object;)Z" } : Jvm.MethodName)) ∈ lw_all := lw_g (lw_at lw_m6 108 rfl) rfl
theorem q2423 : (Jvm.Cond.castable "LinesPromised$Plan" "LinesPromised$Paper") ∈ lw_tbl := lw_at lw_m10 166 rfl
theorem q2426 : (Jvm.Cond.castable "LinesPromised$Plan" "LinesPromised$Scheme") ∈ lw_tbl := lw_at lw_m10 169 rfl
theorem q2442 : (Jvm.Cond.castable "LinesPromised$Plan" "java/lang/Object") ∈ lw_tbl := lw_at lw_m10 185 rfl
theorem q128 : (Jvm.Cond.initialized "LinesPromised$Torn") ∈ lw_all := lw_g (lw_at lw_m1 31 rfl) rfl
theorem q250 : (Jvm.Cond.selects "LinesPromised$Torn" ({ cls := "java/lang/Object", name := "getClass", desc := "()Ljava/lang/Class;" } : Jvm.MethodName) ({ cls := "java/lang/Object", name := "getClass", desc := "()Ljava/lang/Class;" } : Jvm.MethodName)) ∈ lw_all := lw_g (lw_at lw_m1 153 rfl) rfl
theorem q392 : (Jvm.Cond.selects "LinesPromised$Torn" ({ cls := "java/lang/Throwable", name := "fillInStackTrace", desc := "()Ljava/lang/Throwable;" } : Jvm.MethodName) ({ cls := "java/lang/Throwable", name := "fillInStackTrace", desc := "()Ljava/lang/Throwable;" } : Jvm.MethodName)) ∈ lw_all := lw_g (lw_at lw_m2 55 rfl) rfl
theorem q888 : (Jvm.Cond.instantiable "LinesPromised$Torn" (7 : Nat)) ∈ lw_all := lw_g (lw_at lw_m4 71 rfl) rfl
theorem q889 : (Jvm.Cond.castable "LinesPromised$Torn" "LinesPromised$Torn") ∈ lw_tbl := lw_at lw_m4 72 rfl
theorem q890 : (Jvm.Cond.selects "LinesPromised$Torn" ({ cls := "java/lang/Throwable", name := "fillInStackTrace", desc := "(I)Ljava/lang/Throwable;" } : Jvm.MethodName) ({ cls := "java/lang/Throwable", name := "fillInStackTrace", desc := "(I)Ljava/lang/Throwable;" } : Jvm.MethodName)) ∈ lw_all := lw_g (lw_at lw_m4 73 rfl) rfl
theorem q891 : (Jvm.Cond.lays "LinesPromised$Torn" "java/lang/Throwable" "cause" "Ljava/lang/Throwable;") ∈ lw_all := lw_g (lw_at lw_m4 74 rfl) rfl
theorem q892 : (Jvm.Cond.lays "LinesPromised$Torn" "java/lang/Throwable" "stackTrace" "[Ljava/lang/StackTraceElement;") ∈ lw_all := lw_g (lw_at lw_m4 75 rfl) rfl
theorem q893 : (Jvm.Cond.lays "LinesPromised$Torn" "java/lang/Throwable" "suppressedExceptions" "Ljava/util/List;") ∈ lw_all := lw_g (lw_at lw_m4 76 rfl) rfl
theorem q894 : (Jvm.Cond.lays "LinesPromised$Torn" "java/lang/Throwable" "detailMessage" "Ljava/lang/String;") ∈ lw_all := lw_g (lw_at lw_m4 77 rfl) rfl
theorem q895 : (Jvm.Cond.lays "LinesPromised$Torn" "java/lang/Throwable" "backtrace" "Ljava/lang/Object;") ∈ lw_all := lw_g (lw_at lw_m4 78 rfl) rfl
theorem q897 : (Jvm.Cond.instanceMethod ({ cls := "LinesPromised$Torn", name := "<init>", desc := "(I)V" } : Jvm.MethodName)) ∈ lw_all := lw_g (lw_at lw_m4 80 rfl) rfl
theorem q898 : (Jvm.Cond.code ({ cls := "LinesPromised$Torn", name := "<init>", desc := "(I)V" } : Jvm.MethodName) prog_24_method_1_code (2 : Nat) (Option.none : Option Jvm.ClassFile.FieldType)) ∈ lw_all := lw_g (lw_at lw_m4 81 rfl) rfl
theorem q899 : (Jvm.Cond.methodLink "LinesPromised$Torn" (1 : Nat) ({ cls := "java/lang/Exception", name := "<init>", desc := "(Ljava/lang/String;Ljava/lang/Throwable;ZZ)V" } : Jvm.MethodName)) ∈ lw_all := lw_g (lw_at lw_m4 82 rfl) rfl
theorem q900 : (Jvm.Cond.fieldLink "LinesPromised$Torn" (7 : Nat) "LinesPromised$Torn" "place" "I") ∈ lw_all := lw_g (lw_at lw_m4 83 rfl) rfl
theorem q902 : (Jvm.Cond.laysFinal "LinesPromised$Torn" "LinesPromised$Torn" "place" "I") ∈ lw_all := lw_g (lw_at lw_m4 85 rfl) rfl
theorem q903 : (Jvm.Cond.soleField "LinesPromised$Torn" "place") ∈ lw_all := lw_g (lw_at lw_m4 86 rfl) rfl
theorem q904 : (Jvm.Cond.lays "LinesPromised$Torn" "java/lang/Throwable" "depth" "I") ∈ lw_all := lw_g (lw_at lw_m4 87 rfl) rfl
theorem q905 : (Jvm.Cond.superclass "LinesPromised$Torn" "java/lang/Exception") ∈ lw_all := lw_g (lw_at lw_m4 88 rfl) rfl
theorem q1409 : (Jvm.Cond.selects "LinesPromised$Torn" ({ cls := "java/lang/Object", name := "equals", desc := "(Ljava/lang/Object;)Z" } : Jvm.MethodName) ({ cls := "java/lang/Object", name := "equals", desc := "(Ljava/lang/Object;)Z" } : Jvm.MethodName)) ∈ lw_all := lw_g (lw_at lw_m6 112 rfl) rfl
theorem q2443 : (Jvm.Cond.castable "LinesPromised$Torn" "java/lang/Object") ∈ lw_tbl := lw_at lw_m10 186 rfl
theorem q129 : (Jvm.Cond.initialized "LinesPromised$Claim") ∈ lw_all := lw_g (lw_at lw_m1 32 rfl) rfl
theorem q236 : (Jvm.Cond.selects "LinesPromised$Claim" ({ cls := "java/lang/Object", name := "getClass", desc := "()Ljava/lang/Class;" } : Jvm.MethodName) ({ cls := "java/lang/Object", name := "getClass", desc := "()Ljava/lang/Class;" } : Jvm.MethodName)) ∈ lw_all := lw_g (lw_at lw_m1 139 rfl) rfl
theorem q994 : (Jvm.Cond.instantiable "LinesPromised$Claim" (4 : Nat)) ∈ lw_all := lw_g (lw_at lw_m4 177 rfl) rfl
theorem q996 : (Jvm.Cond.instanceMethod ({ cls := "LinesPromised$Claim", name := "<init>", desc := "(IIII)V" } : Jvm.MethodName)) ∈ lw_all := lw_g (lw_at lw_m4 179 rfl) rfl
theorem q997 : (Jvm.Cond.code ({ cls := "LinesPromised$Claim", name := "<init>", desc := "(IIII)V" } : Jvm.MethodName) prog_6_method_1_code (5 : Nat) (Option.none : Option Jvm.ClassFile.FieldType)) ∈ lw_all := lw_g (lw_at lw_m4 180 rfl) rfl
theorem q998 : (Jvm.Cond.methodLink "LinesPromised$Claim" (1 : Nat) ({ cls := "LinesPromised$Paper", name := "<init>", desc := "(II)V" } : Jvm.MethodName)) ∈ lw_all := lw_g (lw_at lw_m4 181 rfl) rfl
theorem q999 : (Jvm.Cond.fieldLink "LinesPromised$Claim" (7 : Nat) "LinesPromised$Claim" "cell" "I") ∈ lw_all := lw_g (lw_at lw_m4 182 rfl) rfl
theorem q1001 : (Jvm.Cond.fieldLink "LinesPromised$Claim" (13 : Nat) "LinesPromised$Claim" "coins" "I") ∈ lw_all := lw_g (lw_at lw_m4 184 rfl) rfl
theorem q1003 : (Jvm.Cond.laysFinal "LinesPromised$Claim" "LinesPromised$Claim" "cell" "I") ∈ lw_all := lw_g (lw_at lw_m4 186 rfl) rfl
theorem q1004 : (Jvm.Cond.soleField "LinesPromised$Claim" "cell") ∈ lw_all := lw_g (lw_at lw_m4 187 rfl) rfl
theorem q1005 : (Jvm.Cond.laysFinal "LinesPromised$Claim" "LinesPromised$Claim" "coins" "I") ∈ lw_all := lw_g (lw_at lw_m4 188 rfl) rfl
theorem q1006 : (Jvm.Cond.soleField "LinesPromised$Claim" "coins") ∈ lw_all := lw_g (lw_at lw_m4 189 rfl) rfl
theorem q1007 : (Jvm.Cond.laysFinal "LinesPromised$Claim" "LinesPromised$Paper" "number" "I") ∈ lw_all := lw_g (lw_at lw_m4 190 rfl) rfl
theorem q1008 : (Jvm.Cond.laysFinal "LinesPromised$Claim" "LinesPromised$Paper" "day" "I") ∈ lw_all := lw_g (lw_at lw_m4 191 rfl) rfl
theorem q1009 : (Jvm.Cond.superclass "LinesPromised$Claim" "LinesPromised$Paper") ∈ lw_all := lw_g (lw_at lw_m4 192 rfl) rfl
theorem q1123 : (Jvm.Cond.selects "LinesPromised$Claim" ({ cls := "LinesPromised$Paper", name := "isUnder", desc := "(I)Z" } : Jvm.MethodName) ({ cls := "LinesPromised$Paper", name := "isUnder", desc := "(I)Z" } : Jvm.MethodName)) ∈ lw_all := lw_g (lw_at lw_m5 66 rfl) rfl
theorem q1135 : (Jvm.Cond.selects "LinesPromised$Claim" ({ cls := "LinesPromised$Paper", name := "kind", desc := "()I" } : Jvm.MethodName) ({ cls := "LinesPromised$Claim", name := "kind", desc := "()I" } : Jvm.MethodName)) ∈ lw_all := lw_g (lw_at lw_m5 78 rfl) rfl
theorem q1136 : (Jvm.Cond.instanceMethod ({ cls := "LinesPromised$Claim", name := "kind", desc := "()I" } : Jvm.MethodName)) ∈ lw_all := lw_g (lw_at lw_m5 79 rfl) rfl
theorem q1137 : (Jvm.Cond.code ({ cls := "LinesPromised$Claim", name := "kind", desc := "()I" } : Jvm.MethodName) prog_6_method_2_code (1 : Nat) (Option.some Jvm.ClassFile.FieldType.int)) ∈ lw_all := lw_g (lw_at lw_m5 80 rfl) rfl
theorem q1165 : (Jvm.Cond.selects "LinesPromised$Claim" ({ cls := "LinesPromised$Paper", name := "worth", desc := "()I" } : Jvm.MethodName) ({ cls := "LinesPromised$Claim", name := "worth", desc := "()I" } : Jvm.MethodName)) ∈ lw_all := lw_g (lw_at lw_m5 108 rfl) rfl
theorem q1166 : (Jvm.Cond.instanceMethod ({ cls := "LinesPromised$Claim", name := "worth", desc := "()I" } : Jvm.MethodName)) ∈ lw_all := lw_g (lw_at lw_m5 109 rfl) rfl
theorem q1167 : (Jvm.Cond.code ({ cls := "LinesPromised$Claim", name := "worth", desc := "()I" } : Jvm.MethodName) prog_6_method_3_code (1 : Nat) (Option.some Jvm.ClassFile.FieldType.int)) ∈ lw_all := lw_g (lw_at lw_m5 110 rfl) rfl
theorem q1168 : (Jvm.Cond.methodLink "LinesPromised$Claim" (16 : Nat) ({ cls := "LinesPromised$Paper", name := "worth", desc := "()I" } : Jvm.MethodName)) ∈ lw_all := lw_g (lw_at lw_m5 111 rfl) rfl
theorem q1190 : (Jvm.Cond.selects "LinesPromised$Claim" ({ cls := "LinesPromised$Paper", name := "of", desc := "()I" } : Jvm.MethodName) ({ cls := "LinesPromised$Paper", name := "of", desc := "()I" } : Jvm.MethodName)) ∈ lw_all := lw_g (lw_at lw_m5 133 rfl) rfl
theorem q1204 : (Jvm.Cond.selects "LinesPromised$Claim" ({ cls := "LinesPromised$Paper", name := "first", desc := "()I" } : Jvm.MethodName) ({ cls := "LinesPromised$Claim", name := "first", desc := "()I" } : Jvm.MethodName)) ∈ lw_all := lw_g (lw_at lw_m5 147 rfl) rfl
theorem q1205 : (Jvm.Cond.instanceMethod ({ cls := "LinesPromised$Claim", name := "first", desc := "()I" } : Jvm.MethodName)) ∈ lw_all := lw_g (lw_at lw_m5 148 rfl) rfl
theorem q1206 : (Jvm.Cond.code ({ cls := "LinesPromised$Claim", name := "first", desc := "()I" } : Jvm.MethodName) prog_6_method_4_code (1 : Nat) (Option.some Jvm.ClassFile.FieldType.int)) ∈ lw_all := lw_g (lw_at lw_m5 149 rfl) rfl
theorem q1220 : (Jvm.Cond.selects "LinesPromised$Claim" ({ cls := "LinesPromised$Paper", name := "second", desc := "()I" } : Jvm.MethodName) ({ cls := "LinesPromised$Paper", name := "second", desc := "()I" } : Jvm.MethodName)) ∈ lw_all := lw_g (lw_at lw_m5 163 rfl) rfl
theorem q1232 : (Jvm.Cond.selects "LinesPromised$Claim" ({ cls := "LinesPromised$Paper", name := "gauge", desc := "()I" } : Jvm.MethodName) ({ cls := "LinesPromised$Paper", name := "gauge", desc := "()I" } : Jvm.MethodName)) ∈ lw_all := lw_g (lw_at lw_m5 175 rfl) rfl
theorem q1246 : (Jvm.Cond.selects "LinesPromised$Claim" ({ cls := "LinesPromised$Paper", name := "size", desc := "()I" } : Jvm.MethodName) ({ cls := "LinesPromised$Claim", name := "size", desc := "()I" } : Jvm.MethodName)) ∈ lw_all := lw_g (lw_at lw_m5 189 rfl) rfl
theorem q1247 : (Jvm.Cond.instanceMethod ({ cls := "LinesPromised$Claim", name := "size", desc := "()I" } : Jvm.MethodName)) ∈ lw_all := lw_g (lw_at lw_m5 190 rfl) rfl
theorem q1248 : (Jvm.Cond.code ({ cls := "LinesPromised$Claim", name := "size", desc := "()I" } : Jvm.MethodName) prog_6_method_5_code (1 : Nat) (Option.some Jvm.ClassFile.FieldType.int)) ∈ lw_all := lw_g (lw_at lw_m5 191 rfl) rfl
theorem q1264 : (Jvm.Cond.selects "LinesPromised$Claim" ({ cls := "LinesPromised$Paper", name := "isDone", desc := "()Z" } : Jvm.MethodName) ({ cls := "LinesPromised$Paper", name := "isDone", desc := "()Z" } : Jvm.MethodName)) ∈ lw_all := lw_g (lw_at lw_m5 207 rfl) rfl
theorem q1395 : (Jvm.Cond.selects "LinesPromised$Claim" ({ cls := "java/lang/Object", name := "equals", desc := "(Ljava/lang/Object;)Z" } : Jvm.MethodName) ({ cls := "java/lang/Object", name := "equals", desc := "(Ljava/lang/Object;)Z" } : Jvm.MethodName)) ∈ lw_all := lw_g (lw_at lw_m6 98 rfl) rfl
theorem q2421 : (Jvm.Cond.castable "LinesPromised$Claim" "LinesPromised$Paper") ∈ lw_tbl := lw_at lw_m10 164 rfl
theorem q2444 : (Jvm.Cond.castable "LinesPromised$Claim" "java/lang/Object") ∈ lw_tbl := lw_at lw_m10 187 rfl
theorem q130 : (Jvm.Cond.initialized "LinesPromised$Bill") ∈ lw_all := lw_g (lw_at lw_m1 33 rfl) rfl
theorem q232 : (Jvm.Cond.selects "LinesPromised$Bill" ({ cls := "java/lang/Object", name := "getClass", desc := "()Ljava/lang/Class;" } : Jvm.MethodName) ({ cls := "java/lang/Object", name := "getClass", desc := "()Ljava/lang/Class;" } : Jvm.MethodName)) ∈ lw_all := lw_g (lw_at lw_m1 135 rfl) rfl
theorem q723 : (Jvm.Cond.sameField "LinesPromised$Bill" "LinesPromised$Scheme" "from" "LLinesPromised$Town;") ∈ lw_all := lw_g (lw_at lw_m3 146 rfl) rfl
theorem q729 : (Jvm.Cond.sameField "LinesPromised$Bill" "LinesPromised$Scheme" "to" "LLinesPromised$Town;") ∈ lw_all := lw_g (lw_at lw_m3 152 rfl) rfl
theorem q735 : (Jvm.Cond.sameField "LinesPromised$Bill" "LinesPromised$Scheme" "gauge" "I") ∈ lw_all := lw_g (lw_at lw_m3 158 rfl) rfl
theorem q758 : (Jvm.Cond.fieldLink "LinesPromised$Bill" (25 : Nat) "LinesPromised$Plan" "number" "I") ∈ lw_all := lw_g (lw_at lw_m3 181 rfl) rfl
theorem q765 : (Jvm.Cond.sameField "LinesPromised$Bill" "LinesPromised$Paper" "number" "I") ∈ lw_all := lw_g (lw_at lw_m3 188 rfl) rfl
theorem q815 : (Jvm.Cond.selects "LinesPromised$Bill" ({ cls := "LinesPromised$Scheme", name := "kind", desc := "()I" } : Jvm.MethodName) ({ cls := "LinesPromised$Bill", name := "kind", desc := "()I" } : Jvm.MethodName)) ∈ lw_all := lw_g (lw_at lw_m3 238 rfl) rfl
theorem q816 : (Jvm.Cond.instanceMethod ({ cls := "LinesPromised$Bill", name := "kind", desc := "()I" } : Jvm.MethodName)) ∈ lw_all := lw_g (lw_at lw_m3 239 rfl) rfl
theorem q817 : (Jvm.Cond.code ({ cls := "LinesPromised$Bill", name := "kind", desc := "()I" } : Jvm.MethodName) prog_2_method_2_code (1 : Nat) (Option.some Jvm.ClassFile.FieldType.int)) ∈ lw_all := lw_g (lw_at lw_m4 0 rfl) rfl
theorem q843 : (Jvm.Cond.fieldLink "LinesPromised$Bill" (3 : Nat) "LinesPromised$Plan" "scheme" "LLinesPromised$Scheme;") ∈ lw_all := lw_g (lw_at lw_m4 26 rfl) rfl
theorem q848 : (Jvm.Cond.sameField "LinesPromised$Bill" "LinesPromised$Going" "scheme" "LLinesPromised$Scheme;") ∈ lw_all := lw_g (lw_at lw_m4 31 rfl) rfl
theorem q1015 : (Jvm.Cond.instantiable "LinesPromised$Bill" (18 : Nat)) ∈ lw_all := lw_g (lw_at lw_m4 198 rfl) rfl
theorem q1017 : (Jvm.Cond.instanceMethod ({ cls := "LinesPromised$Bill", name := "<init>", desc := "(IILLinesPromised$Plan;)V" } : Jvm.MethodName)) ∈ lw_all := lw_g (lw_at lw_m4 200 rfl) rfl
theorem q1018 : (Jvm.Cond.code ({ cls := "LinesPromised$Bill", name := "<init>", desc := "(IILLinesPromised$Plan;)V" } : Jvm.MethodName) prog_2_method_1_code (4 : Nat) (Option.none : Option Jvm.ClassFile.FieldType)) ∈ lw_all := lw_g (lw_at lw_m4 201 rfl) rfl
theorem q1019 : (Jvm.Cond.methodLink "LinesPromised$Bill" (9 : Nat) ({ cls := "LinesPromised$Going", name := "<init>", desc := "(IILLinesPromised$Scheme;)V" } : Jvm.MethodName)) ∈ lw_all := lw_g (lw_at lw_m4 202 rfl) rfl
theorem q1020 : (Jvm.Cond.fieldLink "LinesPromised$Bill" (21 : Nat) "LinesPromised$Bill" "plan" "LLinesPromised$Plan;") ∈ lw_all := lw_g (lw_at lw_m4 203 rfl) rfl
theorem q1023 : (Jvm.Cond.fieldLink "LinesPromised$Bill" (32 : Nat) "LinesPromised$Bill" "granted" "Z") ∈ lw_all := lw_g (lw_at lw_m4 206 rfl) rfl
theorem q1027 : (Jvm.Cond.fieldLink "LinesPromised$Bill" (15 : Nat) "LinesPromised$Bill" "doneOn" "I") ∈ lw_all := lw_g (lw_at lw_m4 210 rfl) rfl
theorem q1032 : (Jvm.Cond.laysFinal "LinesPromised$Bill" "LinesPromised$Bill" "plan" "LLinesPromised$Plan;") ∈ lw_all := lw_g (lw_at lw_m4 215 rfl) rfl
theorem q1033 : (Jvm.Cond.soleField "LinesPromised$Bill" "plan") ∈ lw_all := lw_g (lw_at lw_m4 216 rfl) rfl
theorem q1034 : (Jvm.Cond.lays "LinesPromised$Bill" "LinesPromised$Bill" "granted" "Z") ∈ lw_all := lw_g (lw_at lw_m4 217 rfl) rfl
theorem q1035 : (Jvm.Cond.soleField "LinesPromised$Bill" "granted") ∈ lw_all := lw_g (lw_at lw_m4 218 rfl) rfl
theorem q1036 : (Jvm.Cond.lays "LinesPromised$Bill" "LinesPromised$Bill" "left" "I") ∈ lw_all := lw_g (lw_at lw_m4 219 rfl) rfl
theorem q1037 : (Jvm.Cond.soleField "LinesPromised$Bill" "left") ∈ lw_all := lw_g (lw_at lw_m4 220 rfl) rfl
theorem q1038 : (Jvm.Cond.lays "LinesPromised$Bill" "LinesPromised$Bill" "doneOn" "I") ∈ lw_all := lw_g (lw_at lw_m4 221 rfl) rfl
theorem q1039 : (Jvm.Cond.soleField "LinesPromised$Bill" "doneOn") ∈ lw_all := lw_g (lw_at lw_m4 222 rfl) rfl
theorem q1040 : (Jvm.Cond.lays "LinesPromised$Bill" "LinesPromised$Bill" "barred" "J") ∈ lw_all := lw_g (lw_at lw_m4 223 rfl) rfl
theorem q1041 : (Jvm.Cond.soleField "LinesPromised$Bill" "barred") ∈ lw_all := lw_g (lw_at lw_m4 224 rfl) rfl
theorem q1042 : (Jvm.Cond.laysFinal "LinesPromised$Bill" "LinesPromised$Going" "scheme" "LLinesPromised$Scheme;") ∈ lw_all := lw_g (lw_at lw_m4 225 rfl) rfl
theorem q1043 : (Jvm.Cond.laysFinal "LinesPromised$Bill" "LinesPromised$Scheme" "from" "LLinesPromised$Town;") ∈ lw_all := lw_g (lw_at lw_m4 226 rfl) rfl
theorem q1044 : (Jvm.Cond.laysFinal "LinesPromised$Bill" "LinesPromised$Scheme" "to" "LLinesPromised$Town;") ∈ lw_all := lw_g (lw_at lw_m4 227 rfl) rfl
theorem q1045 : (Jvm.Cond.laysFinal "LinesPromised$Bill" "LinesPromised$Scheme" "gauge" "I") ∈ lw_all := lw_g (lw_at lw_m4 228 rfl) rfl
theorem q1046 : (Jvm.Cond.laysFinal "LinesPromised$Bill" "LinesPromised$Scheme" "shares" "I") ∈ lw_all := lw_g (lw_at lw_m4 229 rfl) rfl
theorem q1047 : (Jvm.Cond.laysFinal "LinesPromised$Bill" "LinesPromised$Scheme" "place" "I") ∈ lw_all := lw_g (lw_at lw_m4 230 rfl) rfl
theorem q1048 : (Jvm.Cond.lays "LinesPromised$Bill" "LinesPromised$Scheme" "coins" "J") ∈ lw_all := lw_g (lw_at lw_m4 231 rfl) rfl
theorem q1049 : (Jvm.Cond.lays "LinesPromised$Bill" "LinesPromised$Scheme" "fallen" "Z") ∈ lw_all := lw_g (lw_at lw_m4 232 rfl) rfl
theorem q1050 : (Jvm.Cond.lays "LinesPromised$Bill" "LinesPromised$Scheme" "price" "I") ∈ lw_all := lw_g (lw_at lw_m4 233 rfl) rfl
theorem q1051 : (Jvm.Cond.lays "LinesPromised$Bill" "LinesPromised$Scheme" "calledOn" "I") ∈ lw_all := lw_g (lw_at lw_m4 234 rfl) rfl
theorem q1052 : (Jvm.Cond.lays "LinesPromised$Bill" "LinesPromised$Scheme" "held" "[I") ∈ lw_all := lw_g (lw_at lw_m4 235 rfl) rfl
theorem q1053 : (Jvm.Cond.laysFinal "LinesPromised$Bill" "LinesPromised$Paper" "number" "I") ∈ lw_all := lw_g (lw_at lw_m4 236 rfl) rfl
theorem q1054 : (Jvm.Cond.laysFinal "LinesPromised$Bill" "LinesPromised$Paper" "day" "I") ∈ lw_all := lw_g (lw_at lw_m4 237 rfl) rfl
theorem q1055 : (Jvm.Cond.superclass "LinesPromised$Bill" "LinesPromised$Going") ∈ lw_all := lw_g (lw_at lw_m4 238 rfl) rfl
theorem q1114 : (Jvm.Cond.selects "LinesPromised$Bill" ({ cls := "LinesPromised$Paper", name := "isUnder", desc := "(I)Z" } : Jvm.MethodName) ({ cls := "LinesPromised$Scheme", name := "isUnder", desc := "(I)Z" } : Jvm.MethodName)) ∈ lw_all := lw_g (lw_at lw_m5 57 rfl) rfl
theorem q1131 : (Jvm.Cond.selects "LinesPromised$Bill" ({ cls := "LinesPromised$Paper", name := "kind", desc := "()I" } : Jvm.MethodName) ({ cls := "LinesPromised$Bill", name := "kind", desc := "()I" } : Jvm.MethodName)) ∈ lw_all := lw_g (lw_at lw_m5 74 rfl) rfl
theorem q1148 : (Jvm.Cond.selects "LinesPromised$Bill" ({ cls := "LinesPromised$Paper", name := "worth", desc := "()I" } : Jvm.MethodName) ({ cls := "LinesPromised$Bill", name := "worth", desc := "()I" } : Jvm.MethodName)) ∈ lw_all := lw_g (lw_at lw_m5 91 rfl) rfl
theorem q1149 : (Jvm.Cond.instanceMethod ({ cls := "LinesPromised$Bill", name := "worth", desc := "()I" } : Jvm.MethodName)) ∈ lw_all := lw_g (lw_at lw_m5 92 rfl) rfl
theorem q1150 : (Jvm.Cond.code ({ cls := "LinesPromised$Bill", name := "worth", desc := "()I" } : Jvm.MethodName) prog_2_method_4_code (1 : Nat) (Option.some Jvm.ClassFile.FieldType.int)) ∈ lw_all := lw_g (lw_at lw_m5 93 rfl) rfl
theorem q1151 : (Jvm.Cond.methodLink "LinesPromised$Bill" (28 : Nat) ({ cls := "LinesPromised$Plan", name := "worth", desc := "()I" } : Jvm.MethodName)) ∈ lw_all := lw_g (lw_at lw_m5 94 rfl) rfl
theorem q1184 : (Jvm.Cond.selects "LinesPromised$Bill" ({ cls := "LinesPromised$Paper", name := "of", desc := "()I" } : Jvm.MethodName) ({ cls := "LinesPromised$Bill", name := "of", desc := "()I" } : Jvm.MethodName)) ∈ lw_all := lw_g (lw_at lw_m5 127 rfl) rfl
theorem q1185 : (Jvm.Cond.instanceMethod ({ cls := "LinesPromised$Bill", name := "of", desc := "()I" } : Jvm.MethodName)) ∈ lw_all := lw_g (lw_at lw_m5 128 rfl) rfl
theorem q1186 : (Jvm.Cond.code ({ cls := "LinesPromised$Bill", name := "of", desc := "()I" } : Jvm.MethodName) prog_2_method_3_code (1 : Nat) (Option.some Jvm.ClassFile.FieldType.int)) ∈ lw_all := lw_g (lw_at lw_m5 129 rfl) rfl
theorem q1200 : (Jvm.Cond.selects "LinesPromised$Bill" ({ cls := "LinesPromised$Paper", name := "first", desc := "()I" } : Jvm.MethodName) ({ cls := "LinesPromised$Scheme", name := "first", desc := "()I" } : Jvm.MethodName)) ∈ lw_all := lw_g (lw_at lw_m5 143 rfl) rfl
theorem q1216 : (Jvm.Cond.selects "LinesPromised$Bill" ({ cls := "LinesPromised$Paper", name := "second", desc := "()I" } : Jvm.MethodName) ({ cls := "LinesPromised$Scheme", name := "second", desc := "()I" } : Jvm.MethodName)) ∈ lw_all := lw_g (lw_at lw_m5 159 rfl) rfl
theorem q1228 : (Jvm.Cond.selects "LinesPromised$Bill" ({ cls := "LinesPromised$Paper", name := "gauge", desc := "()I" } : Jvm.MethodName) ({ cls := "LinesPromised$Scheme", name := "gauge", desc := "()I" } : Jvm.MethodName)) ∈ lw_all := lw_g (lw_at lw_m5 171 rfl) rfl
theorem q1240 : (Jvm.Cond.selects "LinesPromised$Bill" ({ cls := "LinesPromised$Paper", name := "size", desc := "()I" } : Jvm.MethodName) ({ cls := "LinesPromised$Going", name := "size", desc := "()I" } : Jvm.MethodName)) ∈ lw_all := lw_g (lw_at lw_m5 183 rfl) rfl
theorem q1258 : (Jvm.Cond.selects "LinesPromised$Bill" ({ cls := "LinesPromised$Paper", name := "isDone", desc := "()Z" } : Jvm.MethodName) ({ cls := "LinesPromised$Bill", name := "isDone", desc := "()Z" } : Jvm.MethodName)) ∈ lw_all := lw_g (lw_at lw_m5 201 rfl) rfl
theorem q1259 : (Jvm.Cond.instanceMethod ({ cls := "LinesPromised$Bill", name := "isDone", desc := "()Z" } : Jvm.MethodName)) ∈ lw_all := lw_g (lw_at lw_m5 202 rfl) rfl
theorem q1260 : (Jvm.Cond.code ({ cls := "LinesPromised$Bill", name := "isDone", desc := "()Z" } : Jvm.MethodName) prog_2_method_5_code (1 : Nat) (Option.some Jvm.ClassFile.FieldType.boolean)) ∈ lw_all := lw_g (lw_at lw_m5 203 rfl) rfl
theorem q1319 : (Jvm.Cond.selects "LinesPromised$Bill" ({ cls := "LinesPromised$Scheme", name := "left", desc := "()I" } : Jvm.MethodName) ({ cls := "LinesPromised$Scheme", name := "left", desc := "()I" } : Jvm.MethodName)) ∈ lw_all := lw_g (lw_at lw_m6 22 rfl) rfl
theorem q1391 : (Jvm.Cond.selects "LinesPromised$Bill" ({ cls := "java/lang/Object", name := "equals", desc := "(Ljava/lang/Object;)Z" } : Jvm.MethodName) ({ cls := "java/lang/Object", name := "equals", desc := "(Ljava/lang/Object;)Z" } : Jvm.MethodName)) ∈ lw_all := lw_g (lw_at lw_m6 94 rfl) rfl
theorem q2419 : (Jvm.Cond.castable "LinesPromised$Bill" "LinesPromised$Paper") ∈ lw_tbl := lw_at lw_m10 162 rfl
theorem q2425 : (Jvm.Cond.castable "LinesPromised$Bill" "LinesPromised$Scheme") ∈ lw_tbl := lw_at lw_m10 168 rfl
theorem q2445 : (Jvm.Cond.castable "LinesPromised$Bill" "java/lang/Object") ∈ lw_tbl := lw_at lw_m10 188 rfl
theorem q131 : (Jvm.Cond.initialized "LinesPromised$Vote") ∈ lw_all := lw_g (lw_at lw_m1 34 rfl) rfl
theorem q252 : (Jvm.Cond.selects "LinesPromised$Vote" ({ cls := "java/lang/Object", name := "getClass", desc := "()Ljava/lang/Class;" } : Jvm.MethodName) ({ cls := "java/lang/Object", name := "getClass", desc := "()Ljava/lang/Class;" } : Jvm.MethodName)) ∈ lw_all := lw_g (lw_at lw_m1 155 rfl) rfl
theorem q1276 : (Jvm.Cond.instantiable "LinesPromised$Vote" (3 : Nat)) ∈ lw_all := lw_g (lw_at lw_m5 219 rfl) rfl
theorem q1278 : (Jvm.Cond.instanceMethod ({ cls := "LinesPromised$Vote", name := "<init>", desc := "(IIZ)V" } : Jvm.MethodName)) ∈ lw_all := lw_g (lw_at lw_m5 221 rfl) rfl
theorem q1279 : (Jvm.Cond.code ({ cls := "LinesPromised$Vote", name := "<init>", desc := "(IIZ)V" } : Jvm.MethodName) prog_26_method_1_code (4 : Nat) (Option.none : Option Jvm.ClassFile.FieldType)) ∈ lw_all := lw_g (lw_at lw_m5 222 rfl) rfl
theorem q1280 : (Jvm.Cond.methodLink "LinesPromised$Vote" (1 : Nat) ({ cls := "java/lang/Object", name := "<init>", desc := "()V" } : Jvm.MethodName)) ∈ lw_all := lw_g (lw_at lw_m5 223 rfl) rfl
theorem q1281 : (Jvm.Cond.fieldLink "LinesPromised$Vote" (7 : Nat) "LinesPromised$Vote" "holder" "I") ∈ lw_all := lw_g (lw_at lw_m5 224 rfl) rfl
theorem q1283 : (Jvm.Cond.fieldLink "LinesPromised$Vote" (13 : Nat) "LinesPromised$Vote" "bill" "I") ∈ lw_all := lw_g (lw_at lw_m5 226 rfl) rfl
theorem q1285 : (Jvm.Cond.fieldLink "LinesPromised$Vote" (16 : Nat) "LinesPromised$Vote" "yes" "Z") ∈ lw_all := lw_g (lw_at lw_m5 228 rfl) rfl
theorem q1287 : (Jvm.Cond.laysFinal "LinesPromised$Vote" "LinesPromised$Vote" "holder" "I") ∈ lw_all := lw_g (lw_at lw_m5 230 rfl) rfl
theorem q1288 : (Jvm.Cond.soleField "LinesPromised$Vote" "holder") ∈ lw_all := lw_g (lw_at lw_m5 231 rfl) rfl
theorem q1289 : (Jvm.Cond.laysFinal "LinesPromised$Vote" "LinesPromised$Vote" "bill" "I") ∈ lw_all := lw_g (lw_at lw_m5 232 rfl) rfl
theorem q1290 : (Jvm.Cond.soleField "LinesPromised$Vote" "bill") ∈ lw_all := lw_g (lw_at lw_m5 233 rfl) rfl
theorem q1291 : (Jvm.Cond.laysFinal "LinesPromised$Vote" "LinesPromised$Vote" "yes" "Z") ∈ lw_all := lw_g (lw_at lw_m5 234 rfl) rfl
theorem q1292 : (Jvm.Cond.soleField "LinesPromised$Vote" "yes") ∈ lw_all := lw_g (lw_at lw_m5 235 rfl) rfl
theorem q1293 : (Jvm.Cond.superclass "LinesPromised$Vote" "java/lang/Object") ∈ lw_all := lw_g (lw_at lw_m5 236 rfl) rfl
theorem q1411 : (Jvm.Cond.selects "LinesPromised$Vote" ({ cls := "java/lang/Object", name := "equals", desc := "(Ljava/lang/Object;)Z" } : Jvm.MethodName) ({ cls := "java/lang/Object", name := "equals", desc := "(Ljava/lang/Object;)Z" } : Jvm.MethodName)) ∈ lw_all := lw_g (lw_at lw_m6 114 rfl) rfl
theorem q2446 : (Jvm.Cond.castable "LinesPromised$Vote" "java/lang/Object") ∈ lw_tbl := lw_at lw_m10 189 rfl
theorem q103 : (Jvm.Cond.initialized "LinesPromisedModel") ∈ lw_all := lw_g (lw_at lw_m1 6 rfl) rfl
theorem q255 : (Jvm.Cond.selects "LinesPromisedModel" ({ cls := "java/lang/Object", name := "getClass", desc := "()Ljava/lang/Class;" } : Jvm.MethodName) ({ cls := "java/lang/Object", name := "getClass", desc := "()Ljava/lang/Class;" } : Jvm.MethodName)) ∈ lw_all := lw_g (lw_at lw_m1 158 rfl) rfl
theorem q1414 : (Jvm.Cond.selects "LinesPromisedModel" ({ cls := "java/lang/Object", name := "equals", desc := "(Ljava/lang/Object;)Z" } : Jvm.MethodName) ({ cls := "java/lang/Object", name := "equals", desc := "(Ljava/lang/Object;)Z" } : Jvm.MethodName)) ∈ lw_all := lw_g (lw_at lw_m6 117 rfl) rfl
theorem q1890 : (Jvm.Cond.instantiable "LinesPromisedModel" (21 : Nat)) ∈ lw_all := lw_g (lw_at lw_m8 113 rfl) rfl
theorem q1892 : (Jvm.Cond.instanceMethod ({ cls := "LinesPromisedModel", name := "<init>", desc := "()V" } : Jvm.MethodName)) ∈ lw_all := lw_g (lw_at lw_m8 115 rfl) rfl
theorem q1893 : (Jvm.Cond.code ({ cls := "LinesPromisedModel", name := "<init>", desc := "()V" } : Jvm.MethodName) prog_30_method_1_code (2 : Nat) (Option.none : Option Jvm.ClassFile.FieldType)) ∈ lw_all := lw_g (lw_at lw_m8 116 rfl) rfl
theorem q1894 : (Jvm.Cond.methodLink "LinesPromisedModel" (1 : Nat) ({ cls := "java/lang/Object", name := "<init>", desc := "()V" } : Jvm.MethodName)) ∈ lw_all := lw_g (lw_at lw_m8 117 rfl) rfl
theorem q1895 : (Jvm.Cond.constant "LinesPromisedModel" (7 : Nat) (83840 : Int32)) ∈ lw_all := lw_g (lw_at lw_m8 118 rfl) rfl
theorem q1896 : (Jvm.Cond.fieldLink "LinesPromisedModel" (8 : Nat) "LinesPromisedModel" "s" "[I") ∈ lw_all := lw_g (lw_at lw_m8 119 rfl) rfl
theorem q1897 : (Jvm.Cond.fieldLink "LinesPromisedModel" (14 : Nat) "LinesPromisedModel" "image" "[I") ∈ lw_all := lw_g (lw_at lw_m8 120 rfl) rfl
theorem q1898 : (Jvm.Cond.fieldLink "LinesPromisedModel" (280 : Nat) "LinesPromisedModel" "hasImage" "Z") ∈ lw_all := lw_g (lw_at lw_m8 121 rfl) rfl
theorem q1899 : (Jvm.Cond.fieldLink "LinesPromisedModel" (78 : Nat) "LinesPromisedModel" "act" "I") ∈ lw_all := lw_g (lw_at lw_m8 122 rfl) rfl
theorem q1900 : (Jvm.Cond.fieldLink "LinesPromisedModel" (75 : Nat) "LinesPromisedModel" "spot" "I") ∈ lw_all := lw_g (lw_at lw_m8 123 rfl) rfl
theorem q1901 : (Jvm.Cond.fieldLink "LinesPromisedModel" (81 : Nat) "LinesPromisedModel" "isWrong" "Z") ∈ lw_all := lw_g (lw_at lw_m8 124 rfl) rfl
theorem q1902 : (Jvm.Cond.fieldLink "LinesPromisedModel" (116 : Nat) "LinesPromisedModel" "open" "I") ∈ lw_all := lw_g (lw_at lw_m8 125 rfl) rfl
theorem q1903 : (Jvm.Cond.fieldLink "LinesPromisedModel" (17 : Nat) "LinesPromisedModel" "told6" "[I") ∈ lw_all := lw_g (lw_at lw_m8 126 rfl) rfl
theorem q1904 : (Jvm.Cond.fieldLink "LinesPromisedModel" (20 : Nat) "LinesPromisedModel" "left" "[I") ∈ lw_all := lw_g (lw_at lw_m8 127 rfl) rfl
theorem q1905 : (Jvm.Cond.fieldLink "LinesPromisedModel" (23 : Nat) "LinesPromisedModel" "ways" "[I") ∈ lw_all := lw_g (lw_at lw_m8 128 rfl) rfl
theorem q1906 : (Jvm.Cond.fieldLink "LinesPromisedModel" (26 : Nat) "LinesPromisedModel" "row" "[I") ∈ lw_all := lw_g (lw_at lw_m8 129 rfl) rfl
theorem q1907 : (Jvm.Cond.fieldLink "LinesPromisedModel" (29 : Nat) "LinesPromisedModel" "bestRow" "[I") ∈ lw_all := lw_g (lw_at lw_m8 130 rfl) rfl
theorem q1908 : (Jvm.Cond.fieldLink "LinesPromisedModel" (231 : Nat) "LinesPromisedModel" "bestMany" "I") ∈ lw_all := lw_g (lw_at lw_m8 131 rfl) rfl
theorem q1909 : (Jvm.Cond.fieldLink "LinesPromisedModel" (32 : Nat) "LinesPromisedModel" "owes" "[J") ∈ lw_all := lw_g (lw_at lw_m8 132 rfl) rfl
theorem q1910 : (Jvm.Cond.fieldLink "LinesPromisedModel" (36 : Nat) "LinesPromisedModel" "paid" "[J") ∈ lw_all := lw_g (lw_at lw_m8 133 rfl) rfl
theorem q1911 : (Jvm.Cond.fieldLink "LinesPromisedModel" (39 : Nat) "LinesPromisedModel" "fresh" "[J") ∈ lw_all := lw_g (lw_at lw_m8 134 rfl) rfl
theorem q1912 : (Jvm.Cond.fieldLink "LinesPromisedModel" (42 : Nat) "LinesPromisedModel" "has" "[J") ∈ lw_all := lw_g (lw_at lw_m8 135 rfl) rfl
theorem q1913 : (Jvm.Cond.fieldLink "LinesPromisedModel" (45 : Nat) "LinesPromisedModel" "owesAll" "[J") ∈ lw_all := lw_g (lw_at lw_m8 136 rfl) rfl
theorem q1914 : (Jvm.Cond.fieldLink "LinesPromisedModel" (48 : Nat) "LinesPromisedModel" "some" "[I") ∈ lw_all := lw_g (lw_at lw_m8 137 rfl) rfl
theorem q1915 : (Jvm.Cond.fieldLink "LinesPromisedModel" (51 : Nat) "LinesPromisedModel" "moving" "[I") ∈ lw_all := lw_g (lw_at lw_m8 138 rfl) rfl
theorem q1916 : (Jvm.Cond.lays "LinesPromisedModel" "LinesPromisedModel" "thrown" "I") ∈ lw_all := lw_g (lw_at lw_m8 139 rfl) rfl
theorem q1917 : (Jvm.Cond.soleField "LinesPromisedModel" "thrown") ∈ lw_all := lw_g (lw_at lw_m8 140 rfl) rfl
theorem q1918 : (Jvm.Cond.laysFinal "LinesPromisedModel" "LinesPromisedModel" "s" "[I") ∈ lw_all := lw_g (lw_at lw_m8 141 rfl) rfl
theorem q1919 : (Jvm.Cond.soleField "LinesPromisedModel" "s") ∈ lw_all := lw_g (lw_at lw_m8 142 rfl) rfl
theorem q1920 : (Jvm.Cond.laysFinal "LinesPromisedModel" "LinesPromisedModel" "image" "[I") ∈ lw_all := lw_g (lw_at lw_m8 143 rfl) rfl
theorem q1921 : (Jvm.Cond.soleField "LinesPromisedModel" "image") ∈ lw_all := lw_g (lw_at lw_m8 144 rfl) rfl
theorem q1922 : (Jvm.Cond.lays "LinesPromisedModel" "LinesPromisedModel" "hasImage" "Z") ∈ lw_all := lw_g (lw_at lw_m8 145 rfl) rfl
theorem q1923 : (Jvm.Cond.soleField "LinesPromisedModel" "hasImage") ∈ lw_all := lw_g (lw_at lw_m8 146 rfl) rfl
theorem q1924 : (Jvm.Cond.lays "LinesPromisedModel" "LinesPromisedModel" "act" "I") ∈ lw_all := lw_g (lw_at lw_m8 147 rfl) rfl
theorem q1925 : (Jvm.Cond.soleField "LinesPromisedModel" "act") ∈ lw_all := lw_g (lw_at lw_m8 148 rfl) rfl
theorem q1926 : (Jvm.Cond.lays "LinesPromisedModel" "LinesPromisedModel" "spot" "I") ∈ lw_all := lw_g (lw_at lw_m8 149 rfl) rfl
theorem q1927 : (Jvm.Cond.soleField "LinesPromisedModel" "spot") ∈ lw_all := lw_g (lw_at lw_m8 150 rfl) rfl
theorem q1928 : (Jvm.Cond.lays "LinesPromisedModel" "LinesPromisedModel" "isWrong" "Z") ∈ lw_all := lw_g (lw_at lw_m8 151 rfl) rfl
theorem q1929 : (Jvm.Cond.soleField "LinesPromisedModel" "isWrong") ∈ lw_all := lw_g (lw_at lw_m8 152 rfl) rfl
theorem q1930 : (Jvm.Cond.lays "LinesPromisedModel" "LinesPromisedModel" "open" "I") ∈ lw_all := lw_g (lw_at lw_m8 153 rfl) rfl
theorem q1931 : (Jvm.Cond.soleField "LinesPromisedModel" "open") ∈ lw_all := lw_g (lw_at lw_m8 154 rfl) rfl
theorem q1932 : (Jvm.Cond.laysFinal "LinesPromisedModel" "LinesPromisedModel" "told6" "[I") ∈ lw_all := lw_g (lw_at lw_m8 155 rfl) rfl
theorem q1933 : (Jvm.Cond.soleField "LinesPromisedModel" "told6") ∈ lw_all := lw_g (lw_at lw_m8 156 rfl) rfl
theorem q1934 : (Jvm.Cond.laysFinal "LinesPromisedModel" "LinesPromisedModel" "left" "[I") ∈ lw_all := lw_g (lw_at lw_m8 157 rfl) rfl
theorem q1935 : (Jvm.Cond.soleField "LinesPromisedModel" "left") ∈ lw_all := lw_g (lw_at lw_m8 158 rfl) rfl
theorem q1936 : (Jvm.Cond.laysFinal "LinesPromisedModel" "LinesPromisedModel" "ways" "[I") ∈ lw_all := lw_g (lw_at lw_m8 159 rfl) rfl
theorem q1937 : (Jvm.Cond.soleField "LinesPromisedModel" "ways") ∈ lw_all := lw_g (lw_at lw_m8 160 rfl) rfl
theorem q1938 : (Jvm.Cond.laysFinal "LinesPromisedModel" "LinesPromisedModel" "row" "[I") ∈ lw_all := lw_g (lw_at lw_m8 161 rfl) rfl
theorem q1939 : (Jvm.Cond.soleField "LinesPromisedModel" "row") ∈ lw_all := lw_g (lw_at lw_m8 162 rfl) rfl
theorem q1940 : (Jvm.Cond.laysFinal "LinesPromisedModel" "LinesPromisedModel" "bestRow" "[I") ∈ lw_all := lw_g (lw_at lw_m8 163 rfl) rfl
theorem q1941 : (Jvm.Cond.soleField "LinesPromisedModel" "bestRow") ∈ lw_all := lw_g (lw_at lw_m8 164 rfl) rfl
theorem q1942 : (Jvm.Cond.lays "LinesPromisedModel" "LinesPromisedModel" "bestMany" "I") ∈ lw_all := lw_g (lw_at lw_m8 165 rfl) rfl
theorem q1943 : (Jvm.Cond.soleField "LinesPromisedModel" "bestMany") ∈ lw_all := lw_g (lw_at lw_m8 166 rfl) rfl
theorem q1944 : (Jvm.Cond.laysFinal "LinesPromisedModel" "LinesPromisedModel" "owes" "[J") ∈ lw_all := lw_g (lw_at lw_m8 167 rfl) rfl
theorem q1945 : (Jvm.Cond.soleField "LinesPromisedModel" "owes") ∈ lw_all := lw_g (lw_at lw_m8 168 rfl) rfl
theorem q1946 : (Jvm.Cond.laysFinal "LinesPromisedModel" "LinesPromisedModel" "paid" "[J") ∈ lw_all := lw_g (lw_at lw_m8 169 rfl) rfl
theorem q1947 : (Jvm.Cond.soleField "LinesPromisedModel" "paid") ∈ lw_all := lw_g (lw_at lw_m8 170 rfl) rfl
theorem q1948 : (Jvm.Cond.laysFinal "LinesPromisedModel" "LinesPromisedModel" "fresh" "[J") ∈ lw_all := lw_g (lw_at lw_m8 171 rfl) rfl
theorem q1949 : (Jvm.Cond.soleField "LinesPromisedModel" "fresh") ∈ lw_all := lw_g (lw_at lw_m8 172 rfl) rfl
theorem q1950 : (Jvm.Cond.laysFinal "LinesPromisedModel" "LinesPromisedModel" "has" "[J") ∈ lw_all := lw_g (lw_at lw_m8 173 rfl) rfl
theorem q1951 : (Jvm.Cond.soleField "LinesPromisedModel" "has") ∈ lw_all := lw_g (lw_at lw_m8 174 rfl) rfl
theorem q1952 : (Jvm.Cond.laysFinal "LinesPromisedModel" "LinesPromisedModel" "owesAll" "[J") ∈ lw_all := lw_g (lw_at lw_m8 175 rfl) rfl
theorem q1953 : (Jvm.Cond.soleField "LinesPromisedModel" "owesAll") ∈ lw_all := lw_g (lw_at lw_m8 176 rfl) rfl
theorem q1954 : (Jvm.Cond.laysFinal "LinesPromisedModel" "LinesPromisedModel" "some" "[I") ∈ lw_all := lw_g (lw_at lw_m8 177 rfl) rfl
theorem q1955 : (Jvm.Cond.soleField "LinesPromisedModel" "some") ∈ lw_all := lw_g (lw_at lw_m8 178 rfl) rfl
theorem q1956 : (Jvm.Cond.laysFinal "LinesPromisedModel" "LinesPromisedModel" "moving" "[I") ∈ lw_all := lw_g (lw_at lw_m8 179 rfl) rfl
theorem q1957 : (Jvm.Cond.soleField "LinesPromisedModel" "moving") ∈ lw_all := lw_g (lw_at lw_m8 180 rfl) rfl
theorem q1958 : (Jvm.Cond.superclass "LinesPromisedModel" "java/lang/Object") ∈ lw_all := lw_g (lw_at lw_m8 181 rfl) rfl
theorem q1960 : (Jvm.Cond.instanceMethod ({ cls := "LinesPromisedModel", name := "land", desc := "(III)I" } : Jvm.MethodName)) ∈ lw_all := lw_g (lw_at lw_m8 183 rfl) rfl
theorem q1961 : (Jvm.Cond.selects "LinesPromisedModel" ({ cls := "LinesPromisedModel", name := "land", desc := "(III)I" } : Jvm.MethodName) ({ cls := "LinesPromisedModel", name := "land", desc := "(III)I" } : Jvm.MethodName)) ∈ lw_all := lw_g (lw_at lw_m8 184 rfl) rfl
theorem q1962 : (Jvm.Cond.code ({ cls := "LinesPromisedModel", name := "land", desc := "(III)I" } : Jvm.MethodName) prog_30_method_10_code (6 : Nat) (Option.some Jvm.ClassFile.FieldType.int)) ∈ lw_all := lw_g (lw_at lw_m8 185 rfl) rfl
theorem q1963 : (Jvm.Cond.methodLink "LinesPromisedModel" (66 : Nat) ({ cls := "LinesPromisedModel", name := "isCell", desc := "(I)Z" } : Jvm.MethodName)) ∈ lw_all := lw_g (lw_at lw_m8 186 rfl) rfl
theorem q1964 : (Jvm.Cond.static ({ cls := "LinesPromisedModel", name := "isCell", desc := "(I)Z" } : Jvm.MethodName)) ∈ lw_all := lw_g (lw_at lw_m8 187 rfl) rfl
theorem q1965 : (Jvm.Cond.code ({ cls := "LinesPromisedModel", name := "isCell", desc := "(I)Z" } : Jvm.MethodName) prog_30_method_4_code (1 : Nat) (Option.some Jvm.ClassFile.FieldType.boolean)) ∈ lw_all := lw_g (lw_at lw_m8 188 rfl) rfl
theorem q1966 : (Jvm.Cond.methodLink "LinesPromisedModel" (58 : Nat) ({ cls := "LinesPromisedModel", name := "in", desc := "(III)Z" } : Jvm.MethodName)) ∈ lw_all := lw_g (lw_at lw_m8 189 rfl) rfl
theorem q1967 : (Jvm.Cond.static ({ cls := "LinesPromisedModel", name := "in", desc := "(III)Z" } : Jvm.MethodName)) ∈ lw_all := lw_g (lw_at lw_m8 190 rfl) rfl
theorem q1968 : (Jvm.Cond.code ({ cls := "LinesPromisedModel", name := "in", desc := "(III)Z" } : Jvm.MethodName) prog_30_method_3_code (3 : Nat) (Option.some Jvm.ClassFile.FieldType.boolean)) ∈ lw_all := lw_g (lw_at lw_m8 191 rfl) rfl
theorem q1970 : (Jvm.Cond.instanceMethod ({ cls := "LinesPromisedModel", name := "town", desc := "(II)I" } : Jvm.MethodName)) ∈ lw_all := lw_g (lw_at lw_m8 193 rfl) rfl
theorem q1971 : (Jvm.Cond.selects "LinesPromisedModel" ({ cls := "LinesPromisedModel", name := "town", desc := "(II)I" } : Jvm.MethodName) ({ cls := "LinesPromisedModel", name := "town", desc := "(II)I" } : Jvm.MethodName)) ∈ lw_all := lw_g (lw_at lw_m8 194 rfl) rfl
theorem q1972 : (Jvm.Cond.code ({ cls := "LinesPromisedModel", name := "town", desc := "(II)I" } : Jvm.MethodName) prog_30_method_11_code (4 : Nat) (Option.some Jvm.ClassFile.FieldType.int)) ∈ lw_all := lw_g (lw_at lw_m8 195 rfl) rfl
theorem q1974 : (Jvm.Cond.instanceMethod ({ cls := "LinesPromisedModel", name := "coin", desc := "(II)I" } : Jvm.MethodName)) ∈ lw_all := lw_g (lw_at lw_m8 197 rfl) rfl
theorem q1975 : (Jvm.Cond.selects "LinesPromisedModel" ({ cls := "LinesPromisedModel", name := "coin", desc := "(II)I" } : Jvm.MethodName) ({ cls := "LinesPromisedModel", name := "coin", desc := "(II)I" } : Jvm.MethodName)) ∈ lw_all := lw_g (lw_at lw_m8 198 rfl) rfl
theorem q1976 : (Jvm.Cond.code ({ cls := "LinesPromisedModel", name := "coin", desc := "(II)I" } : Jvm.MethodName) prog_30_method_12_code (4 : Nat) (Option.some Jvm.ClassFile.FieldType.int)) ∈ lw_all := lw_g (lw_at lw_m8 199 rfl) rfl
theorem q1977 : (Jvm.Cond.methodLink "LinesPromisedModel" (69 : Nat) ({ cls := "LinesPromisedModel", name := "isHolder", desc := "(I)Z" } : Jvm.MethodName)) ∈ lw_all := lw_g (lw_at lw_m8 200 rfl) rfl
theorem q1978 : (Jvm.Cond.static ({ cls := "LinesPromisedModel", name := "isHolder", desc := "(I)Z" } : Jvm.MethodName)) ∈ lw_all := lw_g (lw_at lw_m8 201 rfl) rfl
theorem q1979 : (Jvm.Cond.code ({ cls := "LinesPromisedModel", name := "isHolder", desc := "(I)Z" } : Jvm.MethodName) prog_30_method_6_code (1 : Nat) (Option.some Jvm.ClassFile.FieldType.boolean)) ∈ lw_all := lw_g (lw_at lw_m8 202 rfl) rfl
theorem q1980 : (Jvm.Cond.constant "LinesPromisedModel" (72 : Nat) (99999 : Int32)) ∈ lw_all := lw_g (lw_at lw_m8 203 rfl) rfl
theorem q1982 : (Jvm.Cond.instanceMethod ({ cls := "LinesPromisedModel", name := "man", desc := "(I)I" } : Jvm.MethodName)) ∈ lw_all := lw_g (lw_at lw_m8 205 rfl) rfl
theorem q1983 : (Jvm.Cond.selects "LinesPromisedModel" ({ cls := "LinesPromisedModel", name := "man", desc := "(I)I" } : Jvm.MethodName) ({ cls := "LinesPromisedModel", name := "man", desc := "(I)I" } : Jvm.MethodName)) ∈ lw_all := lw_g (lw_at lw_m8 206 rfl) rfl
theorem q1984 : (Jvm.Cond.code ({ cls := "LinesPromisedModel", name := "man", desc := "(I)I" } : Jvm.MethodName) prog_30_method_13_code (3 : Nat) (Option.some Jvm.ClassFile.FieldType.int)) ∈ lw_all := lw_g (lw_at lw_m8 207 rfl) rfl
theorem q1986 : (Jvm.Cond.instanceMethod ({ cls := "LinesPromisedModel", name := "feed", desc := "(JI)I" } : Jvm.MethodName)) ∈ lw_all := lw_g (lw_at lw_m8 209 rfl) rfl
theorem q1987 : (Jvm.Cond.selects "LinesPromisedModel" ({ cls := "LinesPromisedModel", name := "feed", desc := "(JI)I" } : Jvm.MethodName) ({ cls := "LinesPromisedModel", name := "feed", desc := "(JI)I" } : Jvm.MethodName)) ∈ lw_all := lw_g (lw_at lw_m8 210 rfl) rfl
theorem q1988 : (Jvm.Cond.code ({ cls := "LinesPromisedModel", name := "feed", desc := "(JI)I" } : Jvm.MethodName) prog_30_method_14_code (5 : Nat) (Option.some Jvm.ClassFile.FieldType.int)) ∈ lw_all := lw_g (lw_at lw_m8 211 rfl) rfl
theorem q1989 : (Jvm.Cond.constantLong "LinesPromisedModel" (73 : Nat) (255 : Int64)) ∈ lw_all := lw_g (lw_at lw_m8 212 rfl) rfl
theorem q1991 : (Jvm.Cond.instanceMethod ({ cls := "LinesPromisedModel", name := "text", desc := "(I)I" } : Jvm.MethodName)) ∈ lw_all := lw_g (lw_at lw_m8 214 rfl) rfl
theorem q1992 : (Jvm.Cond.selects "LinesPromisedModel" ({ cls := "LinesPromisedModel", name := "text", desc := "(I)I" } : Jvm.MethodName) ({ cls := "LinesPromisedModel", name := "text", desc := "(I)I" } : Jvm.MethodName)) ∈ lw_all := lw_g (lw_at lw_m8 215 rfl) rfl
theorem q1993 : (Jvm.Cond.code ({ cls := "LinesPromisedModel", name := "text", desc := "(I)I" } : Jvm.MethodName) prog_30_method_25_code (2 : Nat) (Option.some Jvm.ClassFile.FieldType.int)) ∈ lw_all := lw_g (lw_at lw_m8 216 rfl) rfl
theorem q1994 : (Jvm.Cond.methodLink "LinesPromisedModel" (141 : Nat) ({ cls := "LinesPromisedModel", name := "isDay", desc := "(I)Z" } : Jvm.MethodName)) ∈ lw_all := lw_g (lw_at lw_m8 217 rfl) rfl
theorem q1995 : (Jvm.Cond.static ({ cls := "LinesPromisedModel", name := "isDay", desc := "(I)Z" } : Jvm.MethodName)) ∈ lw_all := lw_g (lw_at lw_m8 218 rfl) rfl
theorem q1996 : (Jvm.Cond.code ({ cls := "LinesPromisedModel", name := "isDay", desc := "(I)Z" } : Jvm.MethodName) prog_30_method_7_code (1 : Nat) (Option.some Jvm.ClassFile.FieldType.boolean)) ∈ lw_all := lw_g (lw_at lw_m8 219 rfl) rfl
theorem q1997 : (Jvm.Cond.methodLink "LinesPromisedModel" (144 : Nat) ({ cls := "LinesPromisedModel", name := "readsOrder", desc := "(II)Z" } : Jvm.MethodName)) ∈ lw_all := lw_g (lw_at lw_m8 220 rfl) rfl
theorem q1998 : (Jvm.Cond.privateMethod ({ cls := "LinesPromisedModel", name := "readsOrder", desc := "(II)Z" } : Jvm.MethodName)) ∈ lw_tbl := lw_at lw_m8 221 rfl
theorem q1999 : (Jvm.Cond.instanceMethod ({ cls := "LinesPromisedModel", name := "readsOrder", desc := "(II)Z" } : Jvm.MethodName)) ∈ lw_all := lw_g (lw_at lw_m8 222 rfl) rfl
theorem q2000 : (Jvm.Cond.code ({ cls := "LinesPromisedModel", name := "readsOrder", desc := "(II)Z" } : Jvm.MethodName) prog_30_method_24_code (4 : Nat) (Option.some Jvm.ClassFile.FieldType.boolean)) ∈ lw_all := lw_g (lw_at lw_m8 223 rfl) rfl
theorem q2001 : (Jvm.Cond.methodLink "LinesPromisedModel" (138 : Nat) ({ cls := "LinesPromisedModel", name := "reads", desc := "(I)V" } : Jvm.MethodName)) ∈ lw_all := lw_g (lw_at lw_m8 224 rfl) rfl
theorem q2002 : (Jvm.Cond.privateMethod ({ cls := "LinesPromisedModel", name := "reads", desc := "(I)V" } : Jvm.MethodName)) ∈ lw_tbl := lw_at lw_m8 225 rfl
theorem q2003 : (Jvm.Cond.instanceMethod ({ cls := "LinesPromisedModel", name := "reads", desc := "(I)V" } : Jvm.MethodName)) ∈ lw_all := lw_g (lw_at lw_m8 226 rfl) rfl
theorem q2004 : (Jvm.Cond.code ({ cls := "LinesPromisedModel", name := "reads", desc := "(I)V" } : Jvm.MethodName) prog_30_method_23_code (5 : Nat) (Option.none : Option Jvm.ClassFile.FieldType)) ∈ lw_all := lw_g (lw_at lw_m8 227 rfl) rfl
theorem q2005 : (Jvm.Cond.methodLink "LinesPromisedModel" (135 : Nat) ({ cls := "LinesPromisedModel", name := "oneWord", desc := "()I" } : Jvm.MethodName)) ∈ lw_all := lw_g (lw_at lw_m8 228 rfl) rfl
theorem q2006 : (Jvm.Cond.privateMethod ({ cls := "LinesPromisedModel", name := "oneWord", desc := "()I" } : Jvm.MethodName)) ∈ lw_tbl := lw_at lw_m8 229 rfl
theorem q2007 : (Jvm.Cond.instanceMethod ({ cls := "LinesPromisedModel", name := "oneWord", desc := "()I" } : Jvm.MethodName)) ∈ lw_all := lw_g (lw_at lw_m8 230 rfl) rfl
theorem q2008 : (Jvm.Cond.code ({ cls := "LinesPromisedModel", name := "oneWord", desc := "()I" } : Jvm.MethodName) prog_30_method_18_code (5 : Nat) (Option.some Jvm.ClassFile.FieldType.int)) ∈ lw_all := lw_g (lw_at lw_m8 231 rfl) rfl
theorem q2009 : (Jvm.Cond.methodLink "LinesPromisedModel" (103 : Nat) ({ cls := "LinesPromisedModel", name := "word", desc := "(I)Ljava/lang/String;" } : Jvm.MethodName)) ∈ lw_all := lw_g (lw_at lw_m8 232 rfl) rfl
theorem q2010 : (Jvm.Cond.static ({ cls := "LinesPromisedModel", name := "word", desc := "(I)Ljava/lang/String;" } : Jvm.MethodName)) ∈ lw_all := lw_g (lw_at lw_m8 233 rfl) rfl
theorem q2011 : (Jvm.Cond.code ({ cls := "LinesPromisedModel", name := "word", desc := "(I)Ljava/lang/String;" } : Jvm.MethodName) prog_30_method_17_code (1 : Nat) (Option.some (Jvm.ClassFile.FieldType.object "java/lang/String"))) ∈ lw_all := lw_g (lw_at lw_m8 234 rfl) rfl
theorem q2012 : (Jvm.Cond.stringRef "LinesPromisedModel" (89 : Nat) "slope ") ∈ lw_tbl := lw_at lw_m8 235 rfl
theorem q2013 : (Jvm.Cond.stringRef "LinesPromisedModel" (91 : Nat) "close ") ∈ lw_tbl := lw_at lw_m8 236 rfl
theorem q2014 : (Jvm.Cond.stringRef "LinesPromisedModel" (93 : Nat) "stroke ") ∈ lw_tbl := lw_at lw_m8 237 rfl
theorem q2015 : (Jvm.Cond.stringRef "LinesPromisedModel" (95 : Nat) "call ") ∈ lw_tbl := lw_at lw_m8 238 rfl
theorem q2016 : (Jvm.Cond.stringRef "LinesPromisedModel" (97 : Nat) "gap ") ∈ lw_tbl := lw_at lw_m8 239 rfl
theorem q2017 : (Jvm.Cond.stringRef "LinesPromisedModel" (99 : Nat) "park ") ∈ lw_tbl := lw_at lw_m9 0 rfl
theorem q2018 : (Jvm.Cond.stringRef "LinesPromisedModel" (101 : Nat) "let ") ∈ lw_tbl := lw_at lw_m9 1 rfl
theorem q2019 : (Jvm.Cond.methodLink "LinesPromisedModel" (107 : Nat) ({ cls := "java/lang/String", name := "length", desc := "()I" } : Jvm.MethodName)) ∈ lw_all := lw_g (lw_at lw_m9 2 rfl) rfl
theorem q2027 : (Jvm.Cond.methodLink "LinesPromisedModel" (112 : Nat) ({ cls := "java/lang/String", name := "charAt", desc := "(I)C" } : Jvm.MethodName)) ∈ lw_all := lw_g (lw_at lw_m9 10 rfl) rfl
theorem q2063 : (Jvm.Cond.methodLink "LinesPromisedModel" (85 : Nat) ({ cls := "LinesPromisedModel", name := "here", desc := "()I" } : Jvm.MethodName)) ∈ lw_all := lw_g (lw_at lw_m9 46 rfl) rfl
theorem q2064 : (Jvm.Cond.privateMethod ({ cls := "LinesPromisedModel", name := "here", desc := "()I" } : Jvm.MethodName)) ∈ lw_tbl := lw_at lw_m9 47 rfl
theorem q2065 : (Jvm.Cond.instanceMethod ({ cls := "LinesPromisedModel", name := "here", desc := "()I" } : Jvm.MethodName)) ∈ lw_all := lw_g (lw_at lw_m9 48 rfl) rfl
theorem q2066 : (Jvm.Cond.code ({ cls := "LinesPromisedModel", name := "here", desc := "()I" } : Jvm.MethodName) prog_30_method_15_code (1 : Nat) (Option.some Jvm.ClassFile.FieldType.int)) ∈ lw_all := lw_g (lw_at lw_m9 49 rfl) rfl
theorem q2067 : (Jvm.Cond.methodLink "LinesPromisedModel" (123 : Nat) ({ cls := "LinesPromisedModel", name := "some", desc := "()Z" } : Jvm.MethodName)) ∈ lw_all := lw_g (lw_at lw_m9 50 rfl) rfl
theorem q2068 : (Jvm.Cond.privateMethod ({ cls := "LinesPromisedModel", name := "some", desc := "()Z" } : Jvm.MethodName)) ∈ lw_tbl := lw_at lw_m9 51 rfl
theorem q2069 : (Jvm.Cond.instanceMethod ({ cls := "LinesPromisedModel", name := "some", desc := "()Z" } : Jvm.MethodName)) ∈ lw_all := lw_g (lw_at lw_m9 52 rfl) rfl
theorem q2070 : (Jvm.Cond.code ({ cls := "LinesPromisedModel", name := "some", desc := "()Z" } : Jvm.MethodName) prog_30_method_22_code (3 : Nat) (Option.some Jvm.ClassFile.FieldType.boolean)) ∈ lw_all := lw_g (lw_at lw_m9 53 rfl) rfl
theorem q2071 : (Jvm.Cond.methodLink "LinesPromisedModel" (132 : Nat) ({ cls := "LinesPromisedModel", name := "every", desc := "()Z" } : Jvm.MethodName)) ∈ lw_all := lw_g (lw_at lw_m9 54 rfl) rfl
theorem q2072 : (Jvm.Cond.privateMethod ({ cls := "LinesPromisedModel", name := "every", desc := "()Z" } : Jvm.MethodName)) ∈ lw_tbl := lw_at lw_m9 55 rfl
theorem q2073 : (Jvm.Cond.instanceMethod ({ cls := "LinesPromisedModel", name := "every", desc := "()Z" } : Jvm.MethodName)) ∈ lw_all := lw_g (lw_at lw_m9 56 rfl) rfl
theorem q2074 : (Jvm.Cond.code ({ cls := "LinesPromisedModel", name := "every", desc := "()Z" } : Jvm.MethodName) prog_30_method_21_code (3 : Nat) (Option.some Jvm.ClassFile.FieldType.boolean)) ∈ lw_all := lw_g (lw_at lw_m9 57 rfl) rfl
theorem q2075 : (Jvm.Cond.methodLink "LinesPromisedModel" (119 : Nat) ({ cls := "LinesPromisedModel", name := "factor", desc := "()Z" } : Jvm.MethodName)) ∈ lw_all := lw_g (lw_at lw_m9 58 rfl) rfl
theorem q2076 : (Jvm.Cond.privateMethod ({ cls := "LinesPromisedModel", name := "factor", desc := "()Z" } : Jvm.MethodName)) ∈ lw_tbl := lw_at lw_m9 59 rfl
theorem q2077 : (Jvm.Cond.instanceMethod ({ cls := "LinesPromisedModel", name := "factor", desc := "()Z" } : Jvm.MethodName)) ∈ lw_all := lw_g (lw_at lw_m9 60 rfl) rfl
theorem q2078 : (Jvm.Cond.code ({ cls := "LinesPromisedModel", name := "factor", desc := "()Z" } : Jvm.MethodName) prog_30_method_20_code (6 : Nat) (Option.some Jvm.ClassFile.FieldType.boolean)) ∈ lw_all := lw_g (lw_at lw_m9 61 rfl) rfl
theorem q2079 : (Jvm.Cond.methodLink "LinesPromisedModel" (125 : Nat) ({ cls := "LinesPromisedModel", name := "must", desc := "(I)V" } : Jvm.MethodName)) ∈ lw_all := lw_g (lw_at lw_m9 62 rfl) rfl
theorem q2080 : (Jvm.Cond.privateMethod ({ cls := "LinesPromisedModel", name := "must", desc := "(I)V" } : Jvm.MethodName)) ∈ lw_tbl := lw_at lw_m9 63 rfl
theorem q2081 : (Jvm.Cond.instanceMethod ({ cls := "LinesPromisedModel", name := "must", desc := "(I)V" } : Jvm.MethodName)) ∈ lw_all := lw_g (lw_at lw_m9 64 rfl) rfl
theorem q2082 : (Jvm.Cond.code ({ cls := "LinesPromisedModel", name := "must", desc := "(I)V" } : Jvm.MethodName) prog_30_method_16_code (2 : Nat) (Option.none : Option Jvm.ClassFile.FieldType)) ∈ lw_all := lw_g (lw_at lw_m9 65 rfl) rfl
theorem q2083 : (Jvm.Cond.methodLink "LinesPromisedModel" (129 : Nat) ({ cls := "LinesPromisedModel", name := "number", desc := "()I" } : Jvm.MethodName)) ∈ lw_all := lw_g (lw_at lw_m9 66 rfl) rfl
theorem q2084 : (Jvm.Cond.privateMethod ({ cls := "LinesPromisedModel", name := "number", desc := "()I" } : Jvm.MethodName)) ∈ lw_tbl := lw_at lw_m9 67 rfl
theorem q2085 : (Jvm.Cond.instanceMethod ({ cls := "LinesPromisedModel", name := "number", desc := "()I" } : Jvm.MethodName)) ∈ lw_all := lw_g (lw_at lw_m9 68 rfl) rfl
theorem q2086 : (Jvm.Cond.code ({ cls := "LinesPromisedModel", name := "number", desc := "()I" } : Jvm.MethodName) prog_30_method_19_code (3 : Nat) (Option.some Jvm.ClassFile.FieldType.int)) ∈ lw_all := lw_g (lw_at lw_m9 69 rfl) rfl
theorem q2088 : (Jvm.Cond.instanceMethod ({ cls := "LinesPromisedModel", name := "force", desc := "(II)I" } : Jvm.MethodName)) ∈ lw_all := lw_g (lw_at lw_m9 71 rfl) rfl
theorem q2089 : (Jvm.Cond.selects "LinesPromisedModel" ({ cls := "LinesPromisedModel", name := "force", desc := "(II)I" } : Jvm.MethodName) ({ cls := "LinesPromisedModel", name := "force", desc := "(II)I" } : Jvm.MethodName)) ∈ lw_all := lw_g (lw_at lw_m9 72 rfl) rfl
theorem q2090 : (Jvm.Cond.code ({ cls := "LinesPromisedModel", name := "force", desc := "(II)I" } : Jvm.MethodName) prog_30_method_28_code (3 : Nat) (Option.some Jvm.ClassFile.FieldType.int)) ∈ lw_all := lw_g (lw_at lw_m9 73 rfl) rfl
theorem q2091 : (Jvm.Cond.methodLink "LinesPromisedModel" (152 : Nat) ({ cls := "LinesPromisedModel", name := "rule", desc := "(II)I" } : Jvm.MethodName)) ∈ lw_all := lw_g (lw_at lw_m9 74 rfl) rfl
theorem q2092 : (Jvm.Cond.privateMethod ({ cls := "LinesPromisedModel", name := "rule", desc := "(II)I" } : Jvm.MethodName)) ∈ lw_tbl := lw_at lw_m9 75 rfl
theorem q2093 : (Jvm.Cond.instanceMethod ({ cls := "LinesPromisedModel", name := "rule", desc := "(II)I" } : Jvm.MethodName)) ∈ lw_all := lw_g (lw_at lw_m9 76 rfl) rfl
theorem q2094 : (Jvm.Cond.code ({ cls := "LinesPromisedModel", name := "rule", desc := "(II)I" } : Jvm.MethodName) prog_30_method_27_code (4 : Nat) (Option.some Jvm.ClassFile.FieldType.int)) ∈ lw_all := lw_g (lw_at lw_m9 77 rfl) rfl
theorem q2095 : (Jvm.Cond.methodLink "LinesPromisedModel" (148 : Nat) ({ cls := "LinesPromisedModel", name := "ruling", desc := "(II)I" } : Jvm.MethodName)) ∈ lw_all := lw_g (lw_at lw_m9 78 rfl) rfl
theorem q2096 : (Jvm.Cond.privateMethod ({ cls := "LinesPromisedModel", name := "ruling", desc := "(II)I" } : Jvm.MethodName)) ∈ lw_tbl := lw_at lw_m9 79 rfl
theorem q2097 : (Jvm.Cond.instanceMethod ({ cls := "LinesPromisedModel", name := "ruling", desc := "(II)I" } : Jvm.MethodName)) ∈ lw_all := lw_g (lw_at lw_m9 80 rfl) rfl
theorem q2098 : (Jvm.Cond.code ({ cls := "LinesPromisedModel", name := "ruling", desc := "(II)I" } : Jvm.MethodName) prog_30_method_26_code (7 : Nat) (Option.some Jvm.ClassFile.FieldType.int)) ∈ lw_all := lw_g (lw_at lw_m9 81 rfl) rfl
theorem q2100 : (Jvm.Cond.instanceMethod ({ cls := "LinesPromisedModel", name := "why", desc := "(II)I" } : Jvm.MethodName)) ∈ lw_all := lw_g (lw_at lw_m9 83 rfl) rfl
theorem q2101 : (Jvm.Cond.selects "LinesPromisedModel" ({ cls := "LinesPromisedModel", name := "why", desc := "(II)I" } : Jvm.MethodName) ({ cls := "LinesPromisedModel", name := "why", desc := "(II)I" } : Jvm.MethodName)) ∈ lw_all := lw_g (lw_at lw_m9 84 rfl) rfl
theorem q2102 : (Jvm.Cond.code ({ cls := "LinesPromisedModel", name := "why", desc := "(II)I" } : Jvm.MethodName) prog_30_method_29_code (4 : Nat) (Option.some Jvm.ClassFile.FieldType.int)) ∈ lw_all := lw_g (lw_at lw_m9 85 rfl) rfl
theorem q2104 : (Jvm.Cond.instanceMethod ({ cls := "LinesPromisedModel", name := "scheme", desc := "(IIII)I" } : Jvm.MethodName)) ∈ lw_all := lw_g (lw_at lw_m9 87 rfl) rfl
theorem q2105 : (Jvm.Cond.selects "LinesPromisedModel" ({ cls := "LinesPromisedModel", name := "scheme", desc := "(IIII)I" } : Jvm.MethodName) ({ cls := "LinesPromisedModel", name := "scheme", desc := "(IIII)I" } : Jvm.MethodName)) ∈ lw_all := lw_g (lw_at lw_m9 88 rfl) rfl
theorem q2106 : (Jvm.Cond.code ({ cls := "LinesPromisedModel", name := "scheme", desc := "(IIII)I" } : Jvm.MethodName) prog_30_method_31_code (8 : Nat) (Option.some Jvm.ClassFile.FieldType.int)) ∈ lw_all := lw_g (lw_at lw_m9 89 rfl) rfl
theorem q2107 : (Jvm.Cond.methodLink "LinesPromisedModel" (155 : Nat) ({ cls := "LinesPromisedModel", name := "isTown", desc := "(I)Z" } : Jvm.MethodName)) ∈ lw_all := lw_g (lw_at lw_m9 90 rfl) rfl
theorem q2108 : (Jvm.Cond.privateMethod ({ cls := "LinesPromisedModel", name := "isTown", desc := "(I)Z" } : Jvm.MethodName)) ∈ lw_tbl := lw_at lw_m9 91 rfl
theorem q2109 : (Jvm.Cond.instanceMethod ({ cls := "LinesPromisedModel", name := "isTown", desc := "(I)Z" } : Jvm.MethodName)) ∈ lw_all := lw_g (lw_at lw_m9 92 rfl) rfl
theorem q2110 : (Jvm.Cond.code ({ cls := "LinesPromisedModel", name := "isTown", desc := "(I)Z" } : Jvm.MethodName) prog_30_method_5_code (2 : Nat) (Option.some Jvm.ClassFile.FieldType.boolean)) ∈ lw_all := lw_g (lw_at lw_m9 93 rfl) rfl
theorem q2111 : (Jvm.Cond.methodLink "LinesPromisedModel" (158 : Nat) ({ cls := "LinesPromisedModel", name := "paper", desc := "(IIIIII)I" } : Jvm.MethodName)) ∈ lw_all := lw_g (lw_at lw_m9 94 rfl) rfl
theorem q2112 : (Jvm.Cond.privateMethod ({ cls := "LinesPromisedModel", name := "paper", desc := "(IIIIII)I" } : Jvm.MethodName)) ∈ lw_tbl := lw_at lw_m9 95 rfl
theorem q2113 : (Jvm.Cond.instanceMethod ({ cls := "LinesPromisedModel", name := "paper", desc := "(IIIIII)I" } : Jvm.MethodName)) ∈ lw_all := lw_g (lw_at lw_m9 96 rfl) rfl
theorem q2114 : (Jvm.Cond.code ({ cls := "LinesPromisedModel", name := "paper", desc := "(IIIIII)I" } : Jvm.MethodName) prog_30_method_30_code (8 : Nat) (Option.some Jvm.ClassFile.FieldType.int)) ∈ lw_all := lw_g (lw_at lw_m9 97 rfl) rfl
theorem q2116 : (Jvm.Cond.instanceMethod ({ cls := "LinesPromisedModel", name := "chain", desc := "(III)I" } : Jvm.MethodName)) ∈ lw_all := lw_g (lw_at lw_m9 99 rfl) rfl
theorem q2117 : (Jvm.Cond.selects "LinesPromisedModel" ({ cls := "LinesPromisedModel", name := "chain", desc := "(III)I" } : Jvm.MethodName) ({ cls := "LinesPromisedModel", name := "chain", desc := "(III)I" } : Jvm.MethodName)) ∈ lw_all := lw_g (lw_at lw_m9 100 rfl) rfl
theorem q2118 : (Jvm.Cond.code ({ cls := "LinesPromisedModel", name := "chain", desc := "(III)I" } : Jvm.MethodName) prog_30_method_37_code (11 : Nat) (Option.some Jvm.ClassFile.FieldType.int)) ∈ lw_all := lw_g (lw_at lw_m9 101 rfl) rfl
theorem q2119 : (Jvm.Cond.methodLink "LinesPromisedModel" (165 : Nat) ({ cls := "LinesPromisedModel", name := "isOf", desc := "(II)Z" } : Jvm.MethodName)) ∈ lw_all := lw_g (lw_at lw_m9 102 rfl) rfl
theorem q2120 : (Jvm.Cond.privateMethod ({ cls := "LinesPromisedModel", name := "isOf", desc := "(II)Z" } : Jvm.MethodName)) ∈ lw_tbl := lw_at lw_m9 103 rfl
theorem q2121 : (Jvm.Cond.instanceMethod ({ cls := "LinesPromisedModel", name := "isOf", desc := "(II)Z" } : Jvm.MethodName)) ∈ lw_all := lw_g (lw_at lw_m9 104 rfl) rfl
theorem q2122 : (Jvm.Cond.code ({ cls := "LinesPromisedModel", name := "isOf", desc := "(II)Z" } : Jvm.MethodName) prog_30_method_9_code (3 : Nat) (Option.some Jvm.ClassFile.FieldType.boolean)) ∈ lw_all := lw_g (lw_at lw_m9 105 rfl) rfl
theorem q2123 : (Jvm.Cond.methodLink "LinesPromisedModel" (62 : Nat) ({ cls := "LinesPromisedModel", name := "isPaper", desc := "(I)Z" } : Jvm.MethodName)) ∈ lw_all := lw_g (lw_at lw_m9 106 rfl) rfl
theorem q2124 : (Jvm.Cond.privateMethod ({ cls := "LinesPromisedModel", name := "isPaper", desc := "(I)Z" } : Jvm.MethodName)) ∈ lw_tbl := lw_at lw_m9 107 rfl
theorem q2125 : (Jvm.Cond.instanceMethod ({ cls := "LinesPromisedModel", name := "isPaper", desc := "(I)Z" } : Jvm.MethodName)) ∈ lw_all := lw_g (lw_at lw_m9 108 rfl) rfl
theorem q2126 : (Jvm.Cond.code ({ cls := "LinesPromisedModel", name := "isPaper", desc := "(I)Z" } : Jvm.MethodName) prog_30_method_8_code (2 : Nat) (Option.some Jvm.ClassFile.FieldType.boolean)) ∈ lw_all := lw_g (lw_at lw_m9 109 rfl) rfl
theorem q2127 : (Jvm.Cond.methodLink "LinesPromisedModel" (168 : Nat) ({ cls := "LinesPromisedModel", name := "isSheet", desc := "(I)Z" } : Jvm.MethodName)) ∈ lw_all := lw_g (lw_at lw_m9 110 rfl) rfl
theorem q2128 : (Jvm.Cond.static ({ cls := "LinesPromisedModel", name := "isSheet", desc := "(I)Z" } : Jvm.MethodName)) ∈ lw_all := lw_g (lw_at lw_m9 111 rfl) rfl
theorem q2129 : (Jvm.Cond.code ({ cls := "LinesPromisedModel", name := "isSheet", desc := "(I)Z" } : Jvm.MethodName) prog_30_method_34_code (1 : Nat) (Option.some Jvm.ClassFile.FieldType.boolean)) ∈ lw_all := lw_g (lw_at lw_m9 112 rfl) rfl
theorem q2130 : (Jvm.Cond.methodLink "LinesPromisedModel" (171 : Nat) ({ cls := "LinesPromisedModel", name := "isBeside", desc := "(II)Z" } : Jvm.MethodName)) ∈ lw_all := lw_g (lw_at lw_m9 113 rfl) rfl
theorem q2131 : (Jvm.Cond.static ({ cls := "LinesPromisedModel", name := "isBeside", desc := "(II)Z" } : Jvm.MethodName)) ∈ lw_all := lw_g (lw_at lw_m9 114 rfl) rfl
theorem q2132 : (Jvm.Cond.code ({ cls := "LinesPromisedModel", name := "isBeside", desc := "(II)Z" } : Jvm.MethodName) prog_30_method_33_code (4 : Nat) (Option.some Jvm.ClassFile.FieldType.boolean)) ∈ lw_all := lw_g (lw_at lw_m9 115 rfl) rfl
theorem q2133 : (Jvm.Cond.methodLink "LinesPromisedModel" (174 : Nat) ({ cls := "LinesPromisedModel", name := "isInWay", desc := "(II)Z" } : Jvm.MethodName)) ∈ lw_all := lw_g (lw_at lw_m9 116 rfl) rfl
theorem q2134 : (Jvm.Cond.privateMethod ({ cls := "LinesPromisedModel", name := "isInWay", desc := "(II)Z" } : Jvm.MethodName)) ∈ lw_tbl := lw_at lw_m9 117 rfl
theorem q2135 : (Jvm.Cond.instanceMethod ({ cls := "LinesPromisedModel", name := "isInWay", desc := "(II)Z" } : Jvm.MethodName)) ∈ lw_all := lw_g (lw_at lw_m9 118 rfl) rfl
theorem q2136 : (Jvm.Cond.code ({ cls := "LinesPromisedModel", name := "isInWay", desc := "(II)Z" } : Jvm.MethodName) prog_30_method_35_code (3 : Nat) (Option.some Jvm.ClassFile.FieldType.boolean)) ∈ lw_all := lw_g (lw_at lw_m9 119 rfl) rfl
theorem q2137 : (Jvm.Cond.methodLink "LinesPromisedModel" (162 : Nat) ({ cls := "LinesPromisedModel", name := "placeIn", desc := "(II)I" } : Jvm.MethodName)) ∈ lw_all := lw_g (lw_at lw_m9 120 rfl) rfl
theorem q2138 : (Jvm.Cond.privateMethod ({ cls := "LinesPromisedModel", name := "placeIn", desc := "(II)I" } : Jvm.MethodName)) ∈ lw_tbl := lw_at lw_m9 121 rfl
theorem q2139 : (Jvm.Cond.instanceMethod ({ cls := "LinesPromisedModel", name := "placeIn", desc := "(II)I" } : Jvm.MethodName)) ∈ lw_all := lw_g (lw_at lw_m9 122 rfl) rfl
theorem q2140 : (Jvm.Cond.code ({ cls := "LinesPromisedModel", name := "placeIn", desc := "(II)I" } : Jvm.MethodName) prog_30_method_36_code (4 : Nat) (Option.some Jvm.ClassFile.FieldType.int)) ∈ lw_all := lw_g (lw_at lw_m9 123 rfl) rfl
theorem q2141 : (Jvm.Cond.methodLink "LinesPromisedModel" (177 : Nat) ({ cls := "LinesPromisedModel", name := "levelOf", desc := "(III)I" } : Jvm.MethodName)) ∈ lw_all := lw_g (lw_at lw_m9 124 rfl) rfl
theorem q2142 : (Jvm.Cond.privateMethod ({ cls := "LinesPromisedModel", name := "levelOf", desc := "(III)I" } : Jvm.MethodName)) ∈ lw_tbl := lw_at lw_m9 125 rfl
theorem q2143 : (Jvm.Cond.instanceMethod ({ cls := "LinesPromisedModel", name := "levelOf", desc := "(III)I" } : Jvm.MethodName)) ∈ lw_all := lw_g (lw_at lw_m9 126 rfl) rfl
theorem q2144 : (Jvm.Cond.code ({ cls := "LinesPromisedModel", name := "levelOf", desc := "(III)I" } : Jvm.MethodName) prog_30_method_38_code (8 : Nat) (Option.some Jvm.ClassFile.FieldType.int)) ∈ lw_all := lw_g (lw_at lw_m9 127 rfl) rfl
theorem q2145 : (Jvm.Cond.constant "LinesPromisedModel" (181 : Nat) (-1000000 : Int32)) ∈ lw_all := lw_g (lw_at lw_m9 128 rfl) rfl
theorem q2146 : (Jvm.Cond.constant "LinesPromisedModel" (182 : Nat) (1000000 : Int32)) ∈ lw_all := lw_g (lw_at lw_m9 129 rfl) rfl
theorem q2148 : (Jvm.Cond.instanceMethod ({ cls := "LinesPromisedModel", name := "way", desc := "(II)I" } : Jvm.MethodName)) ∈ lw_all := lw_g (lw_at lw_m9 131 rfl) rfl
theorem q2149 : (Jvm.Cond.selects "LinesPromisedModel" ({ cls := "LinesPromisedModel", name := "way", desc := "(II)I" } : Jvm.MethodName) ({ cls := "LinesPromisedModel", name := "way", desc := "(II)I" } : Jvm.MethodName)) ∈ lw_all := lw_g (lw_at lw_m9 132 rfl) rfl
theorem q2150 : (Jvm.Cond.code ({ cls := "LinesPromisedModel", name := "way", desc := "(II)I" } : Jvm.MethodName) prog_30_method_42_code (3 : Nat) (Option.some Jvm.ClassFile.FieldType.int)) ∈ lw_all := lw_g (lw_at lw_m9 133 rfl) rfl
theorem q2151 : (Jvm.Cond.methodLink "LinesPromisedModel" (190 : Nat) ({ cls := "LinesPromisedModel", name := "yardsOf", desc := "(I)I" } : Jvm.MethodName)) ∈ lw_all := lw_g (lw_at lw_m9 134 rfl) rfl
theorem q2152 : (Jvm.Cond.privateMethod ({ cls := "LinesPromisedModel", name := "yardsOf", desc := "(I)I" } : Jvm.MethodName)) ∈ lw_tbl := lw_at lw_m9 135 rfl
theorem q2153 : (Jvm.Cond.instanceMethod ({ cls := "LinesPromisedModel", name := "yardsOf", desc := "(I)I" } : Jvm.MethodName)) ∈ lw_all := lw_g (lw_at lw_m9 136 rfl) rfl
theorem q2154 : (Jvm.Cond.code ({ cls := "LinesPromisedModel", name := "yardsOf", desc := "(I)I" } : Jvm.MethodName) prog_30_method_41_code (4 : Nat) (Option.some Jvm.ClassFile.FieldType.int)) ∈ lw_all := lw_g (lw_at lw_m9 137 rfl) rfl
theorem q2155 : (Jvm.Cond.methodLink "LinesPromisedModel" (187 : Nat) ({ cls := "LinesPromisedModel", name := "step", desc := "(II)I" } : Jvm.MethodName)) ∈ lw_all := lw_g (lw_at lw_m9 138 rfl) rfl
theorem q2156 : (Jvm.Cond.privateMethod ({ cls := "LinesPromisedModel", name := "step", desc := "(II)I" } : Jvm.MethodName)) ∈ lw_tbl := lw_at lw_m9 139 rfl
theorem q2157 : (Jvm.Cond.instanceMethod ({ cls := "LinesPromisedModel", name := "step", desc := "(II)I" } : Jvm.MethodName)) ∈ lw_all := lw_g (lw_at lw_m9 140 rfl) rfl
theorem q2158 : (Jvm.Cond.code ({ cls := "LinesPromisedModel", name := "step", desc := "(II)I" } : Jvm.MethodName) prog_30_method_40_code (3 : Nat) (Option.some Jvm.ClassFile.FieldType.int)) ∈ lw_all := lw_g (lw_at lw_m9 141 rfl) rfl
theorem q2159 : (Jvm.Cond.methodLink "LinesPromisedModel" (183 : Nat) ({ cls := "LinesPromisedModel", name := "size", desc := "(I)I" } : Jvm.MethodName)) ∈ lw_all := lw_g (lw_at lw_m9 142 rfl) rfl
theorem q2160 : (Jvm.Cond.static ({ cls := "LinesPromisedModel", name := "size", desc := "(I)I" } : Jvm.MethodName)) ∈ lw_all := lw_g (lw_at lw_m9 143 rfl) rfl
theorem q2161 : (Jvm.Cond.code ({ cls := "LinesPromisedModel", name := "size", desc := "(I)I" } : Jvm.MethodName) prog_30_method_39_code (1 : Nat) (Option.some Jvm.ClassFile.FieldType.int)) ∈ lw_all := lw_g (lw_at lw_m9 144 rfl) rfl
theorem q2163 : (Jvm.Cond.instanceMethod ({ cls := "LinesPromisedModel", name := "level", desc := "(II)I" } : Jvm.MethodName)) ∈ lw_all := lw_g (lw_at lw_m9 146 rfl) rfl
theorem q2164 : (Jvm.Cond.selects "LinesPromisedModel" ({ cls := "LinesPromisedModel", name := "level", desc := "(II)I" } : Jvm.MethodName) ({ cls := "LinesPromisedModel", name := "level", desc := "(II)I" } : Jvm.MethodName)) ∈ lw_all := lw_g (lw_at lw_m9 147 rfl) rfl
theorem q2165 : (Jvm.Cond.code ({ cls := "LinesPromisedModel", name := "level", desc := "(II)I" } : Jvm.MethodName) prog_30_method_43_code (3 : Nat) (Option.some Jvm.ClassFile.FieldType.int)) ∈ lw_all := lw_g (lw_at lw_m9 148 rfl) rfl
theorem q2167 : (Jvm.Cond.instanceMethod ({ cls := "LinesPromisedModel", name := "close", desc := "(III)I" } : Jvm.MethodName)) ∈ lw_all := lw_g (lw_at lw_m9 150 rfl) rfl
theorem q2168 : (Jvm.Cond.selects "LinesPromisedModel" ({ cls := "LinesPromisedModel", name := "close", desc := "(III)I" } : Jvm.MethodName) ({ cls := "LinesPromisedModel", name := "close", desc := "(III)I" } : Jvm.MethodName)) ∈ lw_all := lw_g (lw_at lw_m9 151 rfl) rfl
theorem q2169 : (Jvm.Cond.code ({ cls := "LinesPromisedModel", name := "close", desc := "(III)I" } : Jvm.MethodName) prog_30_method_46_code (4 : Nat) (Option.some Jvm.ClassFile.FieldType.int)) ∈ lw_all := lw_g (lw_at lw_m9 152 rfl) rfl
theorem q2170 : (Jvm.Cond.methodLink "LinesPromisedModel" (193 : Nat) ({ cls := "LinesPromisedModel", name := "notClose", desc := "(II)I" } : Jvm.MethodName)) ∈ lw_all := lw_g (lw_at lw_m9 153 rfl) rfl
theorem q2171 : (Jvm.Cond.privateMethod ({ cls := "LinesPromisedModel", name := "notClose", desc := "(II)I" } : Jvm.MethodName)) ∈ lw_tbl := lw_at lw_m9 154 rfl
theorem q2172 : (Jvm.Cond.instanceMethod ({ cls := "LinesPromisedModel", name := "notClose", desc := "(II)I" } : Jvm.MethodName)) ∈ lw_all := lw_g (lw_at lw_m9 155 rfl) rfl
theorem q2173 : (Jvm.Cond.code ({ cls := "LinesPromisedModel", name := "notClose", desc := "(II)I" } : Jvm.MethodName) prog_30_method_44_code (5 : Nat) (Option.some Jvm.ClassFile.FieldType.int)) ∈ lw_all := lw_g (lw_at lw_m9 156 rfl) rfl
theorem q2174 : (Jvm.Cond.methodLink "LinesPromisedModel" (196 : Nat) ({ cls := "LinesPromisedModel", name := "steep", desc := "(II)I" } : Jvm.MethodName)) ∈ lw_all := lw_g (lw_at lw_m9 157 rfl) rfl
theorem q2175 : (Jvm.Cond.privateMethod ({ cls := "LinesPromisedModel", name := "steep", desc := "(II)I" } : Jvm.MethodName)) ∈ lw_tbl := lw_at lw_m9 158 rfl
theorem q2176 : (Jvm.Cond.instanceMethod ({ cls := "LinesPromisedModel", name := "steep", desc := "(II)I" } : Jvm.MethodName)) ∈ lw_all := lw_g (lw_at lw_m9 159 rfl) rfl
theorem q2177 : (Jvm.Cond.code ({ cls := "LinesPromisedModel", name := "steep", desc := "(II)I" } : Jvm.MethodName) prog_30_method_45_code (4 : Nat) (Option.some Jvm.ClassFile.FieldType.int)) ∈ lw_all := lw_g (lw_at lw_m9 160 rfl) rfl
theorem q2179 : (Jvm.Cond.instanceMethod ({ cls := "LinesPromisedModel", name := "quarrel", desc := "(II)I" } : Jvm.MethodName)) ∈ lw_all := lw_g (lw_at lw_m9 162 rfl) rfl
theorem q2180 : (Jvm.Cond.selects "LinesPromisedModel" ({ cls := "LinesPromisedModel", name := "quarrel", desc := "(II)I" } : Jvm.MethodName) ({ cls := "LinesPromisedModel", name := "quarrel", desc := "(II)I" } : Jvm.MethodName)) ∈ lw_all := lw_g (lw_at lw_m9 163 rfl) rfl
theorem q2181 : (Jvm.Cond.code ({ cls := "LinesPromisedModel", name := "quarrel", desc := "(II)I" } : Jvm.MethodName) prog_30_method_47_code (8 : Nat) (Option.some Jvm.ClassFile.FieldType.int)) ∈ lw_all := lw_g (lw_at lw_m9 164 rfl) rfl
theorem q2183 : (Jvm.Cond.instanceMethod ({ cls := "LinesPromisedModel", name := "slope", desc := "(IIII)I" } : Jvm.MethodName)) ∈ lw_all := lw_g (lw_at lw_m9 166 rfl) rfl
theorem q2184 : (Jvm.Cond.selects "LinesPromisedModel" ({ cls := "LinesPromisedModel", name := "slope", desc := "(IIII)I" } : Jvm.MethodName) ({ cls := "LinesPromisedModel", name := "slope", desc := "(IIII)I" } : Jvm.MethodName)) ∈ lw_all := lw_g (lw_at lw_m9 167 rfl) rfl
theorem q2185 : (Jvm.Cond.code ({ cls := "LinesPromisedModel", name := "slope", desc := "(IIII)I" } : Jvm.MethodName) prog_30_method_50_code (10 : Nat) (Option.some Jvm.ClassFile.FieldType.int)) ∈ lw_all := lw_g (lw_at lw_m9 168 rfl) rfl
theorem q2186 : (Jvm.Cond.methodLink "LinesPromisedModel" (203 : Nat) ({ cls := "LinesPromisedModel", name := "works", desc := "(III)V" } : Jvm.MethodName)) ∈ lw_all := lw_g (lw_at lw_m9 169 rfl) rfl
theorem q2187 : (Jvm.Cond.privateMethod ({ cls := "LinesPromisedModel", name := "works", desc := "(III)V" } : Jvm.MethodName)) ∈ lw_tbl := lw_at lw_m9 170 rfl
theorem q2188 : (Jvm.Cond.instanceMethod ({ cls := "LinesPromisedModel", name := "works", desc := "(III)V" } : Jvm.MethodName)) ∈ lw_all := lw_g (lw_at lw_m9 171 rfl) rfl
theorem q2189 : (Jvm.Cond.code ({ cls := "LinesPromisedModel", name := "works", desc := "(III)V" } : Jvm.MethodName) prog_30_method_49_code (10 : Nat) (Option.none : Option Jvm.ClassFile.FieldType)) ∈ lw_all := lw_g (lw_at lw_m9 172 rfl) rfl
theorem q2190 : (Jvm.Cond.methodLink "LinesPromisedModel" (199 : Nat) ({ cls := "LinesPromisedModel", name := "canStep", desc := "(IIIII)Z" } : Jvm.MethodName)) ∈ lw_all := lw_g (lw_at lw_m9 173 rfl) rfl
theorem q2191 : (Jvm.Cond.privateMethod ({ cls := "LinesPromisedModel", name := "canStep", desc := "(IIIII)Z" } : Jvm.MethodName)) ∈ lw_tbl := lw_at lw_m9 174 rfl
theorem q2192 : (Jvm.Cond.instanceMethod ({ cls := "LinesPromisedModel", name := "canStep", desc := "(IIIII)Z" } : Jvm.MethodName)) ∈ lw_all := lw_g (lw_at lw_m9 175 rfl) rfl
theorem q2193 : (Jvm.Cond.code ({ cls := "LinesPromisedModel", name := "canStep", desc := "(IIIII)Z" } : Jvm.MethodName) prog_30_method_48_code (7 : Nat) (Option.some Jvm.ClassFile.FieldType.boolean)) ∈ lw_all := lw_g (lw_at lw_m9 176 rfl) rfl
theorem q2195 : (Jvm.Cond.instanceMethod ({ cls := "LinesPromisedModel", name := "claim", desc := "(II)I" } : Jvm.MethodName)) ∈ lw_all := lw_g (lw_at lw_m9 178 rfl) rfl
theorem q2196 : (Jvm.Cond.selects "LinesPromisedModel" ({ cls := "LinesPromisedModel", name := "claim", desc := "(II)I" } : Jvm.MethodName) ({ cls := "LinesPromisedModel", name := "claim", desc := "(II)I" } : Jvm.MethodName)) ∈ lw_all := lw_g (lw_at lw_m9 179 rfl) rfl
theorem q2197 : (Jvm.Cond.code ({ cls := "LinesPromisedModel", name := "claim", desc := "(II)I" } : Jvm.MethodName) prog_30_method_51_code (3 : Nat) (Option.some Jvm.ClassFile.FieldType.int)) ∈ lw_all := lw_g (lw_at lw_m9 180 rfl) rfl
theorem q2199 : (Jvm.Cond.instanceMethod ({ cls := "LinesPromisedModel", name := "bill", desc := "(I)I" } : Jvm.MethodName)) ∈ lw_all := lw_g (lw_at lw_m9 182 rfl) rfl
theorem q2200 : (Jvm.Cond.selects "LinesPromisedModel" ({ cls := "LinesPromisedModel", name := "bill", desc := "(I)I" } : Jvm.MethodName) ({ cls := "LinesPromisedModel", name := "bill", desc := "(I)I" } : Jvm.MethodName)) ∈ lw_all := lw_g (lw_at lw_m9 183 rfl) rfl
theorem q2201 : (Jvm.Cond.code ({ cls := "LinesPromisedModel", name := "bill", desc := "(I)I" } : Jvm.MethodName) prog_30_method_52_code (4 : Nat) (Option.some Jvm.ClassFile.FieldType.int)) ∈ lw_all := lw_g (lw_at lw_m9 184 rfl) rfl
theorem q2203 : (Jvm.Cond.instanceMethod ({ cls := "LinesPromisedModel", name := "hear", desc := "(II)I" } : Jvm.MethodName)) ∈ lw_all := lw_g (lw_at lw_m9 186 rfl) rfl
theorem q2204 : (Jvm.Cond.selects "LinesPromisedModel" ({ cls := "LinesPromisedModel", name := "hear", desc := "(II)I" } : Jvm.MethodName) ({ cls := "LinesPromisedModel", name := "hear", desc := "(II)I" } : Jvm.MethodName)) ∈ lw_all := lw_g (lw_at lw_m9 187 rfl) rfl
theorem q2205 : (Jvm.Cond.code ({ cls := "LinesPromisedModel", name := "hear", desc := "(II)I" } : Jvm.MethodName) prog_30_method_56_code (3 : Nat) (Option.some Jvm.ClassFile.FieldType.int)) ∈ lw_all := lw_g (lw_at lw_m9 188 rfl) rfl
theorem q2206 : (Jvm.Cond.methodLink "LinesPromisedModel" (213 : Nat) ({ cls := "LinesPromisedModel", name := "canBeLet", desc := "(II)Z" } : Jvm.MethodName)) ∈ lw_all := lw_g (lw_at lw_m9 189 rfl) rfl
theorem q2207 : (Jvm.Cond.privateMethod ({ cls := "LinesPromisedModel", name := "canBeLet", desc := "(II)Z" } : Jvm.MethodName)) ∈ lw_tbl := lw_at lw_m9 190 rfl
theorem q2208 : (Jvm.Cond.instanceMethod ({ cls := "LinesPromisedModel", name := "canBeLet", desc := "(II)Z" } : Jvm.MethodName)) ∈ lw_all := lw_g (lw_at lw_m9 191 rfl) rfl
theorem q2209 : (Jvm.Cond.code ({ cls := "LinesPromisedModel", name := "canBeLet", desc := "(II)Z" } : Jvm.MethodName) prog_30_method_55_code (4 : Nat) (Option.some Jvm.ClassFile.FieldType.boolean)) ∈ lw_all := lw_g (lw_at lw_m9 192 rfl) rfl
theorem q2210 : (Jvm.Cond.methodLink "LinesPromisedModel" (207 : Nat) ({ cls := "LinesPromisedModel", name := "inWay", desc := "(II)I" } : Jvm.MethodName)) ∈ lw_all := lw_g (lw_at lw_m9 193 rfl) rfl
theorem q2211 : (Jvm.Cond.privateMethod ({ cls := "LinesPromisedModel", name := "inWay", desc := "(II)I" } : Jvm.MethodName)) ∈ lw_tbl := lw_at lw_m9 194 rfl
theorem q2212 : (Jvm.Cond.instanceMethod ({ cls := "LinesPromisedModel", name := "inWay", desc := "(II)I" } : Jvm.MethodName)) ∈ lw_all := lw_g (lw_at lw_m9 195 rfl) rfl
theorem q2213 : (Jvm.Cond.code ({ cls := "LinesPromisedModel", name := "inWay", desc := "(II)I" } : Jvm.MethodName) prog_30_method_54_code (6 : Nat) (Option.some Jvm.ClassFile.FieldType.int)) ∈ lw_all := lw_g (lw_at lw_m9 196 rfl) rfl
theorem q2214 : (Jvm.Cond.methodLink "LinesPromisedModel" (210 : Nat) ({ cls := "LinesPromisedModel", name := "claims", desc := "(I)I" } : Jvm.MethodName)) ∈ lw_all := lw_g (lw_at lw_m9 197 rfl) rfl
theorem q2215 : (Jvm.Cond.privateMethod ({ cls := "LinesPromisedModel", name := "claims", desc := "(I)I" } : Jvm.MethodName)) ∈ lw_tbl := lw_at lw_m9 198 rfl
theorem q2216 : (Jvm.Cond.instanceMethod ({ cls := "LinesPromisedModel", name := "claims", desc := "(I)I" } : Jvm.MethodName)) ∈ lw_all := lw_g (lw_at lw_m9 199 rfl) rfl
theorem q2217 : (Jvm.Cond.code ({ cls := "LinesPromisedModel", name := "claims", desc := "(I)I" } : Jvm.MethodName) prog_30_method_53_code (5 : Nat) (Option.some Jvm.ClassFile.FieldType.int)) ∈ lw_all := lw_g (lw_at lw_m9 200 rfl) rfl
theorem q2219 : (Jvm.Cond.instanceMethod ({ cls := "LinesPromisedModel", name := "bar", desc := "(II)I" } : Jvm.MethodName)) ∈ lw_all := lw_g (lw_at lw_m9 202 rfl) rfl
theorem q2220 : (Jvm.Cond.selects "LinesPromisedModel" ({ cls := "LinesPromisedModel", name := "bar", desc := "(II)I" } : Jvm.MethodName) ({ cls := "LinesPromisedModel", name := "bar", desc := "(II)I" } : Jvm.MethodName)) ∈ lw_all := lw_g (lw_at lw_m9 203 rfl) rfl
theorem q2221 : (Jvm.Cond.code ({ cls := "LinesPromisedModel", name := "bar", desc := "(II)I" } : Jvm.MethodName) prog_30_method_58_code (4 : Nat) (Option.some Jvm.ClassFile.FieldType.int)) ∈ lw_all := lw_g (lw_at lw_m9 204 rfl) rfl
theorem q2222 : (Jvm.Cond.methodLink "LinesPromisedModel" (216 : Nat) ({ cls := "LinesPromisedModel", name := "isBarred", desc := "(II)Z" } : Jvm.MethodName)) ∈ lw_all := lw_g (lw_at lw_m9 205 rfl) rfl
theorem q2223 : (Jvm.Cond.privateMethod ({ cls := "LinesPromisedModel", name := "isBarred", desc := "(II)Z" } : Jvm.MethodName)) ∈ lw_tbl := lw_at lw_m9 206 rfl
theorem q2224 : (Jvm.Cond.instanceMethod ({ cls := "LinesPromisedModel", name := "isBarred", desc := "(II)Z" } : Jvm.MethodName)) ∈ lw_all := lw_g (lw_at lw_m9 207 rfl) rfl
theorem q2225 : (Jvm.Cond.code ({ cls := "LinesPromisedModel", name := "isBarred", desc := "(II)Z" } : Jvm.MethodName) prog_30_method_57_code (3 : Nat) (Option.some Jvm.ClassFile.FieldType.boolean)) ∈ lw_all := lw_g (lw_at lw_m9 208 rfl) rfl
theorem q2227 : (Jvm.Cond.instanceMethod ({ cls := "LinesPromisedModel", name := "grant", desc := "(I)I" } : Jvm.MethodName)) ∈ lw_all := lw_g (lw_at lw_m9 210 rfl) rfl
theorem q2228 : (Jvm.Cond.selects "LinesPromisedModel" ({ cls := "LinesPromisedModel", name := "grant", desc := "(I)I" } : Jvm.MethodName) ({ cls := "LinesPromisedModel", name := "grant", desc := "(I)I" } : Jvm.MethodName)) ∈ lw_all := lw_g (lw_at lw_m9 211 rfl) rfl
theorem q2229 : (Jvm.Cond.code ({ cls := "LinesPromisedModel", name := "grant", desc := "(I)I" } : Jvm.MethodName) prog_30_method_61_code (4 : Nat) (Option.some Jvm.ClassFile.FieldType.int)) ∈ lw_all := lw_g (lw_at lw_m9 212 rfl) rfl
theorem q2230 : (Jvm.Cond.methodLink "LinesPromisedModel" (219 : Nat) ({ cls := "LinesPromisedModel", name := "isGranted", desc := "(I)Z" } : Jvm.MethodName)) ∈ lw_all := lw_g (lw_at lw_m9 213 rfl) rfl
theorem q2231 : (Jvm.Cond.privateMethod ({ cls := "LinesPromisedModel", name := "isGranted", desc := "(I)Z" } : Jvm.MethodName)) ∈ lw_tbl := lw_at lw_m9 214 rfl
theorem q2232 : (Jvm.Cond.instanceMethod ({ cls := "LinesPromisedModel", name := "isGranted", desc := "(I)Z" } : Jvm.MethodName)) ∈ lw_all := lw_g (lw_at lw_m9 215 rfl) rfl
theorem q2233 : (Jvm.Cond.code ({ cls := "LinesPromisedModel", name := "isGranted", desc := "(I)Z" } : Jvm.MethodName) prog_30_method_59_code (2 : Nat) (Option.some Jvm.ClassFile.FieldType.boolean)) ∈ lw_all := lw_g (lw_at lw_m9 216 rfl) rfl
theorem q2234 : (Jvm.Cond.methodLink "LinesPromisedModel" (222 : Nat) ({ cls := "LinesPromisedModel", name := "granted", desc := "()I" } : Jvm.MethodName)) ∈ lw_all := lw_g (lw_at lw_m9 217 rfl) rfl
theorem q2235 : (Jvm.Cond.privateMethod ({ cls := "LinesPromisedModel", name := "granted", desc := "()I" } : Jvm.MethodName)) ∈ lw_tbl := lw_at lw_m9 218 rfl
theorem q2236 : (Jvm.Cond.instanceMethod ({ cls := "LinesPromisedModel", name := "granted", desc := "()I" } : Jvm.MethodName)) ∈ lw_all := lw_g (lw_at lw_m9 219 rfl) rfl
theorem q2237 : (Jvm.Cond.code ({ cls := "LinesPromisedModel", name := "granted", desc := "()I" } : Jvm.MethodName) prog_30_method_60_code (3 : Nat) (Option.some Jvm.ClassFile.FieldType.int)) ∈ lw_all := lw_g (lw_at lw_m9 220 rfl) rfl
theorem q2239 : (Jvm.Cond.instanceMethod ({ cls := "LinesPromisedModel", name := "cast", desc := "(II)I" } : Jvm.MethodName)) ∈ lw_all := lw_g (lw_at lw_m9 222 rfl) rfl
theorem q2240 : (Jvm.Cond.selects "LinesPromisedModel" ({ cls := "LinesPromisedModel", name := "cast", desc := "(II)I" } : Jvm.MethodName) ({ cls := "LinesPromisedModel", name := "cast", desc := "(II)I" } : Jvm.MethodName)) ∈ lw_all := lw_g (lw_at lw_m9 223 rfl) rfl
theorem q2241 : (Jvm.Cond.code ({ cls := "LinesPromisedModel", name := "cast", desc := "(II)I" } : Jvm.MethodName) prog_30_method_64_code (3 : Nat) (Option.some Jvm.ClassFile.FieldType.int)) ∈ lw_all := lw_g (lw_at lw_m9 224 rfl) rfl
theorem q2242 : (Jvm.Cond.methodLink "LinesPromisedModel" (228 : Nat) ({ cls := "LinesPromisedModel", name := "isUnder", desc := "(II)Z" } : Jvm.MethodName)) ∈ lw_all := lw_g (lw_at lw_m9 225 rfl) rfl
theorem q2243 : (Jvm.Cond.static ({ cls := "LinesPromisedModel", name := "isUnder", desc := "(II)Z" } : Jvm.MethodName)) ∈ lw_all := lw_g (lw_at lw_m9 226 rfl) rfl
theorem q2244 : (Jvm.Cond.code ({ cls := "LinesPromisedModel", name := "isUnder", desc := "(II)Z" } : Jvm.MethodName) prog_30_method_63_code (2 : Nat) (Option.some Jvm.ClassFile.FieldType.boolean)) ∈ lw_all := lw_g (lw_at lw_m9 227 rfl) rfl
theorem q2245 : (Jvm.Cond.methodLink "LinesPromisedModel" (225 : Nat) ({ cls := "LinesPromisedModel", name := "worth", desc := "(I)I" } : Jvm.MethodName)) ∈ lw_all := lw_g (lw_at lw_m9 228 rfl) rfl
theorem q2246 : (Jvm.Cond.privateMethod ({ cls := "LinesPromisedModel", name := "worth", desc := "(I)I" } : Jvm.MethodName)) ∈ lw_tbl := lw_at lw_m9 229 rfl
theorem q2247 : (Jvm.Cond.instanceMethod ({ cls := "LinesPromisedModel", name := "worth", desc := "(I)I" } : Jvm.MethodName)) ∈ lw_all := lw_g (lw_at lw_m9 230 rfl) rfl
theorem q2248 : (Jvm.Cond.code ({ cls := "LinesPromisedModel", name := "worth", desc := "(I)I" } : Jvm.MethodName) prog_30_method_62_code (2 : Nat) (Option.some Jvm.ClassFile.FieldType.int)) ∈ lw_all := lw_g (lw_at lw_m9 231 rfl) rfl
theorem q2250 : (Jvm.Cond.instanceMethod ({ cls := "LinesPromisedModel", name := "about", desc := "(II)I" } : Jvm.MethodName)) ∈ lw_all := lw_g (lw_at lw_m9 233 rfl) rfl
theorem q2251 : (Jvm.Cond.selects "LinesPromisedModel" ({ cls := "LinesPromisedModel", name := "about", desc := "(II)I" } : Jvm.MethodName) ({ cls := "LinesPromisedModel", name := "about", desc := "(II)I" } : Jvm.MethodName)) ∈ lw_all := lw_g (lw_at lw_m9 234 rfl) rfl
theorem q2252 : (Jvm.Cond.code ({ cls := "LinesPromisedModel", name := "about", desc := "(II)I" } : Jvm.MethodName) prog_30_method_65_code (4 : Nat) (Option.some Jvm.ClassFile.FieldType.int)) ∈ lw_all := lw_g (lw_at lw_m9 235 rfl) rfl
theorem q2254 : (Jvm.Cond.instanceMethod ({ cls := "LinesPromisedModel", name := "board", desc := "(IIZ)I" } : Jvm.MethodName)) ∈ lw_all := lw_g (lw_at lw_m9 237 rfl) rfl
theorem q2255 : (Jvm.Cond.selects "LinesPromisedModel" ({ cls := "LinesPromisedModel", name := "board", desc := "(IIZ)I" } : Jvm.MethodName) ({ cls := "LinesPromisedModel", name := "board", desc := "(IIZ)I" } : Jvm.MethodName)) ∈ lw_all := lw_g (lw_at lw_m9 238 rfl) rfl
theorem q2256 : (Jvm.Cond.code ({ cls := "LinesPromisedModel", name := "board", desc := "(IIZ)I" } : Jvm.MethodName) prog_30_method_66_code (4 : Nat) (Option.some Jvm.ClassFile.FieldType.int)) ∈ lw_all := lw_g (lw_at lw_m9 239 rfl) rfl
theorem q2258 : (Jvm.Cond.instanceMethod ({ cls := "LinesPromisedModel", name := "doubled", desc := "()I" } : Jvm.MethodName)) ∈ lw_all := lw_g (lw_at lw_m10 1 rfl) rfl
theorem q2259 : (Jvm.Cond.selects "LinesPromisedModel" ({ cls := "LinesPromisedModel", name := "doubled", desc := "()I" } : Jvm.MethodName) ({ cls := "LinesPromisedModel", name := "doubled", desc := "()I" } : Jvm.MethodName)) ∈ lw_all := lw_g (lw_at lw_m10 2 rfl) rfl
theorem q2260 : (Jvm.Cond.code ({ cls := "LinesPromisedModel", name := "doubled", desc := "()I" } : Jvm.MethodName) prog_30_method_67_code (5 : Nat) (Option.some Jvm.ClassFile.FieldType.int)) ∈ lw_all := lw_g (lw_at lw_m10 3 rfl) rfl
theorem q2262 : (Jvm.Cond.instanceMethod ({ cls := "LinesPromisedModel", name := "hand", desc := "(II)I" } : Jvm.MethodName)) ∈ lw_all := lw_g (lw_at lw_m10 5 rfl) rfl
theorem q2263 : (Jvm.Cond.selects "LinesPromisedModel" ({ cls := "LinesPromisedModel", name := "hand", desc := "(II)I" } : Jvm.MethodName) ({ cls := "LinesPromisedModel", name := "hand", desc := "(II)I" } : Jvm.MethodName)) ∈ lw_all := lw_g (lw_at lw_m10 6 rfl) rfl
theorem q2264 : (Jvm.Cond.code ({ cls := "LinesPromisedModel", name := "hand", desc := "(II)I" } : Jvm.MethodName) prog_30_method_68_code (3 : Nat) (Option.some Jvm.ClassFile.FieldType.int)) ∈ lw_all := lw_g (lw_at lw_m10 7 rfl) rfl
theorem q2266 : (Jvm.Cond.instanceMethod ({ cls := "LinesPromisedModel", name := "midnight", desc := "(II)I" } : Jvm.MethodName)) ∈ lw_all := lw_g (lw_at lw_m10 9 rfl) rfl
theorem q2267 : (Jvm.Cond.selects "LinesPromisedModel" ({ cls := "LinesPromisedModel", name := "midnight", desc := "(II)I" } : Jvm.MethodName) ({ cls := "LinesPromisedModel", name := "midnight", desc := "(II)I" } : Jvm.MethodName)) ∈ lw_all := lw_g (lw_at lw_m10 10 rfl) rfl
theorem q2268 : (Jvm.Cond.code ({ cls := "LinesPromisedModel", name := "midnight", desc := "(II)I" } : Jvm.MethodName) prog_30_method_70_code (3 : Nat) (Option.some Jvm.ClassFile.FieldType.int)) ∈ lw_all := lw_g (lw_at lw_m10 11 rfl) rfl
theorem q2269 : (Jvm.Cond.methodLink "LinesPromisedModel" (234 : Nat) ({ cls := "LinesPromisedModel", name := "does", desc := "(IIIII)V" } : Jvm.MethodName)) ∈ lw_all := lw_g (lw_at lw_m10 12 rfl) rfl
theorem q2270 : (Jvm.Cond.privateMethod ({ cls := "LinesPromisedModel", name := "does", desc := "(IIIII)V" } : Jvm.MethodName)) ∈ lw_tbl := lw_at lw_m10 13 rfl
theorem q2271 : (Jvm.Cond.instanceMethod ({ cls := "LinesPromisedModel", name := "does", desc := "(IIIII)V" } : Jvm.MethodName)) ∈ lw_all := lw_g (lw_at lw_m10 14 rfl) rfl
theorem q2272 : (Jvm.Cond.code ({ cls := "LinesPromisedModel", name := "does", desc := "(IIIII)V" } : Jvm.MethodName) prog_30_method_69_code (9 : Nat) (Option.none : Option Jvm.ClassFile.FieldType)) ∈ lw_all := lw_g (lw_at lw_m10 15 rfl) rfl
theorem q2274 : (Jvm.Cond.instanceMethod ({ cls := "LinesPromisedModel", name := "scrip", desc := "(III)I" } : Jvm.MethodName)) ∈ lw_all := lw_g (lw_at lw_m10 17 rfl) rfl
theorem q2275 : (Jvm.Cond.selects "LinesPromisedModel" ({ cls := "LinesPromisedModel", name := "scrip", desc := "(III)I" } : Jvm.MethodName) ({ cls := "LinesPromisedModel", name := "scrip", desc := "(III)I" } : Jvm.MethodName)) ∈ lw_all := lw_g (lw_at lw_m10 18 rfl) rfl
theorem q2276 : (Jvm.Cond.code ({ cls := "LinesPromisedModel", name := "scrip", desc := "(III)I" } : Jvm.MethodName) prog_30_method_74_code (4 : Nat) (Option.some Jvm.ClassFile.FieldType.int)) ∈ lw_all := lw_g (lw_at lw_m10 19 rfl) rfl
theorem q2277 : (Jvm.Cond.methodLink "LinesPromisedModel" (241 : Nat) ({ cls := "LinesPromisedModel", name := "isScheme", desc := "(I)Z" } : Jvm.MethodName)) ∈ lw_all := lw_g (lw_at lw_m10 20 rfl) rfl
theorem q2278 : (Jvm.Cond.privateMethod ({ cls := "LinesPromisedModel", name := "isScheme", desc := "(I)Z" } : Jvm.MethodName)) ∈ lw_tbl := lw_at lw_m10 21 rfl
theorem q2279 : (Jvm.Cond.instanceMethod ({ cls := "LinesPromisedModel", name := "isScheme", desc := "(I)Z" } : Jvm.MethodName)) ∈ lw_all := lw_g (lw_at lw_m10 22 rfl) rfl
theorem q2280 : (Jvm.Cond.code ({ cls := "LinesPromisedModel", name := "isScheme", desc := "(I)Z" } : Jvm.MethodName) prog_30_method_71_code (2 : Nat) (Option.some Jvm.ClassFile.FieldType.boolean)) ∈ lw_all := lw_g (lw_at lw_m10 23 rfl) rfl
theorem q2281 : (Jvm.Cond.methodLink "LinesPromisedModel" (244 : Nat) ({ cls := "LinesPromisedModel", name := "isFallen", desc := "(I)Z" } : Jvm.MethodName)) ∈ lw_all := lw_g (lw_at lw_m10 24 rfl) rfl
theorem q2282 : (Jvm.Cond.privateMethod ({ cls := "LinesPromisedModel", name := "isFallen", desc := "(I)Z" } : Jvm.MethodName)) ∈ lw_tbl := lw_at lw_m10 25 rfl
theorem q2283 : (Jvm.Cond.instanceMethod ({ cls := "LinesPromisedModel", name := "isFallen", desc := "(I)Z" } : Jvm.MethodName)) ∈ lw_all := lw_g (lw_at lw_m10 26 rfl) rfl
theorem q2284 : (Jvm.Cond.code ({ cls := "LinesPromisedModel", name := "isFallen", desc := "(I)Z" } : Jvm.MethodName) prog_30_method_72_code (2 : Nat) (Option.some Jvm.ClassFile.FieldType.boolean)) ∈ lw_all := lw_g (lw_at lw_m10 27 rfl) rfl
theorem q2285 : (Jvm.Cond.methodLink "LinesPromisedModel" (247 : Nat) ({ cls := "LinesPromisedModel", name := "sharesAt", desc := "(II)I" } : Jvm.MethodName)) ∈ lw_all := lw_g (lw_at lw_m10 28 rfl) rfl
theorem q2286 : (Jvm.Cond.privateMethod ({ cls := "LinesPromisedModel", name := "sharesAt", desc := "(II)I" } : Jvm.MethodName)) ∈ lw_tbl := lw_at lw_m10 29 rfl
theorem q2287 : (Jvm.Cond.instanceMethod ({ cls := "LinesPromisedModel", name := "sharesAt", desc := "(II)I" } : Jvm.MethodName)) ∈ lw_all := lw_g (lw_at lw_m10 30 rfl) rfl
theorem q2288 : (Jvm.Cond.code ({ cls := "LinesPromisedModel", name := "sharesAt", desc := "(II)I" } : Jvm.MethodName) prog_30_method_73_code (3 : Nat) (Option.some Jvm.ClassFile.FieldType.int)) ∈ lw_all := lw_g (lw_at lw_m10 31 rfl) rfl
theorem q2289 : (Jvm.Cond.methodLink "LinesPromisedModel" (238 : Nat) ({ cls := "LinesPromisedModel", name := "indexOf", desc := "(I)I" } : Jvm.MethodName)) ∈ lw_all := lw_g (lw_at lw_m10 32 rfl) rfl
theorem q2290 : (Jvm.Cond.privateMethod ({ cls := "LinesPromisedModel", name := "indexOf", desc := "(I)I" } : Jvm.MethodName)) ∈ lw_tbl := lw_at lw_m10 33 rfl
theorem q2291 : (Jvm.Cond.instanceMethod ({ cls := "LinesPromisedModel", name := "indexOf", desc := "(I)I" } : Jvm.MethodName)) ∈ lw_all := lw_g (lw_at lw_m10 34 rfl) rfl
theorem q2292 : (Jvm.Cond.code ({ cls := "LinesPromisedModel", name := "indexOf", desc := "(I)I" } : Jvm.MethodName) prog_30_method_32_code (3 : Nat) (Option.some Jvm.ClassFile.FieldType.int)) ∈ lw_all := lw_g (lw_at lw_m10 35 rfl) rfl
theorem q2294 : (Jvm.Cond.instanceMethod ({ cls := "LinesPromisedModel", name := "held", desc := "(II)I" } : Jvm.MethodName)) ∈ lw_all := lw_g (lw_at lw_m10 37 rfl) rfl
theorem q2295 : (Jvm.Cond.selects "LinesPromisedModel" ({ cls := "LinesPromisedModel", name := "held", desc := "(II)I" } : Jvm.MethodName) ({ cls := "LinesPromisedModel", name := "held", desc := "(II)I" } : Jvm.MethodName)) ∈ lw_all := lw_g (lw_at lw_m10 38 rfl) rfl
theorem q2296 : (Jvm.Cond.code ({ cls := "LinesPromisedModel", name := "held", desc := "(II)I" } : Jvm.MethodName) prog_30_method_75_code (3 : Nat) (Option.some Jvm.ClassFile.FieldType.int)) ∈ lw_all := lw_g (lw_at lw_m10 39 rfl) rfl
theorem q2298 : (Jvm.Cond.instanceMethod ({ cls := "LinesPromisedModel", name := "purse", desc := "(II)I" } : Jvm.MethodName)) ∈ lw_all := lw_g (lw_at lw_m10 41 rfl) rfl
theorem q2299 : (Jvm.Cond.selects "LinesPromisedModel" ({ cls := "LinesPromisedModel", name := "purse", desc := "(II)I" } : Jvm.MethodName) ({ cls := "LinesPromisedModel", name := "purse", desc := "(II)I" } : Jvm.MethodName)) ∈ lw_all := lw_g (lw_at lw_m10 42 rfl) rfl
theorem q2300 : (Jvm.Cond.code ({ cls := "LinesPromisedModel", name := "purse", desc := "(II)I" } : Jvm.MethodName) prog_30_method_76_code (3 : Nat) (Option.some Jvm.ClassFile.FieldType.int)) ∈ lw_all := lw_g (lw_at lw_m10 43 rfl) rfl
theorem q2302 : (Jvm.Cond.instanceMethod ({ cls := "LinesPromisedModel", name := "ask", desc := "(IIIIZ)I" } : Jvm.MethodName)) ∈ lw_all := lw_g (lw_at lw_m10 45 rfl) rfl
theorem q2303 : (Jvm.Cond.selects "LinesPromisedModel" ({ cls := "LinesPromisedModel", name := "ask", desc := "(IIIIZ)I" } : Jvm.MethodName) ({ cls := "LinesPromisedModel", name := "ask", desc := "(IIIIZ)I" } : Jvm.MethodName)) ∈ lw_all := lw_g (lw_at lw_m10 46 rfl) rfl
theorem q2304 : (Jvm.Cond.code ({ cls := "LinesPromisedModel", name := "ask", desc := "(IIIIZ)I" } : Jvm.MethodName) prog_30_method_77_code (7 : Nat) (Option.some Jvm.ClassFile.FieldType.int)) ∈ lw_all := lw_g (lw_at lw_m10 47 rfl) rfl
theorem q2306 : (Jvm.Cond.instanceMethod ({ cls := "LinesPromisedModel", name := "price", desc := "(I)I" } : Jvm.MethodName)) ∈ lw_all := lw_g (lw_at lw_m10 49 rfl) rfl
theorem q2307 : (Jvm.Cond.selects "LinesPromisedModel" ({ cls := "LinesPromisedModel", name := "price", desc := "(I)I" } : Jvm.MethodName) ({ cls := "LinesPromisedModel", name := "price", desc := "(I)I" } : Jvm.MethodName)) ∈ lw_all := lw_g (lw_at lw_m10 50 rfl) rfl
theorem q2308 : (Jvm.Cond.code ({ cls := "LinesPromisedModel", name := "price", desc := "(I)I" } : Jvm.MethodName) prog_30_method_79_code (9 : Nat) (Option.some Jvm.ClassFile.FieldType.int)) ∈ lw_all := lw_g (lw_at lw_m10 51 rfl) rfl
theorem q2309 : (Jvm.Cond.methodLink "LinesPromisedModel" (250 : Nat) ({ cls := "LinesPromisedModel", name := "bestOf", desc := "(II)I" } : Jvm.MethodName)) ∈ lw_all := lw_g (lw_at lw_m10 52 rfl) rfl
theorem q2310 : (Jvm.Cond.privateMethod ({ cls := "LinesPromisedModel", name := "bestOf", desc := "(II)I" } : Jvm.MethodName)) ∈ lw_tbl := lw_at lw_m10 53 rfl
theorem q2311 : (Jvm.Cond.instanceMethod ({ cls := "LinesPromisedModel", name := "bestOf", desc := "(II)I" } : Jvm.MethodName)) ∈ lw_all := lw_g (lw_at lw_m10 54 rfl) rfl
theorem q2312 : (Jvm.Cond.code ({ cls := "LinesPromisedModel", name := "bestOf", desc := "(II)I" } : Jvm.MethodName) prog_30_method_78_code (7 : Nat) (Option.some Jvm.ClassFile.FieldType.int)) ∈ lw_all := lw_g (lw_at lw_m10 55 rfl) rfl
theorem q2314 : (Jvm.Cond.instanceMethod ({ cls := "LinesPromisedModel", name := "read", desc := "(I)I" } : Jvm.MethodName)) ∈ lw_all := lw_g (lw_at lw_m10 57 rfl) rfl
theorem q2315 : (Jvm.Cond.selects "LinesPromisedModel" ({ cls := "LinesPromisedModel", name := "read", desc := "(I)I" } : Jvm.MethodName) ({ cls := "LinesPromisedModel", name := "read", desc := "(I)I" } : Jvm.MethodName)) ∈ lw_all := lw_g (lw_at lw_m10 58 rfl) rfl
theorem q2316 : (Jvm.Cond.code ({ cls := "LinesPromisedModel", name := "read", desc := "(I)I" } : Jvm.MethodName) prog_30_method_80_code (2 : Nat) (Option.some Jvm.ClassFile.FieldType.int)) ∈ lw_all := lw_g (lw_at lw_m10 59 rfl) rfl
theorem q2318 : (Jvm.Cond.instanceMethod ({ cls := "LinesPromisedModel", name := "call", desc := "(II)I" } : Jvm.MethodName)) ∈ lw_all := lw_g (lw_at lw_m10 61 rfl) rfl
theorem q2319 : (Jvm.Cond.selects "LinesPromisedModel" ({ cls := "LinesPromisedModel", name := "call", desc := "(II)I" } : Jvm.MethodName) ({ cls := "LinesPromisedModel", name := "call", desc := "(II)I" } : Jvm.MethodName)) ∈ lw_all := lw_g (lw_at lw_m10 62 rfl) rfl
theorem q2320 : (Jvm.Cond.code ({ cls := "LinesPromisedModel", name := "call", desc := "(II)I" } : Jvm.MethodName) prog_30_method_81_code (5 : Nat) (Option.some Jvm.ClassFile.FieldType.int)) ∈ lw_all := lw_g (lw_at lw_m10 63 rfl) rfl
theorem q2322 : (Jvm.Cond.instanceMethod ({ cls := "LinesPromisedModel", name := "lend", desc := "(III)I" } : Jvm.MethodName)) ∈ lw_all := lw_g (lw_at lw_m10 65 rfl) rfl
theorem q2323 : (Jvm.Cond.selects "LinesPromisedModel" ({ cls := "LinesPromisedModel", name := "lend", desc := "(III)I" } : Jvm.MethodName) ({ cls := "LinesPromisedModel", name := "lend", desc := "(III)I" } : Jvm.MethodName)) ∈ lw_all := lw_g (lw_at lw_m10 66 rfl) rfl
theorem q2324 : (Jvm.Cond.code ({ cls := "LinesPromisedModel", name := "lend", desc := "(III)I" } : Jvm.MethodName) prog_30_method_82_code (4 : Nat) (Option.some Jvm.ClassFile.FieldType.int)) ∈ lw_all := lw_g (lw_at lw_m10 67 rfl) rfl
theorem q2326 : (Jvm.Cond.instanceMethod ({ cls := "LinesPromisedModel", name := "along", desc := "(II)I" } : Jvm.MethodName)) ∈ lw_all := lw_g (lw_at lw_m10 69 rfl) rfl
theorem q2327 : (Jvm.Cond.selects "LinesPromisedModel" ({ cls := "LinesPromisedModel", name := "along", desc := "(II)I" } : Jvm.MethodName) ({ cls := "LinesPromisedModel", name := "along", desc := "(II)I" } : Jvm.MethodName)) ∈ lw_all := lw_g (lw_at lw_m10 70 rfl) rfl
theorem q2328 : (Jvm.Cond.code ({ cls := "LinesPromisedModel", name := "along", desc := "(II)I" } : Jvm.MethodName) prog_30_method_86_code (3 : Nat) (Option.some Jvm.ClassFile.FieldType.int)) ∈ lw_all := lw_g (lw_at lw_m10 71 rfl) rfl
theorem q2329 : (Jvm.Cond.methodLink "LinesPromisedModel" (257 : Nat) ({ cls := "LinesPromisedModel", name := "settles", desc := "()V" } : Jvm.MethodName)) ∈ lw_all := lw_g (lw_at lw_m10 72 rfl) rfl
theorem q2330 : (Jvm.Cond.privateMethod ({ cls := "LinesPromisedModel", name := "settles", desc := "()V" } : Jvm.MethodName)) ∈ lw_tbl := lw_at lw_m10 73 rfl
theorem q2331 : (Jvm.Cond.instanceMethod ({ cls := "LinesPromisedModel", name := "settles", desc := "()V" } : Jvm.MethodName)) ∈ lw_all := lw_g (lw_at lw_m10 74 rfl) rfl
theorem q2332 : (Jvm.Cond.code ({ cls := "LinesPromisedModel", name := "settles", desc := "()V" } : Jvm.MethodName) prog_30_method_83_code (7 : Nat) (Option.none : Option Jvm.ClassFile.FieldType)) ∈ lw_all := lw_g (lw_at lw_m10 75 rfl) rfl
theorem q2333 : (Jvm.Cond.methodLink "LinesPromisedModel" (253 : Nat) ({ cls := "LinesPromisedModel", name := "canPay", desc := "(I)J" } : Jvm.MethodName)) ∈ lw_all := lw_g (lw_at lw_m10 76 rfl) rfl
theorem q2334 : (Jvm.Cond.privateMethod ({ cls := "LinesPromisedModel", name := "canPay", desc := "(I)J" } : Jvm.MethodName)) ∈ lw_tbl := lw_at lw_m10 77 rfl
theorem q2335 : (Jvm.Cond.instanceMethod ({ cls := "LinesPromisedModel", name := "canPay", desc := "(I)J" } : Jvm.MethodName)) ∈ lw_all := lw_g (lw_at lw_m10 78 rfl) rfl
theorem q2336 : (Jvm.Cond.code ({ cls := "LinesPromisedModel", name := "canPay", desc := "(I)J" } : Jvm.MethodName) prog_30_method_84_code (5 : Nat) (Option.some Jvm.ClassFile.FieldType.long)) ∈ lw_all := lw_g (lw_at lw_m10 79 rfl) rfl
theorem q2337 : (Jvm.Cond.methodLink "LinesPromisedModel" (260 : Nat) ({ cls := "LinesPromisedModel", name := "pays", desc := "(I)J" } : Jvm.MethodName)) ∈ lw_all := lw_g (lw_at lw_m10 80 rfl) rfl
theorem q2338 : (Jvm.Cond.privateMethod ({ cls := "LinesPromisedModel", name := "pays", desc := "(I)J" } : Jvm.MethodName)) ∈ lw_tbl := lw_at lw_m10 81 rfl
theorem q2339 : (Jvm.Cond.instanceMethod ({ cls := "LinesPromisedModel", name := "pays", desc := "(I)J" } : Jvm.MethodName)) ∈ lw_all := lw_g (lw_at lw_m10 82 rfl) rfl
theorem q2340 : (Jvm.Cond.code ({ cls := "LinesPromisedModel", name := "pays", desc := "(I)J" } : Jvm.MethodName) prog_30_method_85_code (5 : Nat) (Option.some Jvm.ClassFile.FieldType.long)) ∈ lw_all := lw_g (lw_at lw_m10 83 rfl) rfl
theorem q2342 : (Jvm.Cond.instanceMethod ({ cls := "LinesPromisedModel", name := "settle", desc := "()I" } : Jvm.MethodName)) ∈ lw_all := lw_g (lw_at lw_m10 85 rfl) rfl
theorem q2343 : (Jvm.Cond.selects "LinesPromisedModel" ({ cls := "LinesPromisedModel", name := "settle", desc := "()I" } : Jvm.MethodName) ({ cls := "LinesPromisedModel", name := "settle", desc := "()I" } : Jvm.MethodName)) ∈ lw_all := lw_g (lw_at lw_m10 86 rfl) rfl
theorem q2344 : (Jvm.Cond.code ({ cls := "LinesPromisedModel", name := "settle", desc := "()I" } : Jvm.MethodName) prog_30_method_87_code (6 : Nat) (Option.some Jvm.ClassFile.FieldType.int)) ∈ lw_all := lw_g (lw_at lw_m10 87 rfl) rfl
theorem q2346 : (Jvm.Cond.instanceMethod ({ cls := "LinesPromisedModel", name := "dig", desc := "(I)I" } : Jvm.MethodName)) ∈ lw_all := lw_g (lw_at lw_m10 89 rfl) rfl
theorem q2347 : (Jvm.Cond.selects "LinesPromisedModel" ({ cls := "LinesPromisedModel", name := "dig", desc := "(I)I" } : Jvm.MethodName) ({ cls := "LinesPromisedModel", name := "dig", desc := "(I)I" } : Jvm.MethodName)) ∈ lw_all := lw_g (lw_at lw_m10 90 rfl) rfl
theorem q2348 : (Jvm.Cond.code ({ cls := "LinesPromisedModel", name := "dig", desc := "(I)I" } : Jvm.MethodName) prog_30_method_90_code (3 : Nat) (Option.some Jvm.ClassFile.FieldType.int)) ∈ lw_all := lw_g (lw_at lw_m10 91 rfl) rfl
theorem q2349 : (Jvm.Cond.methodLink "LinesPromisedModel" (266 : Nat) ({ cls := "LinesPromisedModel", name := "digs", desc := "()V" } : Jvm.MethodName)) ∈ lw_all := lw_g (lw_at lw_m10 92 rfl) rfl
theorem q2350 : (Jvm.Cond.privateMethod ({ cls := "LinesPromisedModel", name := "digs", desc := "()V" } : Jvm.MethodName)) ∈ lw_tbl := lw_at lw_m10 93 rfl
theorem q2351 : (Jvm.Cond.instanceMethod ({ cls := "LinesPromisedModel", name := "digs", desc := "()V" } : Jvm.MethodName)) ∈ lw_all := lw_g (lw_at lw_m10 94 rfl) rfl
theorem q2352 : (Jvm.Cond.code ({ cls := "LinesPromisedModel", name := "digs", desc := "()V" } : Jvm.MethodName) prog_30_method_89_code (6 : Nat) (Option.none : Option Jvm.ClassFile.FieldType)) ∈ lw_all := lw_g (lw_at lw_m10 95 rfl) rfl
theorem q2353 : (Jvm.Cond.methodLink "LinesPromisedModel" (263 : Nat) ({ cls := "LinesPromisedModel", name := "schemeOf", desc := "(I)I" } : Jvm.MethodName)) ∈ lw_all := lw_g (lw_at lw_m10 96 rfl) rfl
theorem q2354 : (Jvm.Cond.privateMethod ({ cls := "LinesPromisedModel", name := "schemeOf", desc := "(I)I" } : Jvm.MethodName)) ∈ lw_tbl := lw_at lw_m10 97 rfl
theorem q2355 : (Jvm.Cond.instanceMethod ({ cls := "LinesPromisedModel", name := "schemeOf", desc := "(I)I" } : Jvm.MethodName)) ∈ lw_all := lw_g (lw_at lw_m10 98 rfl) rfl
theorem q2356 : (Jvm.Cond.code ({ cls := "LinesPromisedModel", name := "schemeOf", desc := "(I)I" } : Jvm.MethodName) prog_30_method_88_code (2 : Nat) (Option.some Jvm.ClassFile.FieldType.int)) ∈ lw_all := lw_g (lw_at lw_m10 99 rfl) rfl
theorem q2358 : (Jvm.Cond.instanceMethod ({ cls := "LinesPromisedModel", name := "last", desc := "(II)I" } : Jvm.MethodName)) ∈ lw_all := lw_g (lw_at lw_m10 101 rfl) rfl
theorem q2359 : (Jvm.Cond.selects "LinesPromisedModel" ({ cls := "LinesPromisedModel", name := "last", desc := "(II)I" } : Jvm.MethodName) ({ cls := "LinesPromisedModel", name := "last", desc := "(II)I" } : Jvm.MethodName)) ∈ lw_all := lw_g (lw_at lw_m10 102 rfl) rfl
theorem q2360 : (Jvm.Cond.code ({ cls := "LinesPromisedModel", name := "last", desc := "(II)I" } : Jvm.MethodName) prog_30_method_91_code (3 : Nat) (Option.some Jvm.ClassFile.FieldType.int)) ∈ lw_all := lw_g (lw_at lw_m10 103 rfl) rfl
theorem q2362 : (Jvm.Cond.instanceMethod ({ cls := "LinesPromisedModel", name := "meet", desc := "()I" } : Jvm.MethodName)) ∈ lw_all := lw_g (lw_at lw_m10 105 rfl) rfl
theorem q2363 : (Jvm.Cond.selects "LinesPromisedModel" ({ cls := "LinesPromisedModel", name := "meet", desc := "()I" } : Jvm.MethodName) ({ cls := "LinesPromisedModel", name := "meet", desc := "()I" } : Jvm.MethodName)) ∈ lw_all := lw_g (lw_at lw_m10 106 rfl) rfl
theorem q2364 : (Jvm.Cond.code ({ cls := "LinesPromisedModel", name := "meet", desc := "()I" } : Jvm.MethodName) prog_30_method_92_code (5 : Nat) (Option.some Jvm.ClassFile.FieldType.int)) ∈ lw_all := lw_g (lw_at lw_m10 107 rfl) rfl
theorem q2366 : (Jvm.Cond.instanceMethod ({ cls := "LinesPromisedModel", name := "gauge", desc := "(I)I" } : Jvm.MethodName)) ∈ lw_all := lw_g (lw_at lw_m10 109 rfl) rfl
theorem q2367 : (Jvm.Cond.selects "LinesPromisedModel" ({ cls := "LinesPromisedModel", name := "gauge", desc := "(I)I" } : Jvm.MethodName) ({ cls := "LinesPromisedModel", name := "gauge", desc := "(I)I" } : Jvm.MethodName)) ∈ lw_all := lw_g (lw_at lw_m10 110 rfl) rfl
theorem q2368 : (Jvm.Cond.code ({ cls := "LinesPromisedModel", name := "gauge", desc := "(I)I" } : Jvm.MethodName) prog_30_method_95_code (8 : Nat) (Option.some Jvm.ClassFile.FieldType.int)) ∈ lw_all := lw_g (lw_at lw_m10 111 rfl) rfl
theorem q2369 : (Jvm.Cond.methodLink "LinesPromisedModel" (272 : Nat) ({ cls := "LinesPromisedModel", name := "areJoined", desc := "(III)Z" } : Jvm.MethodName)) ∈ lw_all := lw_g (lw_at lw_m10 112 rfl) rfl
theorem q2370 : (Jvm.Cond.privateMethod ({ cls := "LinesPromisedModel", name := "areJoined", desc := "(III)Z" } : Jvm.MethodName)) ∈ lw_tbl := lw_at lw_m10 113 rfl
theorem q2371 : (Jvm.Cond.instanceMethod ({ cls := "LinesPromisedModel", name := "areJoined", desc := "(III)Z" } : Jvm.MethodName)) ∈ lw_all := lw_g (lw_at lw_m10 114 rfl) rfl
theorem q2372 : (Jvm.Cond.code ({ cls := "LinesPromisedModel", name := "areJoined", desc := "(III)Z" } : Jvm.MethodName) prog_30_method_93_code (8 : Nat) (Option.some Jvm.ClassFile.FieldType.boolean)) ∈ lw_all := lw_g (lw_at lw_m10 115 rfl) rfl
theorem q2373 : (Jvm.Cond.methodLink "LinesPromisedModel" (269 : Nat) ({ cls := "LinesPromisedModel", name := "many", desc := "(I)I" } : Jvm.MethodName)) ∈ lw_all := lw_g (lw_at lw_m10 116 rfl) rfl
theorem q2374 : (Jvm.Cond.static ({ cls := "LinesPromisedModel", name := "many", desc := "(I)I" } : Jvm.MethodName)) ∈ lw_all := lw_g (lw_at lw_m10 117 rfl) rfl
theorem q2375 : (Jvm.Cond.code ({ cls := "LinesPromisedModel", name := "many", desc := "(I)I" } : Jvm.MethodName) prog_30_method_94_code (3 : Nat) (Option.some Jvm.ClassFile.FieldType.int)) ∈ lw_all := lw_g (lw_at lw_m10 118 rfl) rfl
theorem q2377 : (Jvm.Cond.instanceMethod ({ cls := "LinesPromisedModel", name := "plan", desc := "(IIII)I" } : Jvm.MethodName)) ∈ lw_all := lw_g (lw_at lw_m10 120 rfl) rfl
theorem q2378 : (Jvm.Cond.selects "LinesPromisedModel" ({ cls := "LinesPromisedModel", name := "plan", desc := "(IIII)I" } : Jvm.MethodName) ({ cls := "LinesPromisedModel", name := "plan", desc := "(IIII)I" } : Jvm.MethodName)) ∈ lw_all := lw_g (lw_at lw_m10 121 rfl) rfl
theorem q2379 : (Jvm.Cond.code ({ cls := "LinesPromisedModel", name := "plan", desc := "(IIII)I" } : Jvm.MethodName) prog_30_method_96_code (15 : Nat) (Option.some Jvm.ClassFile.FieldType.int)) ∈ lw_all := lw_g (lw_at lw_m10 122 rfl) rfl
theorem q2380 : (Jvm.Cond.constant "LinesPromisedModel" (275 : Nat) (999999 : Int32)) ∈ lw_all := lw_g (lw_at lw_m10 123 rfl) rfl
theorem q2382 : (Jvm.Cond.instanceMethod ({ cls := "LinesPromisedModel", name := "tried", desc := "(I)I" } : Jvm.MethodName)) ∈ lw_all := lw_g (lw_at lw_m10 125 rfl) rfl
theorem q2383 : (Jvm.Cond.selects "LinesPromisedModel" ({ cls := "LinesPromisedModel", name := "tried", desc := "(I)I" } : Jvm.MethodName) ({ cls := "LinesPromisedModel", name := "tried", desc := "(I)I" } : Jvm.MethodName)) ∈ lw_all := lw_g (lw_at lw_m10 126 rfl) rfl
theorem q2384 : (Jvm.Cond.code ({ cls := "LinesPromisedModel", name := "tried", desc := "(I)I" } : Jvm.MethodName) prog_30_method_97_code (6 : Nat) (Option.some Jvm.ClassFile.FieldType.int)) ∈ lw_all := lw_g (lw_at lw_m10 127 rfl) rfl
theorem q2385 : (Jvm.Cond.methodLink "LinesPromisedModel" (276 : Nat) ({ cls := "LinesPromisedModel", name := "slope", desc := "(IIII)I" } : Jvm.MethodName)) ∈ lw_all := lw_g (lw_at lw_m10 128 rfl) rfl
theorem q2387 : (Jvm.Cond.instanceMethod ({ cls := "LinesPromisedModel", name := "known", desc := "(II)I" } : Jvm.MethodName)) ∈ lw_all := lw_g (lw_at lw_m10 130 rfl) rfl
theorem q2388 : (Jvm.Cond.selects "LinesPromisedModel" ({ cls := "LinesPromisedModel", name := "known", desc := "(II)I" } : Jvm.MethodName) ({ cls := "LinesPromisedModel", name := "known", desc := "(II)I" } : Jvm.MethodName)) ∈ lw_all := lw_g (lw_at lw_m10 131 rfl) rfl
theorem q2389 : (Jvm.Cond.code ({ cls := "LinesPromisedModel", name := "known", desc := "(II)I" } : Jvm.MethodName) prog_30_method_98_code (4 : Nat) (Option.some Jvm.ClassFile.FieldType.int)) ∈ lw_all := lw_g (lw_at lw_m10 132 rfl) rfl
theorem q2391 : (Jvm.Cond.instanceMethod ({ cls := "LinesPromisedModel", name := "image", desc := "()I" } : Jvm.MethodName)) ∈ lw_all := lw_g (lw_at lw_m10 134 rfl) rfl
theorem q2392 : (Jvm.Cond.selects "LinesPromisedModel" ({ cls := "LinesPromisedModel", name := "image", desc := "()I" } : Jvm.MethodName) ({ cls := "LinesPromisedModel", name := "image", desc := "()I" } : Jvm.MethodName)) ∈ lw_all := lw_g (lw_at lw_m10 135 rfl) rfl
theorem q2393 : (Jvm.Cond.code ({ cls := "LinesPromisedModel", name := "image", desc := "()I" } : Jvm.MethodName) prog_30_method_99_code (2 : Nat) (Option.some Jvm.ClassFile.FieldType.int)) ∈ lw_all := lw_g (lw_at lw_m10 136 rfl) rfl
theorem q2395 : (Jvm.Cond.instanceMethod ({ cls := "LinesPromisedModel", name := "undo", desc := "()I" } : Jvm.MethodName)) ∈ lw_all := lw_g (lw_at lw_m10 138 rfl) rfl
theorem q2396 : (Jvm.Cond.selects "LinesPromisedModel" ({ cls := "LinesPromisedModel", name := "undo", desc := "()I" } : Jvm.MethodName) ({ cls := "LinesPromisedModel", name := "undo", desc := "()I" } : Jvm.MethodName)) ∈ lw_all := lw_g (lw_at lw_m10 139 rfl) rfl
theorem q2397 : (Jvm.Cond.code ({ cls := "LinesPromisedModel", name := "undo", desc := "()I" } : Jvm.MethodName) prog_30_method_100_code (2 : Nat) (Option.some Jvm.ClassFile.FieldType.int)) ∈ lw_all := lw_g (lw_at lw_m10 140 rfl) rfl
theorem q2399 : (Jvm.Cond.instanceMethod ({ cls := "LinesPromisedModel", name := "count", desc := "(I)I" } : Jvm.MethodName)) ∈ lw_all := lw_g (lw_at lw_m10 142 rfl) rfl
theorem q2400 : (Jvm.Cond.selects "LinesPromisedModel" ({ cls := "LinesPromisedModel", name := "count", desc := "(I)I" } : Jvm.MethodName) ({ cls := "LinesPromisedModel", name := "count", desc := "(I)I" } : Jvm.MethodName)) ∈ lw_all := lw_g (lw_at lw_m10 143 rfl) rfl
theorem q2401 : (Jvm.Cond.code ({ cls := "LinesPromisedModel", name := "count", desc := "(I)I" } : Jvm.MethodName) prog_30_method_101_code (4 : Nat) (Option.some Jvm.ClassFile.FieldType.int)) ∈ lw_all := lw_g (lw_at lw_m10 144 rfl) rfl
theorem q2403 : (Jvm.Cond.instanceMethod ({ cls := "LinesPromisedModel", name := "sheet", desc := "(III)I" } : Jvm.MethodName)) ∈ lw_all := lw_g (lw_at lw_m10 146 rfl) rfl
theorem q2404 : (Jvm.Cond.selects "LinesPromisedModel" ({ cls := "LinesPromisedModel", name := "sheet", desc := "(III)I" } : Jvm.MethodName) ({ cls := "LinesPromisedModel", name := "sheet", desc := "(III)I" } : Jvm.MethodName)) ∈ lw_all := lw_g (lw_at lw_m10 147 rfl) rfl
theorem q2405 : (Jvm.Cond.code ({ cls := "LinesPromisedModel", name := "sheet", desc := "(III)I" } : Jvm.MethodName) prog_30_method_102_code (5 : Nat) (Option.some Jvm.ClassFile.FieldType.int)) ∈ lw_all := lw_g (lw_at lw_m10 148 rfl) rfl
theorem q2407 : (Jvm.Cond.instanceMethod ({ cls := "LinesPromisedModel", name := "item", desc := "(III)I" } : Jvm.MethodName)) ∈ lw_all := lw_g (lw_at lw_m10 150 rfl) rfl
theorem q2408 : (Jvm.Cond.selects "LinesPromisedModel" ({ cls := "LinesPromisedModel", name := "item", desc := "(III)I" } : Jvm.MethodName) ({ cls := "LinesPromisedModel", name := "item", desc := "(III)I" } : Jvm.MethodName)) ∈ lw_all := lw_g (lw_at lw_m10 151 rfl) rfl
theorem q2409 : (Jvm.Cond.code ({ cls := "LinesPromisedModel", name := "item", desc := "(III)I" } : Jvm.MethodName) prog_30_method_103_code (5 : Nat) (Option.some Jvm.ClassFile.FieldType.int)) ∈ lw_all := lw_g (lw_at lw_m10 152 rfl) rfl
theorem q2411 : (Jvm.Cond.instanceMethod ({ cls := "LinesPromisedModel", name := "copy", desc := "(IIIII)I" } : Jvm.MethodName)) ∈ lw_all := lw_g (lw_at lw_m10 154 rfl) rfl
theorem q2412 : (Jvm.Cond.selects "LinesPromisedModel" ({ cls := "LinesPromisedModel", name := "copy", desc := "(IIIII)I" } : Jvm.MethodName) ({ cls := "LinesPromisedModel", name := "copy", desc := "(IIIII)I" } : Jvm.MethodName)) ∈ lw_all := lw_g (lw_at lw_m10 155 rfl) rfl
theorem q2413 : (Jvm.Cond.code ({ cls := "LinesPromisedModel", name := "copy", desc := "(IIIII)I" } : Jvm.MethodName) prog_30_method_104_code (7 : Nat) (Option.some Jvm.ClassFile.FieldType.int)) ∈ lw_all := lw_g (lw_at lw_m10 156 rfl) rfl
theorem q2432 : (Jvm.Cond.castable "LinesPromisedModel" "java/lang/Object") ∈ lw_tbl := lw_at lw_m10 175 rfl
theorem q132 : (Jvm.Cond.initialized "LinesPromised$Word") ∈ lw_all := lw_g (lw_at lw_m1 35 rfl) rfl
theorem q253 : (Jvm.Cond.selects "LinesPromised$Word" ({ cls := "java/lang/Object", name := "getClass", desc := "()Ljava/lang/Class;" } : Jvm.MethodName) ({ cls := "java/lang/Object", name := "getClass", desc := "()Ljava/lang/Class;" } : Jvm.MethodName)) ∈ lw_all := lw_g (lw_at lw_m1 156 rfl) rfl
theorem q1335 : (Jvm.Cond.instantiable "LinesPromised$Word" (5 : Nat)) ∈ lw_all := lw_g (lw_at lw_m6 38 rfl) rfl
theorem q1337 : (Jvm.Cond.instanceMethod ({ cls := "LinesPromised$Word", name := "<init>", desc := "(LLinesPromised$Scheme;IIIZ)V" } : Jvm.MethodName)) ∈ lw_all := lw_g (lw_at lw_m6 40 rfl) rfl
theorem q1338 : (Jvm.Cond.code ({ cls := "LinesPromised$Word", name := "<init>", desc := "(LLinesPromised$Scheme;IIIZ)V" } : Jvm.MethodName) prog_27_method_1_code (6 : Nat) (Option.none : Option Jvm.ClassFile.FieldType)) ∈ lw_all := lw_g (lw_at lw_m6 41 rfl) rfl
theorem q1339 : (Jvm.Cond.methodLink "LinesPromised$Word" (1 : Nat) ({ cls := "java/lang/Object", name := "<init>", desc := "()V" } : Jvm.MethodName)) ∈ lw_all := lw_g (lw_at lw_m6 42 rfl) rfl
theorem q1340 : (Jvm.Cond.fieldLink "LinesPromised$Word" (7 : Nat) "LinesPromised$Word" "scheme" "LLinesPromised$Scheme;") ∈ lw_all := lw_g (lw_at lw_m6 43 rfl) rfl
theorem q1342 : (Jvm.Cond.fieldLink "LinesPromised$Word" (13 : Nat) "LinesPromised$Word" "holder" "I") ∈ lw_all := lw_g (lw_at lw_m6 45 rfl) rfl
theorem q1344 : (Jvm.Cond.fieldLink "LinesPromised$Word" (20 : Nat) "LinesPromised$Word" "price" "I") ∈ lw_all := lw_g (lw_at lw_m6 47 rfl) rfl
theorem q1346 : (Jvm.Cond.fieldLink "LinesPromised$Word" (23 : Nat) "LinesPromised$Word" "ask" "Z") ∈ lw_all := lw_g (lw_at lw_m6 49 rfl) rfl
theorem q1348 : (Jvm.Cond.fieldLink "LinesPromised$Word" (17 : Nat) "LinesPromised$Word" "left" "I") ∈ lw_all := lw_g (lw_at lw_m6 51 rfl) rfl
theorem q1351 : (Jvm.Cond.laysFinal "LinesPromised$Word" "LinesPromised$Word" "scheme" "LLinesPromised$Scheme;") ∈ lw_all := lw_g (lw_at lw_m6 54 rfl) rfl
theorem q1352 : (Jvm.Cond.soleField "LinesPromised$Word" "scheme") ∈ lw_all := lw_g (lw_at lw_m6 55 rfl) rfl
theorem q1353 : (Jvm.Cond.laysFinal "LinesPromised$Word" "LinesPromised$Word" "holder" "I") ∈ lw_all := lw_g (lw_at lw_m6 56 rfl) rfl
theorem q1354 : (Jvm.Cond.soleField "LinesPromised$Word" "holder") ∈ lw_all := lw_g (lw_at lw_m6 57 rfl) rfl
theorem q1355 : (Jvm.Cond.laysFinal "LinesPromised$Word" "LinesPromised$Word" "price" "I") ∈ lw_all := lw_g (lw_at lw_m6 58 rfl) rfl
theorem q1356 : (Jvm.Cond.soleField "LinesPromised$Word" "price") ∈ lw_all := lw_g (lw_at lw_m6 59 rfl) rfl
theorem q1357 : (Jvm.Cond.laysFinal "LinesPromised$Word" "LinesPromised$Word" "ask" "Z") ∈ lw_all := lw_g (lw_at lw_m6 60 rfl) rfl
theorem q1358 : (Jvm.Cond.soleField "LinesPromised$Word" "ask") ∈ lw_all := lw_g (lw_at lw_m6 61 rfl) rfl
theorem q1359 : (Jvm.Cond.lays "LinesPromised$Word" "LinesPromised$Word" "left" "I") ∈ lw_all := lw_g (lw_at lw_m6 62 rfl) rfl
theorem q1360 : (Jvm.Cond.soleField "LinesPromised$Word" "left") ∈ lw_all := lw_g (lw_at lw_m6 63 rfl) rfl
theorem q1361 : (Jvm.Cond.superclass "LinesPromised$Word" "java/lang/Object") ∈ lw_all := lw_g (lw_at lw_m6 64 rfl) rfl
theorem q1371 : (Jvm.Cond.instanceMethod ({ cls := "LinesPromised$Word", name := "isBetter", desc := "(LLinesPromised$Word;)Z" } : Jvm.MethodName)) ∈ lw_all := lw_g (lw_at lw_m6 74 rfl) rfl
theorem q1372 : (Jvm.Cond.selects "LinesPromised$Word" ({ cls := "LinesPromised$Word", name := "isBetter", desc := "(LLinesPromised$Word;)Z" } : Jvm.MethodName) ({ cls := "LinesPromised$Word", name := "isBetter", desc := "(LLinesPromised$Word;)Z" } : Jvm.MethodName)) ∈ lw_all := lw_g (lw_at lw_m6 75 rfl) rfl
theorem q1373 : (Jvm.Cond.code ({ cls := "LinesPromised$Word", name := "isBetter", desc := "(LLinesPromised$Word;)Z" } : Jvm.MethodName) prog_27_method_2_code (2 : Nat) (Option.some Jvm.ClassFile.FieldType.boolean)) ∈ lw_all := lw_g (lw_at lw_m6 76 rfl) rfl
theorem q1412 : (Jvm.Cond.selects "LinesPromised$Word" ({ cls := "java/lang/Object", name := "equals", desc := "(Ljava/lang/Object;)Z" } : Jvm.MethodName) ({ cls := "java/lang/Object", name := "equals", desc := "(Ljava/lang/Object;)Z" } : Jvm.MethodName)) ∈ lw_all := lw_g (lw_at lw_m6 115 rfl) rfl
theorem q2447 : (Jvm.Cond.castable "LinesPromised$Word" "java/lang/Object") ∈ lw_tbl := lw_at lw_m10 190 rfl
theorem q133 : (Jvm.Cond.initialized "LinesPromised$Call") ∈ lw_all := lw_g (lw_at lw_m1 36 rfl) rfl
theorem q235 : (Jvm.Cond.selects "LinesPromised$Call" ({ cls := "java/lang/Object", name := "getClass", desc := "()Ljava/lang/Class;" } : Jvm.MethodName) ({ cls := "java/lang/Object", name := "getClass", desc := "()Ljava/lang/Class;" } : Jvm.MethodName)) ∈ lw_all := lw_g (lw_at lw_m1 138 rfl) rfl
theorem q762 : (Jvm.Cond.fieldLink "LinesPromised$Call" (25 : Nat) "LinesPromised$Scheme" "number" "I") ∈ lw_all := lw_g (lw_at lw_m3 185 rfl) rfl
theorem q1118 : (Jvm.Cond.selects "LinesPromised$Call" ({ cls := "LinesPromised$Paper", name := "isUnder", desc := "(I)Z" } : Jvm.MethodName) ({ cls := "LinesPromised$Call", name := "isUnder", desc := "(I)Z" } : Jvm.MethodName)) ∈ lw_all := lw_g (lw_at lw_m5 61 rfl) rfl
theorem q1119 : (Jvm.Cond.instanceMethod ({ cls := "LinesPromised$Call", name := "isUnder", desc := "(I)Z" } : Jvm.MethodName)) ∈ lw_all := lw_g (lw_at lw_m5 62 rfl) rfl
theorem q1120 : (Jvm.Cond.code ({ cls := "LinesPromised$Call", name := "isUnder", desc := "(I)Z" } : Jvm.MethodName) prog_5_method_3_code (2 : Nat) (Option.some Jvm.ClassFile.FieldType.boolean)) ∈ lw_all := lw_g (lw_at lw_m5 63 rfl) rfl
theorem q1121 : (Jvm.Cond.methodLink "LinesPromised$Call" (17 : Nat) ({ cls := "LinesPromised$Paper", name := "isUnder", desc := "(I)Z" } : Jvm.MethodName)) ∈ lw_all := lw_g (lw_at lw_m5 64 rfl) rfl
theorem q1122 : (Jvm.Cond.superclass "LinesPromised$Call" "LinesPromised$Paper") ∈ lw_all := lw_g (lw_at lw_m5 65 rfl) rfl
theorem q1132 : (Jvm.Cond.selects "LinesPromised$Call" ({ cls := "LinesPromised$Paper", name := "kind", desc := "()I" } : Jvm.MethodName) ({ cls := "LinesPromised$Call", name := "kind", desc := "()I" } : Jvm.MethodName)) ∈ lw_all := lw_g (lw_at lw_m5 75 rfl) rfl
theorem q1133 : (Jvm.Cond.instanceMethod ({ cls := "LinesPromised$Call", name := "kind", desc := "()I" } : Jvm.MethodName)) ∈ lw_all := lw_g (lw_at lw_m5 76 rfl) rfl
theorem q1134 : (Jvm.Cond.code ({ cls := "LinesPromised$Call", name := "kind", desc := "()I" } : Jvm.MethodName) prog_5_method_2_code (1 : Nat) (Option.some Jvm.ClassFile.FieldType.int)) ∈ lw_all := lw_g (lw_at lw_m5 77 rfl) rfl
theorem q1161 : (Jvm.Cond.selects "LinesPromised$Call" ({ cls := "LinesPromised$Paper", name := "worth", desc := "()I" } : Jvm.MethodName) ({ cls := "LinesPromised$Call", name := "worth", desc := "()I" } : Jvm.MethodName)) ∈ lw_all := lw_g (lw_at lw_m5 104 rfl) rfl
theorem q1162 : (Jvm.Cond.instanceMethod ({ cls := "LinesPromised$Call", name := "worth", desc := "()I" } : Jvm.MethodName)) ∈ lw_all := lw_g (lw_at lw_m5 105 rfl) rfl
theorem q1163 : (Jvm.Cond.code ({ cls := "LinesPromised$Call", name := "worth", desc := "()I" } : Jvm.MethodName) prog_5_method_4_code (1 : Nat) (Option.some Jvm.ClassFile.FieldType.int)) ∈ lw_all := lw_g (lw_at lw_m5 106 rfl) rfl
theorem q1164 : (Jvm.Cond.methodLink "LinesPromised$Call" (21 : Nat) ({ cls := "LinesPromised$Paper", name := "worth", desc := "()I" } : Jvm.MethodName)) ∈ lw_all := lw_g (lw_at lw_m5 107 rfl) rfl
theorem q1187 : (Jvm.Cond.selects "LinesPromised$Call" ({ cls := "LinesPromised$Paper", name := "of", desc := "()I" } : Jvm.MethodName) ({ cls := "LinesPromised$Call", name := "of", desc := "()I" } : Jvm.MethodName)) ∈ lw_all := lw_g (lw_at lw_m5 130 rfl) rfl
theorem q1188 : (Jvm.Cond.instanceMethod ({ cls := "LinesPromised$Call", name := "of", desc := "()I" } : Jvm.MethodName)) ∈ lw_all := lw_g (lw_at lw_m5 131 rfl) rfl
theorem q1189 : (Jvm.Cond.code ({ cls := "LinesPromised$Call", name := "of", desc := "()I" } : Jvm.MethodName) prog_5_method_5_code (1 : Nat) (Option.some Jvm.ClassFile.FieldType.int)) ∈ lw_all := lw_g (lw_at lw_m5 132 rfl) rfl
theorem q1203 : (Jvm.Cond.selects "LinesPromised$Call" ({ cls := "LinesPromised$Paper", name := "first", desc := "()I" } : Jvm.MethodName) ({ cls := "LinesPromised$Paper", name := "first", desc := "()I" } : Jvm.MethodName)) ∈ lw_all := lw_g (lw_at lw_m5 146 rfl) rfl
theorem q1219 : (Jvm.Cond.selects "LinesPromised$Call" ({ cls := "LinesPromised$Paper", name := "second", desc := "()I" } : Jvm.MethodName) ({ cls := "LinesPromised$Paper", name := "second", desc := "()I" } : Jvm.MethodName)) ∈ lw_all := lw_g (lw_at lw_m5 162 rfl) rfl
theorem q1231 : (Jvm.Cond.selects "LinesPromised$Call" ({ cls := "LinesPromised$Paper", name := "gauge", desc := "()I" } : Jvm.MethodName) ({ cls := "LinesPromised$Paper", name := "gauge", desc := "()I" } : Jvm.MethodName)) ∈ lw_all := lw_g (lw_at lw_m5 174 rfl) rfl
theorem q1243 : (Jvm.Cond.selects "LinesPromised$Call" ({ cls := "LinesPromised$Paper", name := "size", desc := "()I" } : Jvm.MethodName) ({ cls := "LinesPromised$Call", name := "size", desc := "()I" } : Jvm.MethodName)) ∈ lw_all := lw_g (lw_at lw_m5 186 rfl) rfl
theorem q1244 : (Jvm.Cond.instanceMethod ({ cls := "LinesPromised$Call", name := "size", desc := "()I" } : Jvm.MethodName)) ∈ lw_all := lw_g (lw_at lw_m5 187 rfl) rfl
theorem q1245 : (Jvm.Cond.code ({ cls := "LinesPromised$Call", name := "size", desc := "()I" } : Jvm.MethodName) prog_5_method_6_code (1 : Nat) (Option.some Jvm.ClassFile.FieldType.int)) ∈ lw_all := lw_g (lw_at lw_m5 188 rfl) rfl
theorem q1261 : (Jvm.Cond.selects "LinesPromised$Call" ({ cls := "LinesPromised$Paper", name := "isDone", desc := "()Z" } : Jvm.MethodName) ({ cls := "LinesPromised$Call", name := "isDone", desc := "()Z" } : Jvm.MethodName)) ∈ lw_all := lw_g (lw_at lw_m5 204 rfl) rfl
theorem q1262 : (Jvm.Cond.instanceMethod ({ cls := "LinesPromised$Call", name := "isDone", desc := "()Z" } : Jvm.MethodName)) ∈ lw_all := lw_g (lw_at lw_m5 205 rfl) rfl
theorem q1263 : (Jvm.Cond.code ({ cls := "LinesPromised$Call", name := "isDone", desc := "()Z" } : Jvm.MethodName) prog_5_method_7_code (1 : Nat) (Option.some Jvm.ClassFile.FieldType.boolean)) ∈ lw_all := lw_g (lw_at lw_m5 206 rfl) rfl
theorem q1394 : (Jvm.Cond.selects "LinesPromised$Call" ({ cls := "java/lang/Object", name := "equals", desc := "(Ljava/lang/Object;)Z" } : Jvm.MethodName) ({ cls := "java/lang/Object", name := "equals", desc := "(Ljava/lang/Object;)Z" } : Jvm.MethodName)) ∈ lw_all := lw_g (lw_at lw_m6 97 rfl) rfl
theorem q1443 : (Jvm.Cond.instantiable "LinesPromised$Call" (5 : Nat)) ∈ lw_all := lw_g (lw_at lw_m6 146 rfl) rfl
theorem q1445 : (Jvm.Cond.instanceMethod ({ cls := "LinesPromised$Call", name := "<init>", desc := "(IILLinesPromised$Scheme;I)V" } : Jvm.MethodName)) ∈ lw_all := lw_g (lw_at lw_m6 148 rfl) rfl
theorem q1446 : (Jvm.Cond.code ({ cls := "LinesPromised$Call", name := "<init>", desc := "(IILLinesPromised$Scheme;I)V" } : Jvm.MethodName) prog_5_method_1_code (5 : Nat) (Option.none : Option Jvm.ClassFile.FieldType)) ∈ lw_all := lw_g (lw_at lw_m6 149 rfl) rfl
theorem q1447 : (Jvm.Cond.methodLink "LinesPromised$Call" (1 : Nat) ({ cls := "LinesPromised$Paper", name := "<init>", desc := "(II)V" } : Jvm.MethodName)) ∈ lw_all := lw_g (lw_at lw_m6 150 rfl) rfl
theorem q1448 : (Jvm.Cond.fieldLink "LinesPromised$Call" (7 : Nat) "LinesPromised$Call" "scheme" "LLinesPromised$Scheme;") ∈ lw_all := lw_g (lw_at lw_m6 151 rfl) rfl
theorem q1450 : (Jvm.Cond.fieldLink "LinesPromised$Call" (13 : Nat) "LinesPromised$Call" "pence" "I") ∈ lw_all := lw_g (lw_at lw_m6 153 rfl) rfl
theorem q1456 : (Jvm.Cond.fieldLink "LinesPromised$Call" (30 : Nat) "LinesPromised$Call" "settled" "Z") ∈ lw_all := lw_g (lw_at lw_m6 159 rfl) rfl
theorem q1458 : (Jvm.Cond.laysFinal "LinesPromised$Call" "LinesPromised$Call" "scheme" "LLinesPromised$Scheme;") ∈ lw_all := lw_g (lw_at lw_m6 161 rfl) rfl
theorem q1459 : (Jvm.Cond.soleField "LinesPromised$Call" "scheme") ∈ lw_all := lw_g (lw_at lw_m6 162 rfl) rfl
theorem q1460 : (Jvm.Cond.laysFinal "LinesPromised$Call" "LinesPromised$Call" "pence" "I") ∈ lw_all := lw_g (lw_at lw_m6 163 rfl) rfl
theorem q1461 : (Jvm.Cond.soleField "LinesPromised$Call" "pence") ∈ lw_all := lw_g (lw_at lw_m6 164 rfl) rfl
theorem q1462 : (Jvm.Cond.lays "LinesPromised$Call" "LinesPromised$Call" "settled" "Z") ∈ lw_all := lw_g (lw_at lw_m6 165 rfl) rfl
theorem q1463 : (Jvm.Cond.soleField "LinesPromised$Call" "settled") ∈ lw_all := lw_g (lw_at lw_m6 166 rfl) rfl
theorem q1464 : (Jvm.Cond.laysFinal "LinesPromised$Call" "LinesPromised$Paper" "number" "I") ∈ lw_all := lw_g (lw_at lw_m6 167 rfl) rfl
theorem q1465 : (Jvm.Cond.laysFinal "LinesPromised$Call" "LinesPromised$Paper" "day" "I") ∈ lw_all := lw_g (lw_at lw_m6 168 rfl) rfl
theorem q2417 : (Jvm.Cond.sameMethod "LinesPromised$Call" "LinesPromised$Call" "kind" "()I") ∈ lw_all := lw_g (lw_at lw_m10 160 rfl) rfl
theorem q2418 : (Jvm.Cond.sameMethod "LinesPromised$Call" "LinesPromised$Call" "worth" "()I") ∈ lw_all := lw_g (lw_at lw_m10 161 rfl) rfl
theorem q2420 : (Jvm.Cond.castable "LinesPromised$Call" "LinesPromised$Paper") ∈ lw_tbl := lw_at lw_m10 163 rfl
theorem q2448 : (Jvm.Cond.castable "LinesPromised$Call" "java/lang/Object") ∈ lw_tbl := lw_at lw_m10 191 rfl
theorem q134 : (Jvm.Cond.initialized "LinesPromised$Loan") ∈ lw_all := lw_g (lw_at lw_m1 37 rfl) rfl
theorem q242 : (Jvm.Cond.selects "LinesPromised$Loan" ({ cls := "java/lang/Object", name := "getClass", desc := "()Ljava/lang/Class;" } : Jvm.MethodName) ({ cls := "java/lang/Object", name := "getClass", desc := "()Ljava/lang/Class;" } : Jvm.MethodName)) ∈ lw_all := lw_g (lw_at lw_m1 145 rfl) rfl
theorem q1124 : (Jvm.Cond.selects "LinesPromised$Loan" ({ cls := "LinesPromised$Paper", name := "isUnder", desc := "(I)Z" } : Jvm.MethodName) ({ cls := "LinesPromised$Call", name := "isUnder", desc := "(I)Z" } : Jvm.MethodName)) ∈ lw_all := lw_g (lw_at lw_m5 67 rfl) rfl
theorem q1138 : (Jvm.Cond.selects "LinesPromised$Loan" ({ cls := "LinesPromised$Paper", name := "kind", desc := "()I" } : Jvm.MethodName) ({ cls := "LinesPromised$Loan", name := "kind", desc := "()I" } : Jvm.MethodName)) ∈ lw_all := lw_g (lw_at lw_m5 81 rfl) rfl
theorem q1139 : (Jvm.Cond.instanceMethod ({ cls := "LinesPromised$Loan", name := "kind", desc := "()I" } : Jvm.MethodName)) ∈ lw_all := lw_g (lw_at lw_m5 82 rfl) rfl
theorem q1140 : (Jvm.Cond.code ({ cls := "LinesPromised$Loan", name := "kind", desc := "()I" } : Jvm.MethodName) prog_13_method_2_code (1 : Nat) (Option.some Jvm.ClassFile.FieldType.int)) ∈ lw_all := lw_g (lw_at lw_m5 83 rfl) rfl
theorem q1141 : (Jvm.Cond.methodLink "LinesPromised$Loan" (13 : Nat) ({ cls := "LinesPromised$Call", name := "kind", desc := "()I" } : Jvm.MethodName)) ∈ lw_all := lw_g (lw_at lw_m5 84 rfl) rfl
theorem q1142 : (Jvm.Cond.superclass "LinesPromised$Loan" "LinesPromised$Call") ∈ lw_all := lw_g (lw_at lw_m5 85 rfl) rfl
theorem q1169 : (Jvm.Cond.selects "LinesPromised$Loan" ({ cls := "LinesPromised$Paper", name := "worth", desc := "()I" } : Jvm.MethodName) ({ cls := "LinesPromised$Loan", name := "worth", desc := "()I" } : Jvm.MethodName)) ∈ lw_all := lw_g (lw_at lw_m5 112 rfl) rfl
theorem q1170 : (Jvm.Cond.instanceMethod ({ cls := "LinesPromised$Loan", name := "worth", desc := "()I" } : Jvm.MethodName)) ∈ lw_all := lw_g (lw_at lw_m5 113 rfl) rfl
theorem q1171 : (Jvm.Cond.code ({ cls := "LinesPromised$Loan", name := "worth", desc := "()I" } : Jvm.MethodName) prog_13_method_3_code (1 : Nat) (Option.some Jvm.ClassFile.FieldType.int)) ∈ lw_all := lw_g (lw_at lw_m5 114 rfl) rfl
theorem q1172 : (Jvm.Cond.methodLink "LinesPromised$Loan" (17 : Nat) ({ cls := "LinesPromised$Call", name := "worth", desc := "()I" } : Jvm.MethodName)) ∈ lw_all := lw_g (lw_at lw_m5 115 rfl) rfl
theorem q1191 : (Jvm.Cond.selects "LinesPromised$Loan" ({ cls := "LinesPromised$Paper", name := "of", desc := "()I" } : Jvm.MethodName) ({ cls := "LinesPromised$Call", name := "of", desc := "()I" } : Jvm.MethodName)) ∈ lw_all := lw_g (lw_at lw_m5 134 rfl) rfl
theorem q1207 : (Jvm.Cond.selects "LinesPromised$Loan" ({ cls := "LinesPromised$Paper", name := "first", desc := "()I" } : Jvm.MethodName) ({ cls := "LinesPromised$Loan", name := "first", desc := "()I" } : Jvm.MethodName)) ∈ lw_all := lw_g (lw_at lw_m5 150 rfl) rfl
theorem q1208 : (Jvm.Cond.instanceMethod ({ cls := "LinesPromised$Loan", name := "first", desc := "()I" } : Jvm.MethodName)) ∈ lw_all := lw_g (lw_at lw_m5 151 rfl) rfl
theorem q1209 : (Jvm.Cond.code ({ cls := "LinesPromised$Loan", name := "first", desc := "()I" } : Jvm.MethodName) prog_13_method_4_code (1 : Nat) (Option.some Jvm.ClassFile.FieldType.int)) ∈ lw_all := lw_g (lw_at lw_m5 152 rfl) rfl
theorem q1221 : (Jvm.Cond.selects "LinesPromised$Loan" ({ cls := "LinesPromised$Paper", name := "second", desc := "()I" } : Jvm.MethodName) ({ cls := "LinesPromised$Paper", name := "second", desc := "()I" } : Jvm.MethodName)) ∈ lw_all := lw_g (lw_at lw_m5 164 rfl) rfl
theorem q1233 : (Jvm.Cond.selects "LinesPromised$Loan" ({ cls := "LinesPromised$Paper", name := "gauge", desc := "()I" } : Jvm.MethodName) ({ cls := "LinesPromised$Paper", name := "gauge", desc := "()I" } : Jvm.MethodName)) ∈ lw_all := lw_g (lw_at lw_m5 176 rfl) rfl
theorem q1249 : (Jvm.Cond.selects "LinesPromised$Loan" ({ cls := "LinesPromised$Paper", name := "size", desc := "()I" } : Jvm.MethodName) ({ cls := "LinesPromised$Call", name := "size", desc := "()I" } : Jvm.MethodName)) ∈ lw_all := lw_g (lw_at lw_m5 192 rfl) rfl
theorem q1265 : (Jvm.Cond.selects "LinesPromised$Loan" ({ cls := "LinesPromised$Paper", name := "isDone", desc := "()Z" } : Jvm.MethodName) ({ cls := "LinesPromised$Call", name := "isDone", desc := "()Z" } : Jvm.MethodName)) ∈ lw_all := lw_g (lw_at lw_m5 208 rfl) rfl
theorem q1401 : (Jvm.Cond.selects "LinesPromised$Loan" ({ cls := "java/lang/Object", name := "equals", desc := "(Ljava/lang/Object;)Z" } : Jvm.MethodName) ({ cls := "java/lang/Object", name := "equals", desc := "(Ljava/lang/Object;)Z" } : Jvm.MethodName)) ∈ lw_all := lw_g (lw_at lw_m6 104 rfl) rfl
theorem q1452 : (Jvm.Cond.sameField "LinesPromised$Loan" "LinesPromised$Call" "pence" "I") ∈ lw_all := lw_g (lw_at lw_m6 155 rfl) rfl
theorem q1471 : (Jvm.Cond.instantiable "LinesPromised$Loan" (6 : Nat)) ∈ lw_all := lw_g (lw_at lw_m6 174 rfl) rfl
theorem q1473 : (Jvm.Cond.instanceMethod ({ cls := "LinesPromised$Loan", name := "<init>", desc := "(IILLinesPromised$Scheme;II)V" } : Jvm.MethodName)) ∈ lw_all := lw_g (lw_at lw_m6 176 rfl) rfl
theorem q1474 : (Jvm.Cond.code ({ cls := "LinesPromised$Loan", name := "<init>", desc := "(IILLinesPromised$Scheme;II)V" } : Jvm.MethodName) prog_13_method_1_code (6 : Nat) (Option.none : Option Jvm.ClassFile.FieldType)) ∈ lw_all := lw_g (lw_at lw_m6 177 rfl) rfl
theorem q1475 : (Jvm.Cond.methodLink "LinesPromised$Loan" (1 : Nat) ({ cls := "LinesPromised$Call", name := "<init>", desc := "(IILLinesPromised$Scheme;I)V" } : Jvm.MethodName)) ∈ lw_all := lw_g (lw_at lw_m6 178 rfl) rfl
theorem q1476 : (Jvm.Cond.fieldLink "LinesPromised$Loan" (7 : Nat) "LinesPromised$Loan" "holder" "I") ∈ lw_all := lw_g (lw_at lw_m6 179 rfl) rfl
theorem q1478 : (Jvm.Cond.laysFinal "LinesPromised$Loan" "LinesPromised$Loan" "holder" "I") ∈ lw_all := lw_g (lw_at lw_m6 181 rfl) rfl
theorem q1479 : (Jvm.Cond.soleField "LinesPromised$Loan" "holder") ∈ lw_all := lw_g (lw_at lw_m6 182 rfl) rfl
theorem q1480 : (Jvm.Cond.laysFinal "LinesPromised$Loan" "LinesPromised$Call" "scheme" "LLinesPromised$Scheme;") ∈ lw_all := lw_g (lw_at lw_m6 183 rfl) rfl
theorem q1481 : (Jvm.Cond.laysFinal "LinesPromised$Loan" "LinesPromised$Call" "pence" "I") ∈ lw_all := lw_g (lw_at lw_m6 184 rfl) rfl
theorem q1482 : (Jvm.Cond.lays "LinesPromised$Loan" "LinesPromised$Call" "settled" "Z") ∈ lw_all := lw_g (lw_at lw_m6 185 rfl) rfl
theorem q1483 : (Jvm.Cond.laysFinal "LinesPromised$Loan" "LinesPromised$Paper" "number" "I") ∈ lw_all := lw_g (lw_at lw_m6 186 rfl) rfl
theorem q1484 : (Jvm.Cond.laysFinal "LinesPromised$Loan" "LinesPromised$Paper" "day" "I") ∈ lw_all := lw_g (lw_at lw_m6 187 rfl) rfl
theorem q2422 : (Jvm.Cond.castable "LinesPromised$Loan" "LinesPromised$Paper") ∈ lw_tbl := lw_at lw_m10 165 rfl
theorem q2427 : (Jvm.Cond.castable "LinesPromised$Loan" "LinesPromised$Call") ∈ lw_tbl := lw_at lw_m10 170 rfl
theorem q2449 : (Jvm.Cond.castable "LinesPromised$Loan" "java/lang/Object") ∈ lw_tbl := lw_at lw_m10 192 rfl
theorem q135 : (Jvm.Cond.initialized "LinesPromised$Payments") ∈ lw_all := lw_g (lw_at lw_m1 38 rfl) rfl
theorem q245 : (Jvm.Cond.selects "LinesPromised$Payments" ({ cls := "java/lang/Object", name := "getClass", desc := "()Ljava/lang/Class;" } : Jvm.MethodName) ({ cls := "java/lang/Object", name := "getClass", desc := "()Ljava/lang/Class;" } : Jvm.MethodName)) ∈ lw_all := lw_g (lw_at lw_m1 148 rfl) rfl
theorem q600 : (Jvm.Cond.fieldLinkNest "LinesPromised$Payments" (40 : Nat) "LinesPromised" "coins" "[J" "LinesPromised") ∈ lw_tbl := lw_at lw_m3 23 rfl
theorem q615 : (Jvm.Cond.fieldLinkNest "LinesPromised$Payments" (43 : Nat) "LinesPromised" "papers" "Ljava/util/ArrayList;" "LinesPromised") ∈ lw_tbl := lw_at lw_m3 38 rfl
theorem q618 : (Jvm.Cond.fieldLinkNest "LinesPromised$Payments" (15 : Nat) "LinesPromised" "schemes" "I" "LinesPromised") ∈ lw_tbl := lw_at lw_m3 41 rfl
theorem q739 : (Jvm.Cond.fieldLinkNest "LinesPromised$Payments" (57 : Nat) "LinesPromised$Scheme" "place" "I" "LinesPromised") ∈ lw_tbl := lw_at lw_m3 162 rfl
theorem q741 : (Jvm.Cond.fieldLinkNest "LinesPromised$Payments" (62 : Nat) "LinesPromised$Scheme" "coins" "J" "LinesPromised") ∈ lw_tbl := lw_at lw_m3 164 rfl
theorem q754 : (Jvm.Cond.fieldLinkNest "LinesPromised$Payments" (88 : Nat) "LinesPromised$Scheme" "held" "[I" "LinesPromised") ∈ lw_tbl := lw_at lw_m3 177 rfl
theorem q1404 : (Jvm.Cond.selects "LinesPromised$Payments" ({ cls := "java/lang/Object", name := "equals", desc := "(Ljava/lang/Object;)Z" } : Jvm.MethodName) ({ cls := "java/lang/Object", name := "equals", desc := "(Ljava/lang/Object;)Z" } : Jvm.MethodName)) ∈ lw_all := lw_g (lw_at lw_m6 107 rfl) rfl
theorem q1449 : (Jvm.Cond.fieldLink "LinesPromised$Payments" (75 : Nat) "LinesPromised$Call" "scheme" "LLinesPromised$Scheme;") ∈ lw_all := lw_g (lw_at lw_m6 152 rfl) rfl
theorem q1451 : (Jvm.Cond.fieldLink "LinesPromised$Payments" (84 : Nat) "LinesPromised$Loan" "pence" "I") ∈ lw_all := lw_g (lw_at lw_m6 154 rfl) rfl
theorem q1453 : (Jvm.Cond.fieldLink "LinesPromised$Payments" (87 : Nat) "LinesPromised$Call" "pence" "I") ∈ lw_all := lw_g (lw_at lw_m6 156 rfl) rfl
theorem q1454 : (Jvm.Cond.fieldLinkNest "LinesPromised$Payments" (71 : Nat) "LinesPromised$Call" "settled" "Z" "LinesPromised") ∈ lw_tbl := lw_at lw_m6 157 rfl
theorem q1477 : (Jvm.Cond.fieldLinkNest "LinesPromised$Payments" (81 : Nat) "LinesPromised$Loan" "holder" "I" "LinesPromised") ∈ lw_tbl := lw_at lw_m6 180 rfl
theorem q1490 : (Jvm.Cond.instantiable "LinesPromised$Payments" (7 : Nat)) ∈ lw_all := lw_g (lw_at lw_m6 193 rfl) rfl
theorem q1492 : (Jvm.Cond.instanceMethod ({ cls := "LinesPromised$Payments", name := "<init>", desc := "(LLinesPromised;)V" } : Jvm.MethodName)) ∈ lw_all := lw_g (lw_at lw_m6 195 rfl) rfl
theorem q1493 : (Jvm.Cond.code ({ cls := "LinesPromised$Payments", name := "<init>", desc := "(LLinesPromised;)V" } : Jvm.MethodName) prog_17_method_1_code (7 : Nat) (Option.none : Option Jvm.ClassFile.FieldType)) ∈ lw_all := lw_g (lw_at lw_m6 196 rfl) rfl
theorem q1494 : (Jvm.Cond.methodLink "LinesPromised$Payments" (9 : Nat) ({ cls := "java/lang/Object", name := "<init>", desc := "()V" } : Jvm.MethodName)) ∈ lw_all := lw_g (lw_at lw_m6 197 rfl) rfl
theorem q1495 : (Jvm.Cond.classLink "LinesPromised$Payments" (22 : Nat) "[[J") ∈ lw_all := lw_g (lw_at lw_m6 198 rfl) rfl
theorem q1497 : (Jvm.Cond.methodLink "LinesPromised$Payments" (47 : Nat) ({ cls := "java/util/ArrayList", name := "size", desc := "()I" } : Jvm.MethodName)) ∈ lw_all := lw_g (lw_at lw_m6 200 rfl) rfl
theorem q1498 : (Jvm.Cond.methodLinkNest "LinesPromised$Payments" (53 : Nat) ({ cls := "LinesPromised", name := "schemeAt", desc := "(I)LLinesPromised$Scheme;" } : Jvm.MethodName) "LinesPromised") ∈ lw_tbl := lw_at lw_m6 201 rfl
theorem q1499 : (Jvm.Cond.methodLink "LinesPromised$Payments" (65 : Nat) ({ cls := "java/util/ArrayList", name := "get", desc := "(I)Ljava/lang/Object;" } : Jvm.MethodName)) ∈ lw_all := lw_g (lw_at lw_m6 202 rfl) rfl
theorem q1500 : (Jvm.Cond.classLink "LinesPromised$Payments" (69 : Nat) "LinesPromised$Call") ∈ lw_all := lw_g (lw_at lw_m6 203 rfl) rfl
theorem q1501 : (Jvm.Cond.classLink "LinesPromised$Payments" (79 : Nat) "LinesPromised$Loan") ∈ lw_all := lw_g (lw_at lw_m6 204 rfl) rfl
theorem q1502 : (Jvm.Cond.methodLink "LinesPromised$Payments" (92 : Nat) ({ cls := "LinesPromised$Payments", name := "round", desc := "()Z" } : Jvm.MethodName)) ∈ lw_all := lw_g (lw_at lw_m6 205 rfl) rfl
theorem q1503 : (Jvm.Cond.privateMethod ({ cls := "LinesPromised$Payments", name := "round", desc := "()Z" } : Jvm.MethodName)) ∈ lw_tbl := lw_at lw_m6 206 rfl
theorem q1504 : (Jvm.Cond.instanceMethod ({ cls := "LinesPromised$Payments", name := "round", desc := "()Z" } : Jvm.MethodName)) ∈ lw_all := lw_g (lw_at lw_m6 207 rfl) rfl
theorem q1505 : (Jvm.Cond.code ({ cls := "LinesPromised$Payments", name := "round", desc := "()Z" } : Jvm.MethodName) prog_17_method_3_code (5 : Nat) (Option.some Jvm.ClassFile.FieldType.boolean)) ∈ lw_all := lw_g (lw_at lw_m6 208 rfl) rfl
theorem q1506 : (Jvm.Cond.methodLink "LinesPromised$Payments" (96 : Nat) ({ cls := "LinesPromised$Payments", name := "part", desc := "(II)J" } : Jvm.MethodName)) ∈ lw_all := lw_g (lw_at lw_m6 209 rfl) rfl
theorem q1507 : (Jvm.Cond.privateMethod ({ cls := "LinesPromised$Payments", name := "part", desc := "(II)J" } : Jvm.MethodName)) ∈ lw_tbl := lw_at lw_m6 210 rfl
theorem q1508 : (Jvm.Cond.instanceMethod ({ cls := "LinesPromised$Payments", name := "part", desc := "(II)J" } : Jvm.MethodName)) ∈ lw_all := lw_g (lw_at lw_m6 211 rfl) rfl
theorem q1509 : (Jvm.Cond.code ({ cls := "LinesPromised$Payments", name := "part", desc := "(II)J" } : Jvm.MethodName) prog_17_method_2_code (3 : Nat) (Option.some Jvm.ClassFile.FieldType.long)) ∈ lw_all := lw_g (lw_at lw_m6 212 rfl) rfl
theorem q1510 : (Jvm.Cond.methodLink "LinesPromised$Payments" (100 : Nat) ({ cls := "java/lang/Math", name := "min", desc := "(JJ)J" } : Jvm.MethodName)) ∈ lw_all := lw_g (lw_at lw_m6 213 rfl) rfl
theorem q1511 : (Jvm.Cond.fieldLink "LinesPromised$Payments" (19 : Nat) "LinesPromised$Payments" "many" "I") ∈ lw_all := lw_g (lw_at lw_m6 214 rfl) rfl
theorem q1513 : (Jvm.Cond.fieldLink "LinesPromised$Payments" (24 : Nat) "LinesPromised$Payments" "owes" "[[J") ∈ lw_all := lw_g (lw_at lw_m6 216 rfl) rfl
theorem q1515 : (Jvm.Cond.fieldLink "LinesPromised$Payments" (27 : Nat) "LinesPromised$Payments" "all" "[J") ∈ lw_all := lw_g (lw_at lw_m6 218 rfl) rfl
theorem q1516 : (Jvm.Cond.fieldLink "LinesPromised$Payments" (31 : Nat) "LinesPromised$Payments" "has" "[J") ∈ lw_all := lw_g (lw_at lw_m6 219 rfl) rfl
theorem q1517 : (Jvm.Cond.fieldLink "LinesPromised$Payments" (34 : Nat) "LinesPromised$Payments" "pays" "[J") ∈ lw_all := lw_g (lw_at lw_m6 220 rfl) rfl
theorem q1518 : (Jvm.Cond.fieldLink "LinesPromised$Payments" (37 : Nat) "LinesPromised$Payments" "comes" "[J") ∈ lw_all := lw_g (lw_at lw_m6 221 rfl) rfl
theorem q1519 : (Jvm.Cond.fieldLink "LinesPromised$Payments" (3 : Nat) "LinesPromised$Payments" "this$0" "LLinesPromised;") ∈ lw_all := lw_g (lw_at lw_m6 222 rfl) rfl
theorem q1520 : (Jvm.Cond.laysFinal "LinesPromised$Payments" "LinesPromised$Payments" "many" "I") ∈ lw_all := lw_g (lw_at lw_m6 223 rfl) rfl
theorem q1521 : (Jvm.Cond.soleField "LinesPromised$Payments" "many") ∈ lw_all := lw_g (lw_at lw_m6 224 rfl) rfl
theorem q1522 : (Jvm.Cond.laysFinal "LinesPromised$Payments" "LinesPromised$Payments" "owes" "[[J") ∈ lw_all := lw_g (lw_at lw_m6 225 rfl) rfl
theorem q1523 : (Jvm.Cond.soleField "LinesPromised$Payments" "owes") ∈ lw_all := lw_g (lw_at lw_m6 226 rfl) rfl
theorem q1524 : (Jvm.Cond.laysFinal "LinesPromised$Payments" "LinesPromised$Payments" "all" "[J") ∈ lw_all := lw_g (lw_at lw_m6 227 rfl) rfl
theorem q1525 : (Jvm.Cond.soleField "LinesPromised$Payments" "all") ∈ lw_all := lw_g (lw_at lw_m6 228 rfl) rfl
theorem q1526 : (Jvm.Cond.laysFinal "LinesPromised$Payments" "LinesPromised$Payments" "has" "[J") ∈ lw_all := lw_g (lw_at lw_m6 229 rfl) rfl
theorem q1527 : (Jvm.Cond.soleField "LinesPromised$Payments" "has") ∈ lw_all := lw_g (lw_at lw_m6 230 rfl) rfl
theorem q1528 : (Jvm.Cond.laysFinal "LinesPromised$Payments" "LinesPromised$Payments" "pays" "[J") ∈ lw_all := lw_g (lw_at lw_m6 231 rfl) rfl
theorem q1529 : (Jvm.Cond.soleField "LinesPromised$Payments" "pays") ∈ lw_all := lw_g (lw_at lw_m6 232 rfl) rfl
theorem q1530 : (Jvm.Cond.laysFinal "LinesPromised$Payments" "LinesPromised$Payments" "comes" "[J") ∈ lw_all := lw_g (lw_at lw_m6 233 rfl) rfl
theorem q1531 : (Jvm.Cond.soleField "LinesPromised$Payments" "comes") ∈ lw_all := lw_g (lw_at lw_m6 234 rfl) rfl
theorem q1532 : (Jvm.Cond.laysFinal "LinesPromised$Payments" "LinesPromised$Payments" "this$0" "LLinesPromised;") ∈ lw_all := lw_g (lw_at lw_m6 235 rfl) rfl
theorem q1533 : (Jvm.Cond.soleField "LinesPromised$Payments" "this$0") ∈ lw_all := lw_g (lw_at lw_m6 236 rfl) rfl
theorem q1534 : (Jvm.Cond.superclass "LinesPromised$Payments" "java/lang/Object") ∈ lw_all := lw_g (lw_at lw_m6 237 rfl) rfl
theorem q1536 : (Jvm.Cond.instanceMethod ({ cls := "LinesPromised$Payments", name := "falls", desc := "(I)Z" } : Jvm.MethodName)) ∈ lw_all := lw_g (lw_at lw_m6 239 rfl) rfl
theorem q1537 : (Jvm.Cond.selects "LinesPromised$Payments" ({ cls := "LinesPromised$Payments", name := "falls", desc := "(I)Z" } : Jvm.MethodName) ({ cls := "LinesPromised$Payments", name := "falls", desc := "(I)Z" } : Jvm.MethodName)) ∈ lw_all := lw_g (lw_at lw_m7 0 rfl) rfl
theorem q1538 : (Jvm.Cond.code ({ cls := "LinesPromised$Payments", name := "falls", desc := "(I)Z" } : Jvm.MethodName) prog_17_method_5_code (2 : Nat) (Option.some Jvm.ClassFile.FieldType.boolean)) ∈ lw_all := lw_g (lw_at lw_m7 1 rfl) rfl
theorem q1540 : (Jvm.Cond.instanceMethod ({ cls := "LinesPromised$Payments", name := "gets", desc := "(I)J" } : Jvm.MethodName)) ∈ lw_all := lw_g (lw_at lw_m7 3 rfl) rfl
theorem q1541 : (Jvm.Cond.selects "LinesPromised$Payments" ({ cls := "LinesPromised$Payments", name := "gets", desc := "(I)J" } : Jvm.MethodName) ({ cls := "LinesPromised$Payments", name := "gets", desc := "(I)J" } : Jvm.MethodName)) ∈ lw_all := lw_g (lw_at lw_m7 4 rfl) rfl
theorem q1542 : (Jvm.Cond.code ({ cls := "LinesPromised$Payments", name := "gets", desc := "(I)J" } : Jvm.MethodName) prog_17_method_4_code (5 : Nat) (Option.some Jvm.ClassFile.FieldType.long)) ∈ lw_all := lw_g (lw_at lw_m7 5 rfl) rfl
theorem q1552 : (Jvm.Cond.instanceMethod ({ cls := "LinesPromised$Payments", name := "paid", desc := "(I)J" } : Jvm.MethodName)) ∈ lw_all := lw_g (lw_at lw_m7 15 rfl) rfl
theorem q1553 : (Jvm.Cond.selects "LinesPromised$Payments" ({ cls := "LinesPromised$Payments", name := "paid", desc := "(I)J" } : Jvm.MethodName) ({ cls := "LinesPromised$Payments", name := "paid", desc := "(I)J" } : Jvm.MethodName)) ∈ lw_all := lw_g (lw_at lw_m7 16 rfl) rfl
theorem q1554 : (Jvm.Cond.code ({ cls := "LinesPromised$Payments", name := "paid", desc := "(I)J" } : Jvm.MethodName) prog_17_method_6_code (5 : Nat) (Option.some Jvm.ClassFile.FieldType.long)) ∈ lw_all := lw_g (lw_at lw_m7 17 rfl) rfl
theorem q2450 : (Jvm.Cond.castable "LinesPromised$Payments" "java/lang/Object") ∈ lw_tbl := lw_at lw_m10 193 rfl
theorem q137 : (Jvm.Cond.initialized "LinesPromised$Image") ∈ lw_all := lw_g (lw_at lw_m1 40 rfl) rfl
theorem q240 : (Jvm.Cond.selects "LinesPromised$Image" ({ cls := "java/lang/Object", name := "getClass", desc := "()Ljava/lang/Class;" } : Jvm.MethodName) ({ cls := "java/lang/Object", name := "getClass", desc := "()Ljava/lang/Class;" } : Jvm.MethodName)) ∈ lw_all := lw_g (lw_at lw_m1 143 rfl) rfl
theorem q593 : (Jvm.Cond.fieldLinkNest "LinesPromised$Image" (15 : Nat) "LinesPromised" "height" "[I" "LinesPromised") ∈ lw_tbl := lw_at lw_m3 16 rfl
theorem q595 : (Jvm.Cond.fieldLinkNest "LinesPromised$Image" (27 : Nat) "LinesPromised" "kind" "[I" "LinesPromised") ∈ lw_tbl := lw_at lw_m3 18 rfl
theorem q597 : (Jvm.Cond.fieldLinkNest "LinesPromised$Image" (94 : Nat) "LinesPromised" "towns" "Ljava/util/ArrayList;" "LinesPromised") ∈ lw_tbl := lw_at lw_m3 20 rfl
theorem q599 : (Jvm.Cond.fieldLinkNest "LinesPromised$Image" (45 : Nat) "LinesPromised" "coins" "[J" "LinesPromised") ∈ lw_tbl := lw_at lw_m3 22 rfl
theorem q602 : (Jvm.Cond.fieldLinkNest "LinesPromised$Image" (63 : Nat) "LinesPromised" "today" "I" "LinesPromised") ∈ lw_tbl := lw_at lw_m3 25 rfl
theorem q604 : (Jvm.Cond.fieldLinkNest "LinesPromised$Image" (70 : Nat) "LinesPromised" "men" "I" "LinesPromised") ∈ lw_tbl := lw_at lw_m3 27 rfl
theorem q606 : (Jvm.Cond.fieldLinkNest "LinesPromised$Image" (54 : Nat) "LinesPromised" "tape" "[B" "LinesPromised") ∈ lw_tbl := lw_at lw_m3 29 rfl
theorem q609 : (Jvm.Cond.fieldLinkNest "LinesPromised$Image" (76 : Nat) "LinesPromised" "taped" "I" "LinesPromised") ∈ lw_tbl := lw_at lw_m3 32 rfl
theorem q612 : (Jvm.Cond.fieldLinkNest "LinesPromised$Image" (107 : Nat) "LinesPromised" "orders" "Ljava/util/ArrayList;" "LinesPromised") ∈ lw_tbl := lw_at lw_m3 35 rfl
theorem q616 : (Jvm.Cond.fieldLinkNest "LinesPromised$Image" (119 : Nat) "LinesPromised" "papers" "Ljava/util/ArrayList;" "LinesPromised") ∈ lw_tbl := lw_at lw_m3 39 rfl
theorem q619 : (Jvm.Cond.fieldLinkNest "LinesPromised$Image" (88 : Nat) "LinesPromised" "schemes" "I" "LinesPromised") ∈ lw_tbl := lw_at lw_m3 42 rfl
theorem q624 : (Jvm.Cond.fieldLinkNest "LinesPromised$Image" (113 : Nat) "LinesPromised" "votes" "Ljava/util/ArrayList;" "LinesPromised") ∈ lw_tbl := lw_at lw_m3 47 rfl
theorem q626 : (Jvm.Cond.fieldLinkNest "LinesPromised$Image" (33 : Nat) "LinesPromised" "survey" "[I" "LinesPromised") ∈ lw_tbl := lw_at lw_m3 49 rfl
theorem q628 : (Jvm.Cond.fieldLinkNest "LinesPromised$Image" (39 : Nat) "LinesPromised" "press" "[I" "LinesPromised") ∈ lw_tbl := lw_at lw_m3 51 rfl
theorem q630 : (Jvm.Cond.fieldLinkNest "LinesPromised$Image" (82 : Nat) "LinesPromised" "jobs" "I" "LinesPromised") ∈ lw_tbl := lw_at lw_m3 53 rfl
theorem q635 : (Jvm.Cond.fieldLinkNest "LinesPromised$Image" (125 : Nat) "LinesPromised" "standing" "Ljava/util/ArrayList;" "LinesPromised") ∈ lw_tbl := lw_at lw_m3 58 rfl
theorem q640 : (Jvm.Cond.fieldLinkNest "LinesPromised$Image" (201 : Nat) "LinesPromised" "sheets" "[LLinesPromised$Sheet;" "LinesPromised") ∈ lw_tbl := lw_at lw_m3 63 rfl
theorem q742 : (Jvm.Cond.fieldLinkNest "LinesPromised$Image" (188 : Nat) "LinesPromised$Scheme" "coins" "J" "LinesPromised") ∈ lw_tbl := lw_at lw_m3 165 rfl
theorem q744 : (Jvm.Cond.fieldLinkNest "LinesPromised$Image" (215 : Nat) "LinesPromised$Scheme" "fallen" "Z" "LinesPromised") ∈ lw_tbl := lw_at lw_m3 167 rfl
theorem q748 : (Jvm.Cond.fieldLinkNest "LinesPromised$Image" (192 : Nat) "LinesPromised$Scheme" "price" "I" "LinesPromised") ∈ lw_tbl := lw_at lw_m3 171 rfl
theorem q751 : (Jvm.Cond.fieldLinkNest "LinesPromised$Image" (195 : Nat) "LinesPromised$Scheme" "calledOn" "I" "LinesPromised") ∈ lw_tbl := lw_at lw_m3 174 rfl
theorem q755 : (Jvm.Cond.fieldLinkNest "LinesPromised$Image" (198 : Nat) "LinesPromised$Scheme" "held" "[I" "LinesPromised") ∈ lw_tbl := lw_at lw_m3 178 rfl
theorem q1022 : (Jvm.Cond.fieldLinkNest "LinesPromised$Image" (211 : Nat) "LinesPromised$Bill" "granted" "Z" "LinesPromised") ∈ lw_tbl := lw_at lw_m4 205 rfl
theorem q1025 : (Jvm.Cond.fieldLinkNest "LinesPromised$Image" (174 : Nat) "LinesPromised$Bill" "left" "I" "LinesPromised") ∈ lw_tbl := lw_at lw_m4 208 rfl
theorem q1028 : (Jvm.Cond.fieldLinkNest "LinesPromised$Image" (177 : Nat) "LinesPromised$Bill" "doneOn" "I" "LinesPromised") ∈ lw_tbl := lw_at lw_m4 211 rfl
theorem q1030 : (Jvm.Cond.fieldLinkNest "LinesPromised$Image" (180 : Nat) "LinesPromised$Bill" "barred" "J" "LinesPromised") ∈ lw_tbl := lw_at lw_m4 213 rfl
theorem q1349 : (Jvm.Cond.fieldLinkNest "LinesPromised$Image" (161 : Nat) "LinesPromised$Word" "left" "I" "LinesPromised") ∈ lw_tbl := lw_at lw_m6 52 rfl
theorem q1399 : (Jvm.Cond.selects "LinesPromised$Image" ({ cls := "java/lang/Object", name := "equals", desc := "(Ljava/lang/Object;)Z" } : Jvm.MethodName) ({ cls := "java/lang/Object", name := "equals", desc := "(Ljava/lang/Object;)Z" } : Jvm.MethodName)) ∈ lw_all := lw_g (lw_at lw_m6 102 rfl) rfl
theorem q1455 : (Jvm.Cond.fieldLinkNest "LinesPromised$Image" (220 : Nat) "LinesPromised$Call" "settled" "Z" "LinesPromised") ∈ lw_tbl := lw_at lw_m6 158 rfl
theorem q1624 : (Jvm.Cond.instantiable "LinesPromised$Image" (22 : Nat)) ∈ lw_all := lw_g (lw_at lw_m7 87 rfl) rfl
theorem q1626 : (Jvm.Cond.instanceMethod ({ cls := "LinesPromised$Image", name := "<init>", desc := "(LLinesPromised;)V" } : Jvm.MethodName)) ∈ lw_all := lw_g (lw_at lw_m7 89 rfl) rfl
theorem q1627 : (Jvm.Cond.code ({ cls := "LinesPromised$Image", name := "<init>", desc := "(LLinesPromised;)V" } : Jvm.MethodName) prog_11_method_1_code (3 : Nat) (Option.none : Option Jvm.ClassFile.FieldType)) ∈ lw_all := lw_g (lw_at lw_m7 90 rfl) rfl
theorem q1628 : (Jvm.Cond.methodLink "LinesPromised$Image" (9 : Nat) ({ cls := "java/lang/Object", name := "<init>", desc := "()V" } : Jvm.MethodName)) ∈ lw_all := lw_g (lw_at lw_m7 91 rfl) rfl
theorem q1629 : (Jvm.Cond.methodLink "LinesPromised$Image" (19 : Nat) ({ cls := "[I", name := "clone", desc := "()Ljava/lang/Object;" } : Jvm.MethodName)) ∈ lw_all := lw_g (lw_at lw_m7 92 rfl) rfl
theorem q1635 : (Jvm.Cond.classLink "LinesPromised$Image" (20 : Nat) "[I") ∈ lw_all := lw_g (lw_at lw_m7 98 rfl) rfl
theorem q1636 : (Jvm.Cond.methodLink "LinesPromised$Image" (49 : Nat) ({ cls := "[J", name := "clone", desc := "()Ljava/lang/Object;" } : Jvm.MethodName)) ∈ lw_all := lw_g (lw_at lw_m7 99 rfl) rfl
theorem q1640 : (Jvm.Cond.classLink "LinesPromised$Image" (50 : Nat) "[J") ∈ lw_all := lw_g (lw_at lw_m7 103 rfl) rfl
theorem q1641 : (Jvm.Cond.methodLink "LinesPromised$Image" (58 : Nat) ({ cls := "[B", name := "clone", desc := "()Ljava/lang/Object;" } : Jvm.MethodName)) ∈ lw_all := lw_g (lw_at lw_m7 104 rfl) rfl
theorem q1645 : (Jvm.Cond.classLink "LinesPromised$Image" (59 : Nat) "[B") ∈ lw_all := lw_g (lw_at lw_m7 108 rfl) rfl
theorem q1646 : (Jvm.Cond.methodLink "LinesPromised$Image" (98 : Nat) ({ cls := "java/util/ArrayList", name := "size", desc := "()I" } : Jvm.MethodName)) ∈ lw_all := lw_g (lw_at lw_m7 109 rfl) rfl
theorem q1647 : (Jvm.Cond.classLink "LinesPromised$Image" (99 : Nat) "java/util/ArrayList") ∈ lw_all := lw_g (lw_at lw_m7 110 rfl) rfl
theorem q1648 : (Jvm.Cond.methodLink "LinesPromised$Image" (128 : Nat) ({ cls := "java/util/ArrayList", name := "<init>", desc := "(Ljava/util/Collection;)V" } : Jvm.MethodName)) ∈ lw_all := lw_g (lw_at lw_m7 111 rfl) rfl
theorem q1672 : (Jvm.Cond.classLink "LinesPromised$Image" (145 : Nat) "LinesPromised$Sheet") ∈ lw_all := lw_g (lw_at lw_m7 135 rfl) rfl
theorem q1673 : (Jvm.Cond.methodLink "LinesPromised$Image" (155 : Nat) ({ cls := "java/util/ArrayList", name := "get", desc := "(I)Ljava/lang/Object;" } : Jvm.MethodName)) ∈ lw_all := lw_g (lw_at lw_m7 136 rfl) rfl
theorem q1674 : (Jvm.Cond.classLink "LinesPromised$Image" (159 : Nat) "LinesPromised$Word") ∈ lw_all := lw_g (lw_at lw_m7 137 rfl) rfl
theorem q1675 : (Jvm.Cond.classLink "LinesPromised$Image" (164 : Nat) "LinesPromised$Paper") ∈ lw_all := lw_g (lw_at lw_m7 138 rfl) rfl
theorem q1676 : (Jvm.Cond.methodLink "LinesPromised$Image" (166 : Nat) ({ cls := "LinesPromised$Paper", name := "isDone", desc := "()Z" } : Jvm.MethodName)) ∈ lw_all := lw_g (lw_at lw_m7 139 rfl) rfl
theorem q1677 : (Jvm.Cond.methodLinkNest "LinesPromised$Image" (170 : Nat) ({ cls := "LinesPromised", name := "billAt", desc := "(I)LLinesPromised$Bill;" } : Jvm.MethodName) "LinesPromised") ∈ lw_tbl := lw_at lw_m7 140 rfl
theorem q1678 : (Jvm.Cond.methodLinkNest "LinesPromised$Image" (184 : Nat) ({ cls := "LinesPromised", name := "schemeAt", desc := "(I)LLinesPromised$Scheme;" } : Jvm.MethodName) "LinesPromised") ∈ lw_tbl := lw_at lw_m7 141 rfl
theorem q1679 : (Jvm.Cond.methodLink "LinesPromised$Image" (204 : Nat) ({ cls := "LinesPromised$Sheet", name := "same", desc := "()LLinesPromised$Sheet;" } : Jvm.MethodName)) ∈ lw_all := lw_g (lw_at lw_m7 142 rfl) rfl
theorem q1735 : (Jvm.Cond.fieldLink "LinesPromised$Image" (24 : Nat) "LinesPromised$Image" "heightWas" "[I") ∈ lw_all := lw_g (lw_at lw_m7 198 rfl) rfl
theorem q1736 : (Jvm.Cond.fieldLink "LinesPromised$Image" (30 : Nat) "LinesPromised$Image" "kindWas" "[I") ∈ lw_all := lw_g (lw_at lw_m7 199 rfl) rfl
theorem q1737 : (Jvm.Cond.fieldLink "LinesPromised$Image" (36 : Nat) "LinesPromised$Image" "surveyWas" "[I") ∈ lw_all := lw_g (lw_at lw_m7 200 rfl) rfl
theorem q1738 : (Jvm.Cond.fieldLink "LinesPromised$Image" (42 : Nat) "LinesPromised$Image" "pressWas" "[I") ∈ lw_all := lw_g (lw_at lw_m7 201 rfl) rfl
theorem q1739 : (Jvm.Cond.fieldLink "LinesPromised$Image" (51 : Nat) "LinesPromised$Image" "coinsWere" "[J") ∈ lw_all := lw_g (lw_at lw_m7 202 rfl) rfl
theorem q1740 : (Jvm.Cond.fieldLink "LinesPromised$Image" (60 : Nat) "LinesPromised$Image" "tapeWas" "[B") ∈ lw_all := lw_g (lw_at lw_m7 203 rfl) rfl
theorem q1741 : (Jvm.Cond.fieldLink "LinesPromised$Image" (67 : Nat) "LinesPromised$Image" "todayWas" "I") ∈ lw_all := lw_g (lw_at lw_m7 204 rfl) rfl
theorem q1742 : (Jvm.Cond.fieldLink "LinesPromised$Image" (73 : Nat) "LinesPromised$Image" "menWere" "I") ∈ lw_all := lw_g (lw_at lw_m7 205 rfl) rfl
theorem q1743 : (Jvm.Cond.fieldLink "LinesPromised$Image" (79 : Nat) "LinesPromised$Image" "tapedWas" "I") ∈ lw_all := lw_g (lw_at lw_m7 206 rfl) rfl
theorem q1744 : (Jvm.Cond.fieldLink "LinesPromised$Image" (85 : Nat) "LinesPromised$Image" "jobsWere" "I") ∈ lw_all := lw_g (lw_at lw_m7 207 rfl) rfl
theorem q1745 : (Jvm.Cond.fieldLink "LinesPromised$Image" (91 : Nat) "LinesPromised$Image" "schemesWere" "I") ∈ lw_all := lw_g (lw_at lw_m7 208 rfl) rfl
theorem q1746 : (Jvm.Cond.fieldLink "LinesPromised$Image" (104 : Nat) "LinesPromised$Image" "townsWere" "I") ∈ lw_all := lw_g (lw_at lw_m7 209 rfl) rfl
theorem q1747 : (Jvm.Cond.fieldLink "LinesPromised$Image" (110 : Nat) "LinesPromised$Image" "ordersWere" "I") ∈ lw_all := lw_g (lw_at lw_m7 210 rfl) rfl
theorem q1748 : (Jvm.Cond.fieldLink "LinesPromised$Image" (116 : Nat) "LinesPromised$Image" "votesWere" "I") ∈ lw_all := lw_g (lw_at lw_m7 211 rfl) rfl
theorem q1749 : (Jvm.Cond.fieldLink "LinesPromised$Image" (122 : Nat) "LinesPromised$Image" "papersWere" "I") ∈ lw_all := lw_g (lw_at lw_m7 212 rfl) rfl
theorem q1750 : (Jvm.Cond.fieldLink "LinesPromised$Image" (131 : Nat) "LinesPromised$Image" "standingWas" "Ljava/util/ArrayList;") ∈ lw_all := lw_g (lw_at lw_m7 213 rfl) rfl
theorem q1751 : (Jvm.Cond.fieldLink "LinesPromised$Image" (134 : Nat) "LinesPromised$Image" "leftWas" "[I") ∈ lw_all := lw_g (lw_at lw_m7 214 rfl) rfl
theorem q1752 : (Jvm.Cond.fieldLink "LinesPromised$Image" (137 : Nat) "LinesPromised$Image" "of" "[[J") ∈ lw_all := lw_g (lw_at lw_m7 215 rfl) rfl
theorem q1753 : (Jvm.Cond.fieldLink "LinesPromised$Image" (141 : Nat) "LinesPromised$Image" "done" "[Z") ∈ lw_all := lw_g (lw_at lw_m7 216 rfl) rfl
theorem q1754 : (Jvm.Cond.fieldLink "LinesPromised$Image" (147 : Nat) "LinesPromised$Image" "sheetsWere" "[LLinesPromised$Sheet;") ∈ lw_all := lw_g (lw_at lw_m7 217 rfl) rfl
theorem q1755 : (Jvm.Cond.fieldLink "LinesPromised$Image" (151 : Nat) "LinesPromised$Image" "heldWas" "[[I") ∈ lw_all := lw_g (lw_at lw_m7 218 rfl) rfl
theorem q1756 : (Jvm.Cond.fieldLink "LinesPromised$Image" (3 : Nat) "LinesPromised$Image" "this$0" "LLinesPromised;") ∈ lw_all := lw_g (lw_at lw_m7 219 rfl) rfl
theorem q1757 : (Jvm.Cond.laysFinal "LinesPromised$Image" "LinesPromised$Image" "heightWas" "[I") ∈ lw_all := lw_g (lw_at lw_m7 220 rfl) rfl
theorem q1758 : (Jvm.Cond.soleField "LinesPromised$Image" "heightWas") ∈ lw_all := lw_g (lw_at lw_m7 221 rfl) rfl
theorem q1759 : (Jvm.Cond.laysFinal "LinesPromised$Image" "LinesPromised$Image" "kindWas" "[I") ∈ lw_all := lw_g (lw_at lw_m7 222 rfl) rfl
theorem q1760 : (Jvm.Cond.soleField "LinesPromised$Image" "kindWas") ∈ lw_all := lw_g (lw_at lw_m7 223 rfl) rfl
theorem q1761 : (Jvm.Cond.laysFinal "LinesPromised$Image" "LinesPromised$Image" "surveyWas" "[I") ∈ lw_all := lw_g (lw_at lw_m7 224 rfl) rfl
theorem q1762 : (Jvm.Cond.soleField "LinesPromised$Image" "surveyWas") ∈ lw_all := lw_g (lw_at lw_m7 225 rfl) rfl
theorem q1763 : (Jvm.Cond.laysFinal "LinesPromised$Image" "LinesPromised$Image" "pressWas" "[I") ∈ lw_all := lw_g (lw_at lw_m7 226 rfl) rfl
theorem q1764 : (Jvm.Cond.soleField "LinesPromised$Image" "pressWas") ∈ lw_all := lw_g (lw_at lw_m7 227 rfl) rfl
theorem q1765 : (Jvm.Cond.laysFinal "LinesPromised$Image" "LinesPromised$Image" "coinsWere" "[J") ∈ lw_all := lw_g (lw_at lw_m7 228 rfl) rfl
theorem q1766 : (Jvm.Cond.soleField "LinesPromised$Image" "coinsWere") ∈ lw_all := lw_g (lw_at lw_m7 229 rfl) rfl
theorem q1767 : (Jvm.Cond.laysFinal "LinesPromised$Image" "LinesPromised$Image" "tapeWas" "[B") ∈ lw_all := lw_g (lw_at lw_m7 230 rfl) rfl
theorem q1768 : (Jvm.Cond.soleField "LinesPromised$Image" "tapeWas") ∈ lw_all := lw_g (lw_at lw_m7 231 rfl) rfl
theorem q1769 : (Jvm.Cond.laysFinal "LinesPromised$Image" "LinesPromised$Image" "todayWas" "I") ∈ lw_all := lw_g (lw_at lw_m7 232 rfl) rfl
theorem q1770 : (Jvm.Cond.soleField "LinesPromised$Image" "todayWas") ∈ lw_all := lw_g (lw_at lw_m7 233 rfl) rfl
theorem q1771 : (Jvm.Cond.laysFinal "LinesPromised$Image" "LinesPromised$Image" "menWere" "I") ∈ lw_all := lw_g (lw_at lw_m7 234 rfl) rfl
theorem q1772 : (Jvm.Cond.soleField "LinesPromised$Image" "menWere") ∈ lw_all := lw_g (lw_at lw_m7 235 rfl) rfl
theorem q1773 : (Jvm.Cond.laysFinal "LinesPromised$Image" "LinesPromised$Image" "tapedWas" "I") ∈ lw_all := lw_g (lw_at lw_m7 236 rfl) rfl
theorem q1774 : (Jvm.Cond.soleField "LinesPromised$Image" "tapedWas") ∈ lw_all := lw_g (lw_at lw_m7 237 rfl) rfl
theorem q1775 : (Jvm.Cond.laysFinal "LinesPromised$Image" "LinesPromised$Image" "jobsWere" "I") ∈ lw_all := lw_g (lw_at lw_m7 238 rfl) rfl
theorem q1776 : (Jvm.Cond.soleField "LinesPromised$Image" "jobsWere") ∈ lw_all := lw_g (lw_at lw_m7 239 rfl) rfl
theorem q1777 : (Jvm.Cond.laysFinal "LinesPromised$Image" "LinesPromised$Image" "schemesWere" "I") ∈ lw_all := lw_g (lw_at lw_m8 0 rfl) rfl
theorem q1778 : (Jvm.Cond.soleField "LinesPromised$Image" "schemesWere") ∈ lw_all := lw_g (lw_at lw_m8 1 rfl) rfl
theorem q1779 : (Jvm.Cond.laysFinal "LinesPromised$Image" "LinesPromised$Image" "townsWere" "I") ∈ lw_all := lw_g (lw_at lw_m8 2 rfl) rfl
theorem q1780 : (Jvm.Cond.soleField "LinesPromised$Image" "townsWere") ∈ lw_all := lw_g (lw_at lw_m8 3 rfl) rfl
theorem q1781 : (Jvm.Cond.laysFinal "LinesPromised$Image" "LinesPromised$Image" "ordersWere" "I") ∈ lw_all := lw_g (lw_at lw_m8 4 rfl) rfl
theorem q1782 : (Jvm.Cond.soleField "LinesPromised$Image" "ordersWere") ∈ lw_all := lw_g (lw_at lw_m8 5 rfl) rfl
theorem q1783 : (Jvm.Cond.laysFinal "LinesPromised$Image" "LinesPromised$Image" "votesWere" "I") ∈ lw_all := lw_g (lw_at lw_m8 6 rfl) rfl
theorem q1784 : (Jvm.Cond.soleField "LinesPromised$Image" "votesWere") ∈ lw_all := lw_g (lw_at lw_m8 7 rfl) rfl
theorem q1785 : (Jvm.Cond.laysFinal "LinesPromised$Image" "LinesPromised$Image" "papersWere" "I") ∈ lw_all := lw_g (lw_at lw_m8 8 rfl) rfl
theorem q1786 : (Jvm.Cond.soleField "LinesPromised$Image" "papersWere") ∈ lw_all := lw_g (lw_at lw_m8 9 rfl) rfl
theorem q1787 : (Jvm.Cond.laysFinal "LinesPromised$Image" "LinesPromised$Image" "standingWas" "Ljava/util/ArrayList;") ∈ lw_all := lw_g (lw_at lw_m8 10 rfl) rfl
theorem q1788 : (Jvm.Cond.soleField "LinesPromised$Image" "standingWas") ∈ lw_all := lw_g (lw_at lw_m8 11 rfl) rfl
theorem q1789 : (Jvm.Cond.laysFinal "LinesPromised$Image" "LinesPromised$Image" "leftWas" "[I") ∈ lw_all := lw_g (lw_at lw_m8 12 rfl) rfl
theorem q1790 : (Jvm.Cond.soleField "LinesPromised$Image" "leftWas") ∈ lw_all := lw_g (lw_at lw_m8 13 rfl) rfl
theorem q1791 : (Jvm.Cond.laysFinal "LinesPromised$Image" "LinesPromised$Image" "of" "[[J") ∈ lw_all := lw_g (lw_at lw_m8 14 rfl) rfl
theorem q1792 : (Jvm.Cond.soleField "LinesPromised$Image" "of") ∈ lw_all := lw_g (lw_at lw_m8 15 rfl) rfl
theorem q1793 : (Jvm.Cond.laysFinal "LinesPromised$Image" "LinesPromised$Image" "done" "[Z") ∈ lw_all := lw_g (lw_at lw_m8 16 rfl) rfl
theorem q1794 : (Jvm.Cond.soleField "LinesPromised$Image" "done") ∈ lw_all := lw_g (lw_at lw_m8 17 rfl) rfl
theorem q1795 : (Jvm.Cond.laysFinal "LinesPromised$Image" "LinesPromised$Image" "sheetsWere" "[LLinesPromised$Sheet;") ∈ lw_all := lw_g (lw_at lw_m8 18 rfl) rfl
theorem q1796 : (Jvm.Cond.soleField "LinesPromised$Image" "sheetsWere") ∈ lw_all := lw_g (lw_at lw_m8 19 rfl) rfl
theorem q1797 : (Jvm.Cond.laysFinal "LinesPromised$Image" "LinesPromised$Image" "heldWas" "[[I") ∈ lw_all := lw_g (lw_at lw_m8 20 rfl) rfl
theorem q1798 : (Jvm.Cond.soleField "LinesPromised$Image" "heldWas") ∈ lw_all := lw_g (lw_at lw_m8 21 rfl) rfl
theorem q1799 : (Jvm.Cond.laysFinal "LinesPromised$Image" "LinesPromised$Image" "this$0" "LLinesPromised;") ∈ lw_all := lw_g (lw_at lw_m8 22 rfl) rfl
theorem q1800 : (Jvm.Cond.soleField "LinesPromised$Image" "this$0") ∈ lw_all := lw_g (lw_at lw_m8 23 rfl) rfl
theorem q1801 : (Jvm.Cond.superclass "LinesPromised$Image" "java/lang/Object") ∈ lw_all := lw_g (lw_at lw_m8 24 rfl) rfl
theorem q1807 : (Jvm.Cond.instanceMethod ({ cls := "LinesPromised$Image", name := "putBack", desc := "()V" } : Jvm.MethodName)) ∈ lw_all := lw_g (lw_at lw_m8 30 rfl) rfl
theorem q1808 : (Jvm.Cond.selects "LinesPromised$Image" ({ cls := "LinesPromised$Image", name := "putBack", desc := "()V" } : Jvm.MethodName) ({ cls := "LinesPromised$Image", name := "putBack", desc := "()V" } : Jvm.MethodName)) ∈ lw_all := lw_g (lw_at lw_m8 31 rfl) rfl
theorem q1809 : (Jvm.Cond.code ({ cls := "LinesPromised$Image", name := "putBack", desc := "()V" } : Jvm.MethodName) prog_11_method_4_code (2 : Nat) (Option.none : Option Jvm.ClassFile.FieldType)) ∈ lw_all := lw_g (lw_at lw_m8 32 rfl) rfl
theorem q1810 : (Jvm.Cond.methodLink "LinesPromised$Image" (223 : Nat) ({ cls := "LinesPromised$Image", name := "cut", desc := "(Ljava/util/ArrayList;I)V" } : Jvm.MethodName)) ∈ lw_all := lw_g (lw_at lw_m8 33 rfl) rfl
theorem q1811 : (Jvm.Cond.privateMethod ({ cls := "LinesPromised$Image", name := "cut", desc := "(Ljava/util/ArrayList;I)V" } : Jvm.MethodName)) ∈ lw_tbl := lw_at lw_m8 34 rfl
theorem q1812 : (Jvm.Cond.instanceMethod ({ cls := "LinesPromised$Image", name := "cut", desc := "(Ljava/util/ArrayList;I)V" } : Jvm.MethodName)) ∈ lw_all := lw_g (lw_at lw_m8 35 rfl) rfl
theorem q1813 : (Jvm.Cond.code ({ cls := "LinesPromised$Image", name := "cut", desc := "(Ljava/util/ArrayList;I)V" } : Jvm.MethodName) prog_11_method_2_code (3 : Nat) (Option.none : Option Jvm.ClassFile.FieldType)) ∈ lw_all := lw_g (lw_at lw_m8 36 rfl) rfl
theorem q1814 : (Jvm.Cond.methodLink "LinesPromised$Image" (208 : Nat) ({ cls := "java/util/ArrayList", name := "remove", desc := "(I)Ljava/lang/Object;" } : Jvm.MethodName)) ∈ lw_all := lw_g (lw_at lw_m8 37 rfl) rfl
theorem q1815 : (Jvm.Cond.methodLink "LinesPromised$Image" (227 : Nat) ({ cls := "LinesPromised$Image", name := "paperBack", desc := "(I)V" } : Jvm.MethodName)) ∈ lw_all := lw_g (lw_at lw_m8 38 rfl) rfl
theorem q1816 : (Jvm.Cond.privateMethod ({ cls := "LinesPromised$Image", name := "paperBack", desc := "(I)V" } : Jvm.MethodName)) ∈ lw_tbl := lw_at lw_m8 39 rfl
theorem q1817 : (Jvm.Cond.instanceMethod ({ cls := "LinesPromised$Image", name := "paperBack", desc := "(I)V" } : Jvm.MethodName)) ∈ lw_all := lw_g (lw_at lw_m8 40 rfl) rfl
theorem q1818 : (Jvm.Cond.code ({ cls := "LinesPromised$Image", name := "paperBack", desc := "(I)V" } : Jvm.MethodName) prog_11_method_3_code (5 : Nat) (Option.none : Option Jvm.ClassFile.FieldType)) ∈ lw_all := lw_g (lw_at lw_m8 41 rfl) rfl
theorem q1819 : (Jvm.Cond.classLink "LinesPromised$Image" (175 : Nat) "LinesPromised$Bill") ∈ lw_all := lw_g (lw_at lw_m8 42 rfl) rfl
theorem q1820 : (Jvm.Cond.classLink "LinesPromised$Image" (218 : Nat) "LinesPromised$Call") ∈ lw_all := lw_g (lw_at lw_m8 43 rfl) rfl
theorem q1821 : (Jvm.Cond.methodLink "LinesPromised$Image" (231 : Nat) ({ cls := "java/util/ArrayList", name := "clear", desc := "()V" } : Jvm.MethodName)) ∈ lw_all := lw_g (lw_at lw_m8 44 rfl) rfl
theorem q1825 : (Jvm.Cond.methodLink "LinesPromised$Image" (234 : Nat) ({ cls := "java/util/ArrayList", name := "add", desc := "(Ljava/lang/Object;)Z" } : Jvm.MethodName)) ∈ lw_all := lw_g (lw_at lw_m8 48 rfl) rfl
theorem q2451 : (Jvm.Cond.castable "LinesPromised$Image" "java/lang/Object") ∈ lw_tbl := lw_at lw_m10 194 rfl
theorem q138 : (Jvm.Cond.initialized "LinesPromised$Sheet") ∈ lw_all := lw_g (lw_at lw_m1 41 rfl) rfl
theorem q877 : (Jvm.Cond.declares ({ cls := "LinesPromised$Sheet", name := "size", desc := "()I" } : Jvm.MethodName)) ∈ lw_tbl := lw_at lw_m4 60 rfl
theorem q878 : (Jvm.Cond.sameMethod "LinesPromised$Sheet" "LinesPromised$Sheet" "size" "()I") ∈ lw_all := lw_g (lw_at lw_m4 61 rfl) rfl
theorem q907 : (Jvm.Cond.declares ({ cls := "LinesPromised$Sheet", name := "get", desc := "(I)I" } : Jvm.MethodName)) ∈ lw_tbl := lw_at lw_m4 90 rfl
theorem q908 : (Jvm.Cond.sameMethod "LinesPromised$Sheet" "LinesPromised$Sheet" "get" "(I)I") ∈ lw_all := lw_g (lw_at lw_m4 91 rfl) rfl
theorem q1680 : (Jvm.Cond.declares ({ cls := "LinesPromised$Sheet", name := "same", desc := "()LLinesPromised$Sheet;" } : Jvm.MethodName)) ∈ lw_tbl := lw_at lw_m7 143 rfl
theorem q1681 : (Jvm.Cond.sameMethod "LinesPromised$Sheet" "LinesPromised$Sheet" "same" "()LLinesPromised$Sheet;") ∈ lw_all := lw_g (lw_at lw_m7 144 rfl) rfl
theorem q1693 : (Jvm.Cond.instanceMethod ({ cls := "LinesPromised$Sheet", name := "<init>", desc := "()V" } : Jvm.MethodName)) ∈ lw_all := lw_g (lw_at lw_m7 156 rfl) rfl
theorem q1694 : (Jvm.Cond.code ({ cls := "LinesPromised$Sheet", name := "<init>", desc := "()V" } : Jvm.MethodName) prog_21_method_1_code (1 : Nat) (Option.none : Option Jvm.ClassFile.FieldType)) ∈ lw_all := lw_g (lw_at lw_m7 157 rfl) rfl
theorem q1695 : (Jvm.Cond.methodLink "LinesPromised$Sheet" (1 : Nat) ({ cls := "java/lang/Object", name := "<init>", desc := "()V" } : Jvm.MethodName)) ∈ lw_all := lw_g (lw_at lw_m7 158 rfl) rfl
theorem q1847 : (Jvm.Cond.declares ({ cls := "LinesPromised$Sheet", name := "set", desc := "(II)V" } : Jvm.MethodName)) ∈ lw_tbl := lw_at lw_m8 70 rfl
theorem q1848 : (Jvm.Cond.sameMethod "LinesPromised$Sheet" "LinesPromised$Sheet" "set" "(II)V") ∈ lw_all := lw_g (lw_at lw_m8 71 rfl) rfl
theorem q1863 : (Jvm.Cond.declares ({ cls := "LinesPromised$Sheet", name := "sort", desc := "()I" } : Jvm.MethodName)) ∈ lw_tbl := lw_at lw_m8 86 rfl
theorem q1864 : (Jvm.Cond.sameMethod "LinesPromised$Sheet" "LinesPromised$Sheet" "sort" "()I") ∈ lw_all := lw_g (lw_at lw_m8 87 rfl) rfl
theorem q1875 : (Jvm.Cond.declares ({ cls := "LinesPromised$Sheet", name := "copyTo", desc := "(ILLinesPromised$Sheet;II)V" } : Jvm.MethodName)) ∈ lw_tbl := lw_at lw_m8 98 rfl
theorem q1876 : (Jvm.Cond.sameMethod "LinesPromised$Sheet" "LinesPromised$Sheet" "copyTo" "(ILLinesPromised$Sheet;II)V") ∈ lw_all := lw_g (lw_at lw_m8 99 rfl) rfl
theorem q2428 : (Jvm.Cond.castable "LinesPromised$Sheet" "java/lang/Object") ∈ lw_tbl := lw_at lw_m10 171 rfl
theorem q139 : (Jvm.Cond.initialized "LinesPromised$Bytes") ∈ lw_all := lw_g (lw_at lw_m1 42 rfl) rfl
theorem q234 : (Jvm.Cond.selects "LinesPromised$Bytes" ({ cls := "java/lang/Object", name := "getClass", desc := "()Ljava/lang/Class;" } : Jvm.MethodName) ({ cls := "java/lang/Object", name := "getClass", desc := "()Ljava/lang/Class;" } : Jvm.MethodName)) ∈ lw_all := lw_g (lw_at lw_m1 137 rfl) rfl
theorem q879 : (Jvm.Cond.selects "LinesPromised$Bytes" ({ cls := "LinesPromised$Sheet", name := "size", desc := "()I" } : Jvm.MethodName) ({ cls := "LinesPromised$Bytes", name := "size", desc := "()I" } : Jvm.MethodName)) ∈ lw_all := lw_g (lw_at lw_m4 62 rfl) rfl
theorem q880 : (Jvm.Cond.instanceMethod ({ cls := "LinesPromised$Bytes", name := "size", desc := "()I" } : Jvm.MethodName)) ∈ lw_all := lw_g (lw_at lw_m4 63 rfl) rfl
theorem q881 : (Jvm.Cond.code ({ cls := "LinesPromised$Bytes", name := "size", desc := "()I" } : Jvm.MethodName) prog_4_method_3_code (1 : Nat) (Option.some Jvm.ClassFile.FieldType.int)) ∈ lw_all := lw_g (lw_at lw_m4 64 rfl) rfl
theorem q909 : (Jvm.Cond.selects "LinesPromised$Bytes" ({ cls := "LinesPromised$Sheet", name := "get", desc := "(I)I" } : Jvm.MethodName) ({ cls := "LinesPromised$Bytes", name := "get", desc := "(I)I" } : Jvm.MethodName)) ∈ lw_all := lw_g (lw_at lw_m4 92 rfl) rfl
theorem q910 : (Jvm.Cond.instanceMethod ({ cls := "LinesPromised$Bytes", name := "get", desc := "(I)I" } : Jvm.MethodName)) ∈ lw_all := lw_g (lw_at lw_m4 93 rfl) rfl
theorem q911 : (Jvm.Cond.code ({ cls := "LinesPromised$Bytes", name := "get", desc := "(I)I" } : Jvm.MethodName) prog_4_method_4_code (2 : Nat) (Option.some Jvm.ClassFile.FieldType.int)) ∈ lw_all := lw_g (lw_at lw_m4 94 rfl) rfl
theorem q1393 : (Jvm.Cond.selects "LinesPromised$Bytes" ({ cls := "java/lang/Object", name := "equals", desc := "(Ljava/lang/Object;)Z" } : Jvm.MethodName) ({ cls := "java/lang/Object", name := "equals", desc := "(Ljava/lang/Object;)Z" } : Jvm.MethodName)) ∈ lw_all := lw_g (lw_at lw_m6 96 rfl) rfl
theorem q1682 : (Jvm.Cond.selects "LinesPromised$Bytes" ({ cls := "LinesPromised$Sheet", name := "same", desc := "()LLinesPromised$Sheet;" } : Jvm.MethodName) ({ cls := "LinesPromised$Bytes", name := "same", desc := "()LLinesPromised$Sheet;" } : Jvm.MethodName)) ∈ lw_all := lw_g (lw_at lw_m7 145 rfl) rfl
theorem q1683 : (Jvm.Cond.instanceMethod ({ cls := "LinesPromised$Bytes", name := "same", desc := "()LLinesPromised$Sheet;" } : Jvm.MethodName)) ∈ lw_all := lw_g (lw_at lw_m7 146 rfl) rfl
theorem q1684 : (Jvm.Cond.code ({ cls := "LinesPromised$Bytes", name := "same", desc := "()LLinesPromised$Sheet;" } : Jvm.MethodName) prog_4_method_6_code (1 : Nat) (Option.some (Jvm.ClassFile.FieldType.object "LinesPromised$Sheet"))) ∈ lw_all := lw_g (lw_at lw_m7 147 rfl) rfl
theorem q1685 : (Jvm.Cond.classLink "LinesPromised$Bytes" (8 : Nat) "LinesPromised$Bytes") ∈ lw_all := lw_g (lw_at lw_m7 148 rfl) rfl
theorem q1686 : (Jvm.Cond.instantiable "LinesPromised$Bytes" (1 : Nat)) ∈ lw_all := lw_g (lw_at lw_m7 149 rfl) rfl
theorem q1687 : (Jvm.Cond.methodLink "LinesPromised$Bytes" (13 : Nat) ({ cls := "[B", name := "clone", desc := "()Ljava/lang/Object;" } : Jvm.MethodName)) ∈ lw_all := lw_g (lw_at lw_m7 150 rfl) rfl
theorem q1688 : (Jvm.Cond.classLink "LinesPromised$Bytes" (14 : Nat) "[B") ∈ lw_all := lw_g (lw_at lw_m7 151 rfl) rfl
theorem q1689 : (Jvm.Cond.methodLink "LinesPromised$Bytes" (18 : Nat) ({ cls := "LinesPromised$Bytes", name := "<init>", desc := "([B)V" } : Jvm.MethodName)) ∈ lw_all := lw_g (lw_at lw_m7 152 rfl) rfl
theorem q1690 : (Jvm.Cond.instanceMethod ({ cls := "LinesPromised$Bytes", name := "<init>", desc := "([B)V" } : Jvm.MethodName)) ∈ lw_all := lw_g (lw_at lw_m7 153 rfl) rfl
theorem q1691 : (Jvm.Cond.code ({ cls := "LinesPromised$Bytes", name := "<init>", desc := "([B)V" } : Jvm.MethodName) prog_4_method_1_code (2 : Nat) (Option.none : Option Jvm.ClassFile.FieldType)) ∈ lw_all := lw_g (lw_at lw_m7 154 rfl) rfl
theorem q1692 : (Jvm.Cond.methodLinkNest "LinesPromised$Bytes" (1 : Nat) ({ cls := "LinesPromised$Sheet", name := "<init>", desc := "()V" } : Jvm.MethodName) "LinesPromised") ∈ lw_tbl := lw_at lw_m7 155 rfl
theorem q1696 : (Jvm.Cond.fieldLink "LinesPromised$Bytes" (7 : Nat) "LinesPromised$Bytes" "of" "[B") ∈ lw_all := lw_g (lw_at lw_m7 159 rfl) rfl
theorem q1697 : (Jvm.Cond.laysFinal "LinesPromised$Bytes" "LinesPromised$Bytes" "of" "[B") ∈ lw_all := lw_g (lw_at lw_m7 160 rfl) rfl
theorem q1698 : (Jvm.Cond.soleField "LinesPromised$Bytes" "of") ∈ lw_all := lw_g (lw_at lw_m7 161 rfl) rfl
theorem q1699 : (Jvm.Cond.superclass "LinesPromised$Bytes" "LinesPromised$Sheet") ∈ lw_all := lw_g (lw_at lw_m7 162 rfl) rfl
theorem q1849 : (Jvm.Cond.selects "LinesPromised$Bytes" ({ cls := "LinesPromised$Sheet", name := "set", desc := "(II)V" } : Jvm.MethodName) ({ cls := "LinesPromised$Bytes", name := "set", desc := "(II)V" } : Jvm.MethodName)) ∈ lw_all := lw_g (lw_at lw_m8 72 rfl) rfl
theorem q1850 : (Jvm.Cond.instanceMethod ({ cls := "LinesPromised$Bytes", name := "set", desc := "(II)V" } : Jvm.MethodName)) ∈ lw_all := lw_g (lw_at lw_m8 73 rfl) rfl
theorem q1851 : (Jvm.Cond.code ({ cls := "LinesPromised$Bytes", name := "set", desc := "(II)V" } : Jvm.MethodName) prog_4_method_5_code (3 : Nat) (Option.none : Option Jvm.ClassFile.FieldType)) ∈ lw_all := lw_g (lw_at lw_m8 74 rfl) rfl
theorem q1865 : (Jvm.Cond.selects "LinesPromised$Bytes" ({ cls := "LinesPromised$Sheet", name := "sort", desc := "()I" } : Jvm.MethodName) ({ cls := "LinesPromised$Bytes", name := "sort", desc := "()I" } : Jvm.MethodName)) ∈ lw_all := lw_g (lw_at lw_m8 88 rfl) rfl
theorem q1866 : (Jvm.Cond.instanceMethod ({ cls := "LinesPromised$Bytes", name := "sort", desc := "()I" } : Jvm.MethodName)) ∈ lw_all := lw_g (lw_at lw_m8 89 rfl) rfl
theorem q1867 : (Jvm.Cond.code ({ cls := "LinesPromised$Bytes", name := "sort", desc := "()I" } : Jvm.MethodName) prog_4_method_2_code (1 : Nat) (Option.some Jvm.ClassFile.FieldType.int)) ∈ lw_all := lw_g (lw_at lw_m8 90 rfl) rfl
theorem q1877 : (Jvm.Cond.selects "LinesPromised$Bytes" ({ cls := "LinesPromised$Sheet", name := "copyTo", desc := "(ILLinesPromised$Sheet;II)V" } : Jvm.MethodName) ({ cls := "LinesPromised$Bytes", name := "copyTo", desc := "(ILLinesPromised$Sheet;II)V" } : Jvm.MethodName)) ∈ lw_all := lw_g (lw_at lw_m8 100 rfl) rfl
theorem q1878 : (Jvm.Cond.instanceMethod ({ cls := "LinesPromised$Bytes", name := "copyTo", desc := "(ILLinesPromised$Sheet;II)V" } : Jvm.MethodName)) ∈ lw_all := lw_g (lw_at lw_m8 101 rfl) rfl
theorem q1879 : (Jvm.Cond.code ({ cls := "LinesPromised$Bytes", name := "copyTo", desc := "(ILLinesPromised$Sheet;II)V" } : Jvm.MethodName) prog_4_method_7_code (5 : Nat) (Option.none : Option Jvm.ClassFile.FieldType)) ∈ lw_all := lw_g (lw_at lw_m8 102 rfl) rfl
theorem q1880 : (Jvm.Cond.methodLink "LinesPromised$Bytes" (21 : Nat) ({ cls := "java/lang/System", name := "arraycopy", desc := "(Ljava/lang/Object;ILjava/lang/Object;II)V" } : Jvm.MethodName)) ∈ lw_all := lw_g (lw_at lw_m8 103 rfl) rfl
theorem q2452 : (Jvm.Cond.castable "LinesPromised$Bytes" "java/lang/Object") ∈ lw_tbl := lw_at lw_m10 195 rfl
theorem q2457 : (Jvm.Cond.castable "LinesPromised$Bytes" "LinesPromised$Sheet") ∈ lw_tbl := lw_at lw_m10 200 rfl
theorem q140 : (Jvm.Cond.initialized "LinesPromised$Ints") ∈ lw_all := lw_g (lw_at lw_m1 43 rfl) rfl
theorem q241 : (Jvm.Cond.selects "LinesPromised$Ints" ({ cls := "java/lang/Object", name := "getClass", desc := "()Ljava/lang/Class;" } : Jvm.MethodName) ({ cls := "java/lang/Object", name := "getClass", desc := "()Ljava/lang/Class;" } : Jvm.MethodName)) ∈ lw_all := lw_g (lw_at lw_m1 144 rfl) rfl
theorem q882 : (Jvm.Cond.selects "LinesPromised$Ints" ({ cls := "LinesPromised$Sheet", name := "size", desc := "()I" } : Jvm.MethodName) ({ cls := "LinesPromised$Ints", name := "size", desc := "()I" } : Jvm.MethodName)) ∈ lw_all := lw_g (lw_at lw_m4 65 rfl) rfl
theorem q883 : (Jvm.Cond.instanceMethod ({ cls := "LinesPromised$Ints", name := "size", desc := "()I" } : Jvm.MethodName)) ∈ lw_all := lw_g (lw_at lw_m4 66 rfl) rfl
theorem q884 : (Jvm.Cond.code ({ cls := "LinesPromised$Ints", name := "size", desc := "()I" } : Jvm.MethodName) prog_12_method_3_code (1 : Nat) (Option.some Jvm.ClassFile.FieldType.int)) ∈ lw_all := lw_g (lw_at lw_m4 67 rfl) rfl
theorem q912 : (Jvm.Cond.selects "LinesPromised$Ints" ({ cls := "LinesPromised$Sheet", name := "get", desc := "(I)I" } : Jvm.MethodName) ({ cls := "LinesPromised$Ints", name := "get", desc := "(I)I" } : Jvm.MethodName)) ∈ lw_all := lw_g (lw_at lw_m4 95 rfl) rfl
theorem q913 : (Jvm.Cond.instanceMethod ({ cls := "LinesPromised$Ints", name := "get", desc := "(I)I" } : Jvm.MethodName)) ∈ lw_all := lw_g (lw_at lw_m4 96 rfl) rfl
theorem q914 : (Jvm.Cond.code ({ cls := "LinesPromised$Ints", name := "get", desc := "(I)I" } : Jvm.MethodName) prog_12_method_4_code (2 : Nat) (Option.some Jvm.ClassFile.FieldType.int)) ∈ lw_all := lw_g (lw_at lw_m4 97 rfl) rfl
theorem q1400 : (Jvm.Cond.selects "LinesPromised$Ints" ({ cls := "java/lang/Object", name := "equals", desc := "(Ljava/lang/Object;)Z" } : Jvm.MethodName) ({ cls := "java/lang/Object", name := "equals", desc := "(Ljava/lang/Object;)Z" } : Jvm.MethodName)) ∈ lw_all := lw_g (lw_at lw_m6 103 rfl) rfl
theorem q1701 : (Jvm.Cond.selects "LinesPromised$Ints" ({ cls := "LinesPromised$Sheet", name := "same", desc := "()LLinesPromised$Sheet;" } : Jvm.MethodName) ({ cls := "LinesPromised$Ints", name := "same", desc := "()LLinesPromised$Sheet;" } : Jvm.MethodName)) ∈ lw_all := lw_g (lw_at lw_m7 164 rfl) rfl
theorem q1702 : (Jvm.Cond.instanceMethod ({ cls := "LinesPromised$Ints", name := "same", desc := "()LLinesPromised$Sheet;" } : Jvm.MethodName)) ∈ lw_all := lw_g (lw_at lw_m7 165 rfl) rfl
theorem q1703 : (Jvm.Cond.code ({ cls := "LinesPromised$Ints", name := "same", desc := "()LLinesPromised$Sheet;" } : Jvm.MethodName) prog_12_method_6_code (1 : Nat) (Option.some (Jvm.ClassFile.FieldType.object "LinesPromised$Sheet"))) ∈ lw_all := lw_g (lw_at lw_m7 166 rfl) rfl
theorem q1704 : (Jvm.Cond.classLink "LinesPromised$Ints" (8 : Nat) "LinesPromised$Ints") ∈ lw_all := lw_g (lw_at lw_m7 167 rfl) rfl
theorem q1705 : (Jvm.Cond.instantiable "LinesPromised$Ints" (1 : Nat)) ∈ lw_all := lw_g (lw_at lw_m7 168 rfl) rfl
theorem q1706 : (Jvm.Cond.methodLink "LinesPromised$Ints" (13 : Nat) ({ cls := "[I", name := "clone", desc := "()Ljava/lang/Object;" } : Jvm.MethodName)) ∈ lw_all := lw_g (lw_at lw_m7 169 rfl) rfl
theorem q1707 : (Jvm.Cond.classLink "LinesPromised$Ints" (14 : Nat) "[I") ∈ lw_all := lw_g (lw_at lw_m7 170 rfl) rfl
theorem q1708 : (Jvm.Cond.methodLink "LinesPromised$Ints" (18 : Nat) ({ cls := "LinesPromised$Ints", name := "<init>", desc := "([I)V" } : Jvm.MethodName)) ∈ lw_all := lw_g (lw_at lw_m7 171 rfl) rfl
theorem q1709 : (Jvm.Cond.instanceMethod ({ cls := "LinesPromised$Ints", name := "<init>", desc := "([I)V" } : Jvm.MethodName)) ∈ lw_all := lw_g (lw_at lw_m7 172 rfl) rfl
theorem q1710 : (Jvm.Cond.code ({ cls := "LinesPromised$Ints", name := "<init>", desc := "([I)V" } : Jvm.MethodName) prog_12_method_1_code (2 : Nat) (Option.none : Option Jvm.ClassFile.FieldType)) ∈ lw_all := lw_g (lw_at lw_m7 173 rfl) rfl
theorem q1711 : (Jvm.Cond.methodLinkNest "LinesPromised$Ints" (1 : Nat) ({ cls := "LinesPromised$Sheet", name := "<init>", desc := "()V" } : Jvm.MethodName) "LinesPromised") ∈ lw_tbl := lw_at lw_m7 174 rfl
theorem q1712 : (Jvm.Cond.fieldLink "LinesPromised$Ints" (7 : Nat) "LinesPromised$Ints" "of" "[I") ∈ lw_all := lw_g (lw_at lw_m7 175 rfl) rfl
theorem q1713 : (Jvm.Cond.laysFinal "LinesPromised$Ints" "LinesPromised$Ints" "of" "[I") ∈ lw_all := lw_g (lw_at lw_m7 176 rfl) rfl
theorem q1714 : (Jvm.Cond.soleField "LinesPromised$Ints" "of") ∈ lw_all := lw_g (lw_at lw_m7 177 rfl) rfl
theorem q1715 : (Jvm.Cond.superclass "LinesPromised$Ints" "LinesPromised$Sheet") ∈ lw_all := lw_g (lw_at lw_m7 178 rfl) rfl
theorem q1852 : (Jvm.Cond.selects "LinesPromised$Ints" ({ cls := "LinesPromised$Sheet", name := "set", desc := "(II)V" } : Jvm.MethodName) ({ cls := "LinesPromised$Ints", name := "set", desc := "(II)V" } : Jvm.MethodName)) ∈ lw_all := lw_g (lw_at lw_m8 75 rfl) rfl
theorem q1853 : (Jvm.Cond.instanceMethod ({ cls := "LinesPromised$Ints", name := "set", desc := "(II)V" } : Jvm.MethodName)) ∈ lw_all := lw_g (lw_at lw_m8 76 rfl) rfl
theorem q1854 : (Jvm.Cond.code ({ cls := "LinesPromised$Ints", name := "set", desc := "(II)V" } : Jvm.MethodName) prog_12_method_5_code (3 : Nat) (Option.none : Option Jvm.ClassFile.FieldType)) ∈ lw_all := lw_g (lw_at lw_m8 77 rfl) rfl
theorem q1868 : (Jvm.Cond.selects "LinesPromised$Ints" ({ cls := "LinesPromised$Sheet", name := "sort", desc := "()I" } : Jvm.MethodName) ({ cls := "LinesPromised$Ints", name := "sort", desc := "()I" } : Jvm.MethodName)) ∈ lw_all := lw_g (lw_at lw_m8 91 rfl) rfl
theorem q1869 : (Jvm.Cond.instanceMethod ({ cls := "LinesPromised$Ints", name := "sort", desc := "()I" } : Jvm.MethodName)) ∈ lw_all := lw_g (lw_at lw_m8 92 rfl) rfl
theorem q1870 : (Jvm.Cond.code ({ cls := "LinesPromised$Ints", name := "sort", desc := "()I" } : Jvm.MethodName) prog_12_method_2_code (1 : Nat) (Option.some Jvm.ClassFile.FieldType.int)) ∈ lw_all := lw_g (lw_at lw_m8 93 rfl) rfl
theorem q1881 : (Jvm.Cond.selects "LinesPromised$Ints" ({ cls := "LinesPromised$Sheet", name := "copyTo", desc := "(ILLinesPromised$Sheet;II)V" } : Jvm.MethodName) ({ cls := "LinesPromised$Ints", name := "copyTo", desc := "(ILLinesPromised$Sheet;II)V" } : Jvm.MethodName)) ∈ lw_all := lw_g (lw_at lw_m8 104 rfl) rfl
theorem q1882 : (Jvm.Cond.instanceMethod ({ cls := "LinesPromised$Ints", name := "copyTo", desc := "(ILLinesPromised$Sheet;II)V" } : Jvm.MethodName)) ∈ lw_all := lw_g (lw_at lw_m8 105 rfl) rfl
theorem q1883 : (Jvm.Cond.code ({ cls := "LinesPromised$Ints", name := "copyTo", desc := "(ILLinesPromised$Sheet;II)V" } : Jvm.MethodName) prog_12_method_7_code (5 : Nat) (Option.none : Option Jvm.ClassFile.FieldType)) ∈ lw_all := lw_g (lw_at lw_m8 106 rfl) rfl
theorem q1884 : (Jvm.Cond.methodLink "LinesPromised$Ints" (21 : Nat) ({ cls := "java/lang/System", name := "arraycopy", desc := "(Ljava/lang/Object;ILjava/lang/Object;II)V" } : Jvm.MethodName)) ∈ lw_all := lw_g (lw_at lw_m8 107 rfl) rfl
theorem q2454 : (Jvm.Cond.castable "LinesPromised$Ints" "java/lang/Object") ∈ lw_tbl := lw_at lw_m10 197 rfl
theorem q2459 : (Jvm.Cond.castable "LinesPromised$Ints" "LinesPromised$Sheet") ∈ lw_tbl := lw_at lw_m10 202 rfl
theorem q141 : (Jvm.Cond.initialized "LinesPromised$Shorts") ∈ lw_all := lw_g (lw_at lw_m1 44 rfl) rfl
theorem q249 : (Jvm.Cond.selects "LinesPromised$Shorts" ({ cls := "java/lang/Object", name := "getClass", desc := "()Ljava/lang/Class;" } : Jvm.MethodName) ({ cls := "java/lang/Object", name := "getClass", desc := "()Ljava/lang/Class;" } : Jvm.MethodName)) ∈ lw_all := lw_g (lw_at lw_m1 152 rfl) rfl
theorem q885 : (Jvm.Cond.selects "LinesPromised$Shorts" ({ cls := "LinesPromised$Sheet", name := "size", desc := "()I" } : Jvm.MethodName) ({ cls := "LinesPromised$Shorts", name := "size", desc := "()I" } : Jvm.MethodName)) ∈ lw_all := lw_g (lw_at lw_m4 68 rfl) rfl
theorem q886 : (Jvm.Cond.instanceMethod ({ cls := "LinesPromised$Shorts", name := "size", desc := "()I" } : Jvm.MethodName)) ∈ lw_all := lw_g (lw_at lw_m4 69 rfl) rfl
theorem q887 : (Jvm.Cond.code ({ cls := "LinesPromised$Shorts", name := "size", desc := "()I" } : Jvm.MethodName) prog_22_method_3_code (1 : Nat) (Option.some Jvm.ClassFile.FieldType.int)) ∈ lw_all := lw_g (lw_at lw_m4 70 rfl) rfl
theorem q915 : (Jvm.Cond.selects "LinesPromised$Shorts" ({ cls := "LinesPromised$Sheet", name := "get", desc := "(I)I" } : Jvm.MethodName) ({ cls := "LinesPromised$Shorts", name := "get", desc := "(I)I" } : Jvm.MethodName)) ∈ lw_all := lw_g (lw_at lw_m4 98 rfl) rfl
theorem q916 : (Jvm.Cond.instanceMethod ({ cls := "LinesPromised$Shorts", name := "get", desc := "(I)I" } : Jvm.MethodName)) ∈ lw_all := lw_g (lw_at lw_m4 99 rfl) rfl
theorem q917 : (Jvm.Cond.code ({ cls := "LinesPromised$Shorts", name := "get", desc := "(I)I" } : Jvm.MethodName) prog_22_method_4_code (2 : Nat) (Option.some Jvm.ClassFile.FieldType.int)) ∈ lw_all := lw_g (lw_at lw_m4 100 rfl) rfl
theorem q1408 : (Jvm.Cond.selects "LinesPromised$Shorts" ({ cls := "java/lang/Object", name := "equals", desc := "(Ljava/lang/Object;)Z" } : Jvm.MethodName) ({ cls := "java/lang/Object", name := "equals", desc := "(Ljava/lang/Object;)Z" } : Jvm.MethodName)) ∈ lw_all := lw_g (lw_at lw_m6 111 rfl) rfl
theorem q1716 : (Jvm.Cond.selects "LinesPromised$Shorts" ({ cls := "LinesPromised$Sheet", name := "same", desc := "()LLinesPromised$Sheet;" } : Jvm.MethodName) ({ cls := "LinesPromised$Shorts", name := "same", desc := "()LLinesPromised$Sheet;" } : Jvm.MethodName)) ∈ lw_all := lw_g (lw_at lw_m7 179 rfl) rfl
theorem q1717 : (Jvm.Cond.instanceMethod ({ cls := "LinesPromised$Shorts", name := "same", desc := "()LLinesPromised$Sheet;" } : Jvm.MethodName)) ∈ lw_all := lw_g (lw_at lw_m7 180 rfl) rfl
theorem q1718 : (Jvm.Cond.code ({ cls := "LinesPromised$Shorts", name := "same", desc := "()LLinesPromised$Sheet;" } : Jvm.MethodName) prog_22_method_6_code (1 : Nat) (Option.some (Jvm.ClassFile.FieldType.object "LinesPromised$Sheet"))) ∈ lw_all := lw_g (lw_at lw_m7 181 rfl) rfl
theorem q1719 : (Jvm.Cond.classLink "LinesPromised$Shorts" (8 : Nat) "LinesPromised$Shorts") ∈ lw_all := lw_g (lw_at lw_m7 182 rfl) rfl
theorem q1720 : (Jvm.Cond.instantiable "LinesPromised$Shorts" (1 : Nat)) ∈ lw_all := lw_g (lw_at lw_m7 183 rfl) rfl
theorem q1721 : (Jvm.Cond.methodLink "LinesPromised$Shorts" (13 : Nat) ({ cls := "[S", name := "clone", desc := "()Ljava/lang/Object;" } : Jvm.MethodName)) ∈ lw_all := lw_g (lw_at lw_m7 184 rfl) rfl
theorem q1725 : (Jvm.Cond.classLink "LinesPromised$Shorts" (14 : Nat) "[S") ∈ lw_all := lw_g (lw_at lw_m7 188 rfl) rfl
theorem q1726 : (Jvm.Cond.methodLink "LinesPromised$Shorts" (18 : Nat) ({ cls := "LinesPromised$Shorts", name := "<init>", desc := "([S)V" } : Jvm.MethodName)) ∈ lw_all := lw_g (lw_at lw_m7 189 rfl) rfl
theorem q1727 : (Jvm.Cond.instanceMethod ({ cls := "LinesPromised$Shorts", name := "<init>", desc := "([S)V" } : Jvm.MethodName)) ∈ lw_all := lw_g (lw_at lw_m7 190 rfl) rfl
theorem q1728 : (Jvm.Cond.code ({ cls := "LinesPromised$Shorts", name := "<init>", desc := "([S)V" } : Jvm.MethodName) prog_22_method_1_code (2 : Nat) (Option.none : Option Jvm.ClassFile.FieldType)) ∈ lw_all := lw_g (lw_at lw_m7 191 rfl) rfl
theorem q1729 : (Jvm.Cond.methodLinkNest "LinesPromised$Shorts" (1 : Nat) ({ cls := "LinesPromised$Sheet", name := "<init>", desc := "()V" } : Jvm.MethodName) "LinesPromised") ∈ lw_tbl := lw_at lw_m7 192 rfl
theorem q1730 : (Jvm.Cond.fieldLink "LinesPromised$Shorts" (7 : Nat) "LinesPromised$Shorts" "of" "[S") ∈ lw_all := lw_g (lw_at lw_m7 193 rfl) rfl
theorem q1731 : (Jvm.Cond.laysFinal "LinesPromised$Shorts" "LinesPromised$Shorts" "of" "[S") ∈ lw_all := lw_g (lw_at lw_m7 194 rfl) rfl
theorem q1732 : (Jvm.Cond.soleField "LinesPromised$Shorts" "of") ∈ lw_all := lw_g (lw_at lw_m7 195 rfl) rfl
theorem q1733 : (Jvm.Cond.superclass "LinesPromised$Shorts" "LinesPromised$Sheet") ∈ lw_all := lw_g (lw_at lw_m7 196 rfl) rfl
theorem q1855 : (Jvm.Cond.selects "LinesPromised$Shorts" ({ cls := "LinesPromised$Sheet", name := "set", desc := "(II)V" } : Jvm.MethodName) ({ cls := "LinesPromised$Shorts", name := "set", desc := "(II)V" } : Jvm.MethodName)) ∈ lw_all := lw_g (lw_at lw_m8 78 rfl) rfl
theorem q1856 : (Jvm.Cond.instanceMethod ({ cls := "LinesPromised$Shorts", name := "set", desc := "(II)V" } : Jvm.MethodName)) ∈ lw_all := lw_g (lw_at lw_m8 79 rfl) rfl
theorem q1857 : (Jvm.Cond.code ({ cls := "LinesPromised$Shorts", name := "set", desc := "(II)V" } : Jvm.MethodName) prog_22_method_5_code (3 : Nat) (Option.none : Option Jvm.ClassFile.FieldType)) ∈ lw_all := lw_g (lw_at lw_m8 80 rfl) rfl
theorem q1871 : (Jvm.Cond.selects "LinesPromised$Shorts" ({ cls := "LinesPromised$Sheet", name := "sort", desc := "()I" } : Jvm.MethodName) ({ cls := "LinesPromised$Shorts", name := "sort", desc := "()I" } : Jvm.MethodName)) ∈ lw_all := lw_g (lw_at lw_m8 94 rfl) rfl
theorem q1872 : (Jvm.Cond.instanceMethod ({ cls := "LinesPromised$Shorts", name := "sort", desc := "()I" } : Jvm.MethodName)) ∈ lw_all := lw_g (lw_at lw_m8 95 rfl) rfl
theorem q1873 : (Jvm.Cond.code ({ cls := "LinesPromised$Shorts", name := "sort", desc := "()I" } : Jvm.MethodName) prog_22_method_2_code (1 : Nat) (Option.some Jvm.ClassFile.FieldType.int)) ∈ lw_all := lw_g (lw_at lw_m8 96 rfl) rfl
theorem q1885 : (Jvm.Cond.selects "LinesPromised$Shorts" ({ cls := "LinesPromised$Sheet", name := "copyTo", desc := "(ILLinesPromised$Sheet;II)V" } : Jvm.MethodName) ({ cls := "LinesPromised$Shorts", name := "copyTo", desc := "(ILLinesPromised$Sheet;II)V" } : Jvm.MethodName)) ∈ lw_all := lw_g (lw_at lw_m8 108 rfl) rfl
theorem q1886 : (Jvm.Cond.instanceMethod ({ cls := "LinesPromised$Shorts", name := "copyTo", desc := "(ILLinesPromised$Sheet;II)V" } : Jvm.MethodName)) ∈ lw_all := lw_g (lw_at lw_m8 109 rfl) rfl
theorem q1887 : (Jvm.Cond.code ({ cls := "LinesPromised$Shorts", name := "copyTo", desc := "(ILLinesPromised$Sheet;II)V" } : Jvm.MethodName) prog_22_method_7_code (5 : Nat) (Option.none : Option Jvm.ClassFile.FieldType)) ∈ lw_all := lw_g (lw_at lw_m8 110 rfl) rfl
theorem q1888 : (Jvm.Cond.methodLink "LinesPromised$Shorts" (21 : Nat) ({ cls := "java/lang/System", name := "arraycopy", desc := "(Ljava/lang/Object;ILjava/lang/Object;II)V" } : Jvm.MethodName)) ∈ lw_all := lw_g (lw_at lw_m8 111 rfl) rfl
theorem q2453 : (Jvm.Cond.castable "LinesPromised$Shorts" "java/lang/Object") ∈ lw_tbl := lw_at lw_m10 196 rfl
theorem q2458 : (Jvm.Cond.castable "LinesPromised$Shorts" "LinesPromised$Sheet") ∈ lw_tbl := lw_at lw_m10 201 rfl
theorem q106 : (Jvm.Cond.initialized "LinesPromised$Town") ∈ lw_all := lw_g (lw_at lw_m1 9 rfl) rfl
theorem q175 : (Jvm.Cond.instantiable "LinesPromised$Town" (3 : Nat)) ∈ lw_all := lw_g (lw_at lw_m1 78 rfl) rfl
theorem q177 : (Jvm.Cond.instanceMethod ({ cls := "LinesPromised$Town", name := "<init>", desc := "(III)V" } : Jvm.MethodName)) ∈ lw_all := lw_g (lw_at lw_m1 80 rfl) rfl
theorem q178 : (Jvm.Cond.code ({ cls := "LinesPromised$Town", name := "<init>", desc := "(III)V" } : Jvm.MethodName) prog_25_method_1_code (4 : Nat) (Option.none : Option Jvm.ClassFile.FieldType)) ∈ lw_all := lw_g (lw_at lw_m1 81 rfl) rfl
theorem q179 : (Jvm.Cond.methodLink "LinesPromised$Town" (1 : Nat) ({ cls := "java/lang/Object", name := "<init>", desc := "()V" } : Jvm.MethodName)) ∈ lw_all := lw_g (lw_at lw_m1 82 rfl) rfl
theorem q182 : (Jvm.Cond.fieldLink "LinesPromised$Town" (7 : Nat) "LinesPromised$Town" "number" "I") ∈ lw_all := lw_g (lw_at lw_m1 85 rfl) rfl
theorem q185 : (Jvm.Cond.fieldLink "LinesPromised$Town" (13 : Nat) "LinesPromised$Town" "cell" "I") ∈ lw_all := lw_g (lw_at lw_m1 88 rfl) rfl
theorem q187 : (Jvm.Cond.fieldLink "LinesPromised$Town" (16 : Nat) "LinesPromised$Town" "trade" "I") ∈ lw_all := lw_g (lw_at lw_m1 90 rfl) rfl
theorem q189 : (Jvm.Cond.laysFinal "LinesPromised$Town" "LinesPromised$Town" "number" "I") ∈ lw_all := lw_g (lw_at lw_m1 92 rfl) rfl
theorem q190 : (Jvm.Cond.soleField "LinesPromised$Town" "number") ∈ lw_all := lw_g (lw_at lw_m1 93 rfl) rfl
theorem q191 : (Jvm.Cond.laysFinal "LinesPromised$Town" "LinesPromised$Town" "cell" "I") ∈ lw_all := lw_g (lw_at lw_m1 94 rfl) rfl
theorem q192 : (Jvm.Cond.soleField "LinesPromised$Town" "cell") ∈ lw_all := lw_g (lw_at lw_m1 95 rfl) rfl
theorem q193 : (Jvm.Cond.laysFinal "LinesPromised$Town" "LinesPromised$Town" "trade" "I") ∈ lw_all := lw_g (lw_at lw_m1 96 rfl) rfl
theorem q194 : (Jvm.Cond.soleField "LinesPromised$Town" "trade") ∈ lw_all := lw_g (lw_at lw_m1 97 rfl) rfl
theorem q195 : (Jvm.Cond.superclass "LinesPromised$Town" "java/lang/Object") ∈ lw_all := lw_g (lw_at lw_m1 98 rfl) rfl
theorem q251 : (Jvm.Cond.selects "LinesPromised$Town" ({ cls := "java/lang/Object", name := "getClass", desc := "()Ljava/lang/Class;" } : Jvm.MethodName) ({ cls := "java/lang/Object", name := "getClass", desc := "()Ljava/lang/Class;" } : Jvm.MethodName)) ∈ lw_all := lw_g (lw_at lw_m1 154 rfl) rfl
theorem q1410 : (Jvm.Cond.selects "LinesPromised$Town" ({ cls := "java/lang/Object", name := "equals", desc := "(Ljava/lang/Object;)Z" } : Jvm.MethodName) ({ cls := "java/lang/Object", name := "equals", desc := "(Ljava/lang/Object;)Z" } : Jvm.MethodName)) ∈ lw_all := lw_g (lw_at lw_m6 113 rfl) rfl
theorem q2433 : (Jvm.Cond.castable "LinesPromised$Town" "java/lang/Object") ∈ lw_tbl := lw_at lw_m10 176 rfl
theorem q111 : (Jvm.Cond.initialized "LinesPromised$Order") ∈ lw_all := lw_g (lw_at lw_m1 14 rfl) rfl
theorem q244 : (Jvm.Cond.selects "LinesPromised$Order" ({ cls := "java/lang/Object", name := "getClass", desc := "()Ljava/lang/Class;" } : Jvm.MethodName) ({ cls := "java/lang/Object", name := "getClass", desc := "()Ljava/lang/Class;" } : Jvm.MethodName)) ∈ lw_all := lw_g (lw_at lw_m1 147 rfl) rfl
theorem q301 : (Jvm.Cond.instantiable "LinesPromised$Order" (2 : Nat)) ∈ lw_all := lw_g (lw_at lw_m1 204 rfl) rfl
theorem q303 : (Jvm.Cond.instanceMethod ({ cls := "LinesPromised$Order", name := "<init>", desc := "(I)V" } : Jvm.MethodName)) ∈ lw_all := lw_g (lw_at lw_m1 206 rfl) rfl
theorem q304 : (Jvm.Cond.code ({ cls := "LinesPromised$Order", name := "<init>", desc := "(I)V" } : Jvm.MethodName) prog_15_method_1_code (2 : Nat) (Option.none : Option Jvm.ClassFile.FieldType)) ∈ lw_all := lw_g (lw_at lw_m1 207 rfl) rfl
theorem q305 : (Jvm.Cond.methodLink "LinesPromised$Order" (1 : Nat) ({ cls := "java/lang/Object", name := "<init>", desc := "()V" } : Jvm.MethodName)) ∈ lw_all := lw_g (lw_at lw_m1 208 rfl) rfl
theorem q306 : (Jvm.Cond.classLink "LinesPromised$Order" (7 : Nat) "java/util/ArrayList") ∈ lw_all := lw_g (lw_at lw_m1 209 rfl) rfl
theorem q307 : (Jvm.Cond.methodLink "LinesPromised$Order" (9 : Nat) ({ cls := "java/util/ArrayList", name := "<init>", desc := "()V" } : Jvm.MethodName)) ∈ lw_all := lw_g (lw_at lw_m1 210 rfl) rfl
theorem q329 : (Jvm.Cond.fieldLink "LinesPromised$Order" (16 : Nat) "LinesPromised$Order" "day" "I") ∈ lw_all := lw_g (lw_at lw_m1 232 rfl) rfl
theorem q331 : (Jvm.Cond.fieldLink "LinesPromised$Order" (10 : Nat) "LinesPromised$Order" "clauses" "Ljava/util/ArrayList;") ∈ lw_all := lw_g (lw_at lw_m1 234 rfl) rfl
theorem q334 : (Jvm.Cond.laysFinal "LinesPromised$Order" "LinesPromised$Order" "day" "I") ∈ lw_all := lw_g (lw_at lw_m1 237 rfl) rfl
theorem q335 : (Jvm.Cond.soleField "LinesPromised$Order" "day") ∈ lw_all := lw_g (lw_at lw_m1 238 rfl) rfl
theorem q336 : (Jvm.Cond.laysFinal "LinesPromised$Order" "LinesPromised$Order" "clauses" "Ljava/util/ArrayList;") ∈ lw_all := lw_g (lw_at lw_m1 239 rfl) rfl
theorem q337 : (Jvm.Cond.soleField "LinesPromised$Order" "clauses") ∈ lw_all := lw_g (lw_at lw_m2 0 rfl) rfl
theorem q338 : (Jvm.Cond.superclass "LinesPromised$Order" "java/lang/Object") ∈ lw_all := lw_g (lw_at lw_m2 1 rfl) rfl
theorem q511 : (Jvm.Cond.fieldLinkNest "LinesPromised$Order" (30 : Nat) "LinesPromised$Clause" "word" "I" "LinesPromised") ∈ lw_tbl := lw_at lw_m2 174 rfl
theorem q544 : (Jvm.Cond.instanceMethod ({ cls := "LinesPromised$Order", name := "last", desc := "(I)I" } : Jvm.MethodName)) ∈ lw_all := lw_g (lw_at lw_m2 207 rfl) rfl
theorem q545 : (Jvm.Cond.selects "LinesPromised$Order" ({ cls := "LinesPromised$Order", name := "last", desc := "(I)I" } : Jvm.MethodName) ({ cls := "LinesPromised$Order", name := "last", desc := "(I)I" } : Jvm.MethodName)) ∈ lw_all := lw_g (lw_at lw_m2 208 rfl) rfl
theorem q546 : (Jvm.Cond.code ({ cls := "LinesPromised$Order", name := "last", desc := "(I)I" } : Jvm.MethodName) prog_15_method_2_code (3 : Nat) (Option.some Jvm.ClassFile.FieldType.int)) ∈ lw_all := lw_g (lw_at lw_m2 209 rfl) rfl
theorem q547 : (Jvm.Cond.methodLink "LinesPromised$Order" (20 : Nat) ({ cls := "java/util/ArrayList", name := "size", desc := "()I" } : Jvm.MethodName)) ∈ lw_all := lw_g (lw_at lw_m2 210 rfl) rfl
theorem q548 : (Jvm.Cond.methodLink "LinesPromised$Order" (24 : Nat) ({ cls := "java/util/ArrayList", name := "get", desc := "(I)Ljava/lang/Object;" } : Jvm.MethodName)) ∈ lw_all := lw_g (lw_at lw_m2 211 rfl) rfl
theorem q549 : (Jvm.Cond.classLink "LinesPromised$Order" (28 : Nat) "LinesPromised$Clause") ∈ lw_all := lw_g (lw_at lw_m2 212 rfl) rfl
theorem q1403 : (Jvm.Cond.selects "LinesPromised$Order" ({ cls := "java/lang/Object", name := "equals", desc := "(Ljava/lang/Object;)Z" } : Jvm.MethodName) ({ cls := "java/lang/Object", name := "equals", desc := "(Ljava/lang/Object;)Z" } : Jvm.MethodName)) ∈ lw_all := lw_g (lw_at lw_m6 106 rfl) rfl
theorem q2434 : (Jvm.Cond.castable "LinesPromised$Order" "java/lang/Object") ∈ lw_tbl := lw_at lw_m10 177 rfl
theorem q114 : (Jvm.Cond.initialized "LinesPromised$Wrong") ∈ lw_all := lw_g (lw_at lw_m1 17 rfl) rfl
theorem q254 : (Jvm.Cond.selects "LinesPromised$Wrong" ({ cls := "java/lang/Object", name := "getClass", desc := "()Ljava/lang/Class;" } : Jvm.MethodName) ({ cls := "java/lang/Object", name := "getClass", desc := "()Ljava/lang/Class;" } : Jvm.MethodName)) ∈ lw_all := lw_g (lw_at lw_m1 157 rfl) rfl
theorem q362 : (Jvm.Cond.instantiable "LinesPromised$Wrong" (7 : Nat)) ∈ lw_all := lw_g (lw_at lw_m2 25 rfl) rfl
theorem q363 : (Jvm.Cond.castable "LinesPromised$Wrong" "LinesPromised$Wrong") ∈ lw_tbl := lw_at lw_m2 26 rfl
theorem q368 : (Jvm.Cond.selects "LinesPromised$Wrong" ({ cls := "java/lang/Throwable", name := "fillInStackTrace", desc := "(I)Ljava/lang/Throwable;" } : Jvm.MethodName) ({ cls := "java/lang/Throwable", name := "fillInStackTrace", desc := "(I)Ljava/lang/Throwable;" } : Jvm.MethodName)) ∈ lw_all := lw_g (lw_at lw_m2 31 rfl) rfl
theorem q369 : (Jvm.Cond.selects "LinesPromised$Wrong" ({ cls := "java/lang/Throwable", name := "fillInStackTrace", desc := "()Ljava/lang/Throwable;" } : Jvm.MethodName) ({ cls := "java/lang/Throwable", name := "fillInStackTrace", desc := "()Ljava/lang/Throwable;" } : Jvm.MethodName)) ∈ lw_all := lw_g (lw_at lw_m2 32 rfl) rfl
theorem q370 : (Jvm.Cond.lays "LinesPromised$Wrong" "java/lang/Throwable" "cause" "Ljava/lang/Throwable;") ∈ lw_all := lw_g (lw_at lw_m2 33 rfl) rfl
theorem q372 : (Jvm.Cond.lays "LinesPromised$Wrong" "java/lang/Throwable" "stackTrace" "[Ljava/lang/StackTraceElement;") ∈ lw_all := lw_g (lw_at lw_m2 35 rfl) rfl
theorem q374 : (Jvm.Cond.lays "LinesPromised$Wrong" "java/lang/Throwable" "suppressedExceptions" "Ljava/util/List;") ∈ lw_all := lw_g (lw_at lw_m2 37 rfl) rfl
theorem q376 : (Jvm.Cond.lays "LinesPromised$Wrong" "java/lang/Throwable" "detailMessage" "Ljava/lang/String;") ∈ lw_all := lw_g (lw_at lw_m2 39 rfl) rfl
theorem q378 : (Jvm.Cond.lays "LinesPromised$Wrong" "java/lang/Throwable" "backtrace" "Ljava/lang/Object;") ∈ lw_all := lw_g (lw_at lw_m2 41 rfl) rfl
theorem q400 : (Jvm.Cond.instanceMethod ({ cls := "LinesPromised$Wrong", name := "<init>", desc := "(I)V" } : Jvm.MethodName)) ∈ lw_all := lw_g (lw_at lw_m2 63 rfl) rfl
theorem q401 : (Jvm.Cond.code ({ cls := "LinesPromised$Wrong", name := "<init>", desc := "(I)V" } : Jvm.MethodName) prog_28_method_1_code (2 : Nat) (Option.none : Option Jvm.ClassFile.FieldType)) ∈ lw_all := lw_g (lw_at lw_m2 64 rfl) rfl
theorem q402 : (Jvm.Cond.methodLink "LinesPromised$Wrong" (1 : Nat) ({ cls := "java/lang/Exception", name := "<init>", desc := "(Ljava/lang/String;Ljava/lang/Throwable;ZZ)V" } : Jvm.MethodName)) ∈ lw_all := lw_g (lw_at lw_m2 65 rfl) rfl
theorem q408 : (Jvm.Cond.fieldLink "LinesPromised$Wrong" (7 : Nat) "LinesPromised$Wrong" "place" "I") ∈ lw_all := lw_g (lw_at lw_m2 71 rfl) rfl
theorem q415 : (Jvm.Cond.laysFinal "LinesPromised$Wrong" "LinesPromised$Wrong" "place" "I") ∈ lw_all := lw_g (lw_at lw_m2 78 rfl) rfl
theorem q416 : (Jvm.Cond.soleField "LinesPromised$Wrong" "place") ∈ lw_all := lw_g (lw_at lw_m2 79 rfl) rfl
theorem q421 : (Jvm.Cond.lays "LinesPromised$Wrong" "java/lang/Throwable" "depth" "I") ∈ lw_all := lw_g (lw_at lw_m2 84 rfl) rfl
theorem q424 : (Jvm.Cond.superclass "LinesPromised$Wrong" "java/lang/Exception") ∈ lw_all := lw_g (lw_at lw_m2 87 rfl) rfl
theorem q1413 : (Jvm.Cond.selects "LinesPromised$Wrong" ({ cls := "java/lang/Object", name := "equals", desc := "(Ljava/lang/Object;)Z" } : Jvm.MethodName) ({ cls := "java/lang/Object", name := "equals", desc := "(Ljava/lang/Object;)Z" } : Jvm.MethodName)) ∈ lw_all := lw_g (lw_at lw_m6 116 rfl) rfl
theorem q2435 : (Jvm.Cond.castable "LinesPromised$Wrong" "java/lang/Object") ∈ lw_tbl := lw_at lw_m10 178 rfl
theorem q115 : (Jvm.Cond.initialized "LinesPromised$Clause") ∈ lw_all := lw_g (lw_at lw_m1 18 rfl) rfl
theorem q237 : (Jvm.Cond.selects "LinesPromised$Clause" ({ cls := "java/lang/Object", name := "getClass", desc := "()Ljava/lang/Class;" } : Jvm.MethodName) ({ cls := "java/lang/Object", name := "getClass", desc := "()Ljava/lang/Class;" } : Jvm.MethodName)) ∈ lw_all := lw_g (lw_at lw_m1 140 rfl) rfl
theorem q426 : (Jvm.Cond.instantiable "LinesPromised$Clause" (3 : Nat)) ∈ lw_all := lw_g (lw_at lw_m2 89 rfl) rfl
theorem q507 : (Jvm.Cond.instanceMethod ({ cls := "LinesPromised$Clause", name := "<init>", desc := "(IILLinesPromised$Test;)V" } : Jvm.MethodName)) ∈ lw_all := lw_g (lw_at lw_m2 170 rfl) rfl
theorem q508 : (Jvm.Cond.code ({ cls := "LinesPromised$Clause", name := "<init>", desc := "(IILLinesPromised$Test;)V" } : Jvm.MethodName) prog_7_method_1_code (4 : Nat) (Option.none : Option Jvm.ClassFile.FieldType)) ∈ lw_all := lw_g (lw_at lw_m2 171 rfl) rfl
theorem q509 : (Jvm.Cond.methodLink "LinesPromised$Clause" (1 : Nat) ({ cls := "java/lang/Object", name := "<init>", desc := "()V" } : Jvm.MethodName)) ∈ lw_all := lw_g (lw_at lw_m2 172 rfl) rfl
theorem q510 : (Jvm.Cond.fieldLink "LinesPromised$Clause" (7 : Nat) "LinesPromised$Clause" "word" "I") ∈ lw_all := lw_g (lw_at lw_m2 173 rfl) rfl
theorem q512 : (Jvm.Cond.fieldLink "LinesPromised$Clause" (13 : Nat) "LinesPromised$Clause" "number" "I") ∈ lw_all := lw_g (lw_at lw_m2 175 rfl) rfl
theorem q514 : (Jvm.Cond.fieldLink "LinesPromised$Clause" (16 : Nat) "LinesPromised$Clause" "test" "LLinesPromised$Test;") ∈ lw_all := lw_g (lw_at lw_m2 177 rfl) rfl
theorem q516 : (Jvm.Cond.laysFinal "LinesPromised$Clause" "LinesPromised$Clause" "word" "I") ∈ lw_all := lw_g (lw_at lw_m2 179 rfl) rfl
theorem q517 : (Jvm.Cond.soleField "LinesPromised$Clause" "word") ∈ lw_all := lw_g (lw_at lw_m2 180 rfl) rfl
theorem q518 : (Jvm.Cond.laysFinal "LinesPromised$Clause" "LinesPromised$Clause" "number" "I") ∈ lw_all := lw_g (lw_at lw_m2 181 rfl) rfl
theorem q519 : (Jvm.Cond.soleField "LinesPromised$Clause" "number") ∈ lw_all := lw_g (lw_at lw_m2 182 rfl) rfl
theorem q520 : (Jvm.Cond.laysFinal "LinesPromised$Clause" "LinesPromised$Clause" "test" "LLinesPromised$Test;") ∈ lw_all := lw_g (lw_at lw_m2 183 rfl) rfl
theorem q521 : (Jvm.Cond.soleField "LinesPromised$Clause" "test") ∈ lw_all := lw_g (lw_at lw_m2 184 rfl) rfl
theorem q522 : (Jvm.Cond.superclass "LinesPromised$Clause" "java/lang/Object") ∈ lw_all := lw_g (lw_at lw_m2 185 rfl) rfl
theorem q1396 : (Jvm.Cond.selects "LinesPromised$Clause" ({ cls := "java/lang/Object", name := "equals", desc := "(Ljava/lang/Object;)Z" } : Jvm.MethodName) ({ cls := "java/lang/Object", name := "equals", desc := "(Ljava/lang/Object;)Z" } : Jvm.MethodName)) ∈ lw_all := lw_g (lw_at lw_m6 99 rfl) rfl
theorem q2436 : (Jvm.Cond.castable "LinesPromised$Clause" "java/lang/Object") ∈ lw_tbl := lw_at lw_m10 179 rfl
theorem q116 : (Jvm.Cond.initialized "LinesPromised$Test") ∈ lw_all := lw_g (lw_at lw_m1 19 rfl) rfl
theorem q449 : (Jvm.Cond.instanceMethod ({ cls := "LinesPromised$Test", name := "<init>", desc := "()V" } : Jvm.MethodName)) ∈ lw_all := lw_g (lw_at lw_m2 112 rfl) rfl
theorem q450 : (Jvm.Cond.code ({ cls := "LinesPromised$Test", name := "<init>", desc := "()V" } : Jvm.MethodName) prog_23_method_1_code (1 : Nat) (Option.none : Option Jvm.ClassFile.FieldType)) ∈ lw_all := lw_g (lw_at lw_m2 113 rfl) rfl
theorem q451 : (Jvm.Cond.methodLink "LinesPromised$Test" (1 : Nat) ({ cls := "java/lang/Object", name := "<init>", desc := "()V" } : Jvm.MethodName)) ∈ lw_all := lw_g (lw_at lw_m2 114 rfl) rfl
theorem q1077 : (Jvm.Cond.declares ({ cls := "LinesPromised$Test", name := "holds", desc := "([I)Z" } : Jvm.MethodName)) ∈ lw_tbl := lw_at lw_m5 20 rfl
theorem q1078 : (Jvm.Cond.sameMethod "LinesPromised$Test" "LinesPromised$Test" "holds" "([I)Z") ∈ lw_all := lw_g (lw_at lw_m5 21 rfl) rfl
theorem q117 : (Jvm.Cond.initialized "LinesPromised$Not") ∈ lw_all := lw_g (lw_at lw_m1 20 rfl) rfl
theorem q243 : (Jvm.Cond.selects "LinesPromised$Not" ({ cls := "java/lang/Object", name := "getClass", desc := "()Ljava/lang/Class;" } : Jvm.MethodName) ({ cls := "java/lang/Object", name := "getClass", desc := "()Ljava/lang/Class;" } : Jvm.MethodName)) ∈ lw_all := lw_g (lw_at lw_m1 146 rfl) rfl
theorem q444 : (Jvm.Cond.instantiable "LinesPromised$Not" (1 : Nat)) ∈ lw_all := lw_g (lw_at lw_m2 107 rfl) rfl
theorem q446 : (Jvm.Cond.instanceMethod ({ cls := "LinesPromised$Not", name := "<init>", desc := "(LLinesPromised$Test;)V" } : Jvm.MethodName)) ∈ lw_all := lw_g (lw_at lw_m2 109 rfl) rfl
theorem q447 : (Jvm.Cond.code ({ cls := "LinesPromised$Not", name := "<init>", desc := "(LLinesPromised$Test;)V" } : Jvm.MethodName) prog_14_method_1_code (2 : Nat) (Option.none : Option Jvm.ClassFile.FieldType)) ∈ lw_all := lw_g (lw_at lw_m2 110 rfl) rfl
theorem q448 : (Jvm.Cond.methodLinkNest "LinesPromised$Not" (1 : Nat) ({ cls := "LinesPromised$Test", name := "<init>", desc := "()V" } : Jvm.MethodName) "LinesPromised") ∈ lw_tbl := lw_at lw_m2 111 rfl
theorem q452 : (Jvm.Cond.fieldLink "LinesPromised$Not" (7 : Nat) "LinesPromised$Not" "of" "LLinesPromised$Test;") ∈ lw_all := lw_g (lw_at lw_m2 115 rfl) rfl
theorem q453 : (Jvm.Cond.laysFinal "LinesPromised$Not" "LinesPromised$Not" "of" "LLinesPromised$Test;") ∈ lw_all := lw_g (lw_at lw_m2 116 rfl) rfl
theorem q454 : (Jvm.Cond.soleField "LinesPromised$Not" "of") ∈ lw_all := lw_g (lw_at lw_m2 117 rfl) rfl
theorem q455 : (Jvm.Cond.superclass "LinesPromised$Not" "LinesPromised$Test") ∈ lw_all := lw_g (lw_at lw_m2 118 rfl) rfl
theorem q1089 : (Jvm.Cond.instanceMethod ({ cls := "LinesPromised$Not", name := "holds", desc := "([I)Z" } : Jvm.MethodName)) ∈ lw_all := lw_g (lw_at lw_m5 32 rfl) rfl
theorem q1090 : (Jvm.Cond.code ({ cls := "LinesPromised$Not", name := "holds", desc := "([I)Z" } : Jvm.MethodName) prog_14_method_2_code (2 : Nat) (Option.some Jvm.ClassFile.FieldType.boolean)) ∈ lw_all := lw_g (lw_at lw_m5 33 rfl) rfl
theorem q1091 : (Jvm.Cond.methodLink "LinesPromised$Not" (13 : Nat) ({ cls := "LinesPromised$Test", name := "holds", desc := "([I)Z" } : Jvm.MethodName)) ∈ lw_all := lw_g (lw_at lw_m5 34 rfl) rfl
theorem q1094 : (Jvm.Cond.selects "LinesPromised$Not" ({ cls := "LinesPromised$Test", name := "holds", desc := "([I)Z" } : Jvm.MethodName) ({ cls := "LinesPromised$Not", name := "holds", desc := "([I)Z" } : Jvm.MethodName)) ∈ lw_all := lw_g (lw_at lw_m5 37 rfl) rfl
theorem q1402 : (Jvm.Cond.selects "LinesPromised$Not" ({ cls := "java/lang/Object", name := "equals", desc := "(Ljava/lang/Object;)Z" } : Jvm.MethodName) ({ cls := "java/lang/Object", name := "equals", desc := "(Ljava/lang/Object;)Z" } : Jvm.MethodName)) ∈ lw_all := lw_g (lw_at lw_m6 105 rfl) rfl
theorem q2437 : (Jvm.Cond.castable "LinesPromised$Not" "java/lang/Object") ∈ lw_tbl := lw_at lw_m10 180 rfl
theorem q118 : (Jvm.Cond.initialized "LinesPromised$Fact") ∈ lw_all := lw_g (lw_at lw_m1 21 rfl) rfl
theorem q239 : (Jvm.Cond.selects "LinesPromised$Fact" ({ cls := "java/lang/Object", name := "getClass", desc := "()Ljava/lang/Class;" } : Jvm.MethodName) ({ cls := "java/lang/Object", name := "getClass", desc := "()Ljava/lang/Class;" } : Jvm.MethodName)) ∈ lw_all := lw_g (lw_at lw_m1 142 rfl) rfl
theorem q457 : (Jvm.Cond.instantiable "LinesPromised$Fact" (3 : Nat)) ∈ lw_all := lw_g (lw_at lw_m2 120 rfl) rfl
theorem q459 : (Jvm.Cond.instanceMethod ({ cls := "LinesPromised$Fact", name := "<init>", desc := "(III)V" } : Jvm.MethodName)) ∈ lw_all := lw_g (lw_at lw_m2 122 rfl) rfl
theorem q460 : (Jvm.Cond.code ({ cls := "LinesPromised$Fact", name := "<init>", desc := "(III)V" } : Jvm.MethodName) prog_9_method_1_code (4 : Nat) (Option.none : Option Jvm.ClassFile.FieldType)) ∈ lw_all := lw_g (lw_at lw_m2 123 rfl) rfl
theorem q461 : (Jvm.Cond.methodLinkNest "LinesPromised$Fact" (1 : Nat) ({ cls := "LinesPromised$Test", name := "<init>", desc := "()V" } : Jvm.MethodName) "LinesPromised") ∈ lw_tbl := lw_at lw_m2 124 rfl
theorem q462 : (Jvm.Cond.fieldLink "LinesPromised$Fact" (7 : Nat) "LinesPromised$Fact" "which" "I") ∈ lw_all := lw_g (lw_at lw_m2 125 rfl) rfl
theorem q463 : (Jvm.Cond.fieldLink "LinesPromised$Fact" (13 : Nat) "LinesPromised$Fact" "op" "I") ∈ lw_all := lw_g (lw_at lw_m2 126 rfl) rfl
theorem q464 : (Jvm.Cond.fieldLink "LinesPromised$Fact" (16 : Nat) "LinesPromised$Fact" "number" "I") ∈ lw_all := lw_g (lw_at lw_m2 127 rfl) rfl
theorem q465 : (Jvm.Cond.laysFinal "LinesPromised$Fact" "LinesPromised$Fact" "which" "I") ∈ lw_all := lw_g (lw_at lw_m2 128 rfl) rfl
theorem q466 : (Jvm.Cond.soleField "LinesPromised$Fact" "which") ∈ lw_all := lw_g (lw_at lw_m2 129 rfl) rfl
theorem q467 : (Jvm.Cond.laysFinal "LinesPromised$Fact" "LinesPromised$Fact" "op" "I") ∈ lw_all := lw_g (lw_at lw_m2 130 rfl) rfl
theorem q468 : (Jvm.Cond.soleField "LinesPromised$Fact" "op") ∈ lw_all := lw_g (lw_at lw_m2 131 rfl) rfl
theorem q469 : (Jvm.Cond.laysFinal "LinesPromised$Fact" "LinesPromised$Fact" "number" "I") ∈ lw_all := lw_g (lw_at lw_m2 132 rfl) rfl
theorem q470 : (Jvm.Cond.soleField "LinesPromised$Fact" "number") ∈ lw_all := lw_g (lw_at lw_m2 133 rfl) rfl
theorem q471 : (Jvm.Cond.superclass "LinesPromised$Fact" "LinesPromised$Test") ∈ lw_all := lw_g (lw_at lw_m2 134 rfl) rfl
theorem q1087 : (Jvm.Cond.instanceMethod ({ cls := "LinesPromised$Fact", name := "holds", desc := "([I)Z" } : Jvm.MethodName)) ∈ lw_all := lw_g (lw_at lw_m5 30 rfl) rfl
theorem q1088 : (Jvm.Cond.code ({ cls := "LinesPromised$Fact", name := "holds", desc := "([I)Z" } : Jvm.MethodName) prog_9_method_2_code (2 : Nat) (Option.some Jvm.ClassFile.FieldType.boolean)) ∈ lw_all := lw_g (lw_at lw_m5 31 rfl) rfl
theorem q1093 : (Jvm.Cond.selects "LinesPromised$Fact" ({ cls := "LinesPromised$Test", name := "holds", desc := "([I)Z" } : Jvm.MethodName) ({ cls := "LinesPromised$Fact", name := "holds", desc := "([I)Z" } : Jvm.MethodName)) ∈ lw_all := lw_g (lw_at lw_m5 36 rfl) rfl
theorem q1398 : (Jvm.Cond.selects "LinesPromised$Fact" ({ cls := "java/lang/Object", name := "equals", desc := "(Ljava/lang/Object;)Z" } : Jvm.MethodName) ({ cls := "java/lang/Object", name := "equals", desc := "(Ljava/lang/Object;)Z" } : Jvm.MethodName)) ∈ lw_all := lw_g (lw_at lw_m6 101 rfl) rfl
theorem q2438 : (Jvm.Cond.castable "LinesPromised$Fact" "java/lang/Object") ∈ lw_tbl := lw_at lw_m10 181 rfl
theorem q97 : (Jvm.Cond.initialized "LinesPromisedLaw") ∈ lw_all := lw_g (lw_at lw_m1 0 rfl) rfl
theorem q142 : (Jvm.Cond.methodLink "LinesPromisedLaw" (13 : Nat) ({ cls := "LinesPromised", name := "land", desc := "(III)I" } : Jvm.MethodName)) ∈ lw_all := lw_g (lw_at lw_m1 45 rfl) rfl
theorem q152 : (Jvm.Cond.methodLink "LinesPromisedLaw" (18 : Nat) ({ cls := "LinesPromised", name := "town", desc := "(II)I" } : Jvm.MethodName)) ∈ lw_all := lw_g (lw_at lw_m1 55 rfl) rfl
theorem q272 : (Jvm.Cond.methodLink "LinesPromisedLaw" (23 : Nat) ({ cls := "LinesPromised", name := "coin", desc := "(II)I" } : Jvm.MethodName)) ∈ lw_all := lw_g (lw_at lw_m1 175 rfl) rfl
theorem q280 : (Jvm.Cond.methodLink "LinesPromisedLaw" (27 : Nat) ({ cls := "LinesPromised", name := "man", desc := "(I)I" } : Jvm.MethodName)) ∈ lw_all := lw_g (lw_at lw_m1 183 rfl) rfl
theorem q284 : (Jvm.Cond.methodLink "LinesPromisedLaw" (34 : Nat) ({ cls := "LinesPromised", name := "feed", desc := "(JI)I" } : Jvm.MethodName)) ∈ lw_all := lw_g (lw_at lw_m1 187 rfl) rfl
theorem q288 : (Jvm.Cond.methodLink "LinesPromisedLaw" (39 : Nat) ({ cls := "LinesPromised", name := "text", desc := "(I)I" } : Jvm.MethodName)) ∈ lw_all := lw_g (lw_at lw_m1 191 rfl) rfl
theorem q525 : (Jvm.Cond.methodLink "LinesPromisedLaw" (43 : Nat) ({ cls := "LinesPromised", name := "force", desc := "(II)I" } : Jvm.MethodName)) ∈ lw_all := lw_g (lw_at lw_m2 188 rfl) rfl
theorem q551 : (Jvm.Cond.methodLink "LinesPromisedLaw" (47 : Nat) ({ cls := "LinesPromised", name := "why", desc := "(II)I" } : Jvm.MethodName)) ∈ lw_all := lw_g (lw_at lw_m2 214 rfl) rfl
theorem q555 : (Jvm.Cond.classLink "LinesPromisedLaw" (7 : Nat) "LinesPromised") ∈ lw_all := lw_g (lw_at lw_m2 218 rfl) rfl
theorem q556 : (Jvm.Cond.methodLink "LinesPromisedLaw" (9 : Nat) ({ cls := "LinesPromised", name := "<init>", desc := "()V" } : Jvm.MethodName)) ∈ lw_all := lw_g (lw_at lw_m2 219 rfl) rfl
theorem q697 : (Jvm.Cond.methodLink "LinesPromisedLaw" (51 : Nat) ({ cls := "LinesPromised", name := "scheme", desc := "(IIII)I" } : Jvm.MethodName)) ∈ lw_all := lw_g (lw_at lw_m3 120 rfl) rfl
theorem q797 : (Jvm.Cond.methodLink "LinesPromisedLaw" (56 : Nat) ({ cls := "LinesPromised", name := "chain", desc := "(III)I" } : Jvm.MethodName)) ∈ lw_all := lw_g (lw_at lw_m3 220 rfl) rfl
theorem q937 : (Jvm.Cond.methodLink "LinesPromisedLaw" (60 : Nat) ({ cls := "LinesPromised", name := "way", desc := "(II)I" } : Jvm.MethodName)) ∈ lw_all := lw_g (lw_at lw_m4 120 rfl) rfl
theorem q957 : (Jvm.Cond.methodLink "LinesPromisedLaw" (64 : Nat) ({ cls := "LinesPromised", name := "level", desc := "(II)I" } : Jvm.MethodName)) ∈ lw_all := lw_g (lw_at lw_m4 140 rfl) rfl
theorem q961 : (Jvm.Cond.methodLink "LinesPromisedLaw" (68 : Nat) ({ cls := "LinesPromised", name := "close", desc := "(III)I" } : Jvm.MethodName)) ∈ lw_all := lw_g (lw_at lw_m4 144 rfl) rfl
theorem q973 : (Jvm.Cond.methodLink "LinesPromisedLaw" (72 : Nat) ({ cls := "LinesPromised", name := "quarrel", desc := "(II)I" } : Jvm.MethodName)) ∈ lw_all := lw_g (lw_at lw_m4 156 rfl) rfl
theorem q977 : (Jvm.Cond.methodLink "LinesPromisedLaw" (76 : Nat) ({ cls := "LinesPromised", name := "slope", desc := "(IIII)I" } : Jvm.MethodName)) ∈ lw_all := lw_g (lw_at lw_m4 160 rfl) rfl
theorem q989 : (Jvm.Cond.methodLink "LinesPromisedLaw" (80 : Nat) ({ cls := "LinesPromised", name := "claim", desc := "(II)I" } : Jvm.MethodName)) ∈ lw_all := lw_g (lw_at lw_m4 172 rfl) rfl
theorem q1010 : (Jvm.Cond.methodLink "LinesPromisedLaw" (84 : Nat) ({ cls := "LinesPromised", name := "bill", desc := "(I)I" } : Jvm.MethodName)) ∈ lw_all := lw_g (lw_at lw_m4 193 rfl) rfl
theorem q1056 : (Jvm.Cond.methodLink "LinesPromisedLaw" (88 : Nat) ({ cls := "LinesPromised", name := "hear", desc := "(II)I" } : Jvm.MethodName)) ∈ lw_all := lw_g (lw_at lw_m4 239 rfl) rfl
theorem q1095 : (Jvm.Cond.methodLink "LinesPromisedLaw" (92 : Nat) ({ cls := "LinesPromised", name := "bar", desc := "(II)I" } : Jvm.MethodName)) ∈ lw_all := lw_g (lw_at lw_m5 38 rfl) rfl
theorem q1099 : (Jvm.Cond.methodLink "LinesPromisedLaw" (96 : Nat) ({ cls := "LinesPromised", name := "grant", desc := "(I)I" } : Jvm.MethodName)) ∈ lw_all := lw_g (lw_at lw_m5 42 rfl) rfl
theorem q1107 : (Jvm.Cond.methodLink "LinesPromisedLaw" (100 : Nat) ({ cls := "LinesPromised", name := "cast", desc := "(II)I" } : Jvm.MethodName)) ∈ lw_all := lw_g (lw_at lw_m5 50 rfl) rfl
theorem q1176 : (Jvm.Cond.methodLink "LinesPromisedLaw" (104 : Nat) ({ cls := "LinesPromised", name := "about", desc := "(II)I" } : Jvm.MethodName)) ∈ lw_all := lw_g (lw_at lw_m5 119 rfl) rfl
theorem q1271 : (Jvm.Cond.methodLink "LinesPromisedLaw" (108 : Nat) ({ cls := "LinesPromised", name := "board", desc := "(IIZ)I" } : Jvm.MethodName)) ∈ lw_all := lw_g (lw_at lw_m5 214 rfl) rfl
theorem q1294 : (Jvm.Cond.methodLink "LinesPromisedLaw" (113 : Nat) ({ cls := "LinesPromised", name := "doubled", desc := "()I" } : Jvm.MethodName)) ∈ lw_all := lw_g (lw_at lw_m5 237 rfl) rfl
theorem q1298 : (Jvm.Cond.methodLink "LinesPromisedLaw" (118 : Nat) ({ cls := "LinesPromised", name := "hand", desc := "(II)I" } : Jvm.MethodName)) ∈ lw_all := lw_g (lw_at lw_m6 1 rfl) rfl
theorem q1302 : (Jvm.Cond.methodLink "LinesPromisedLaw" (122 : Nat) ({ cls := "LinesPromised", name := "midnight", desc := "(II)I" } : Jvm.MethodName)) ∈ lw_all := lw_g (lw_at lw_m6 5 rfl) rfl
theorem q1311 : (Jvm.Cond.methodLink "LinesPromisedLaw" (126 : Nat) ({ cls := "LinesPromised", name := "scrip", desc := "(III)I" } : Jvm.MethodName)) ∈ lw_all := lw_g (lw_at lw_m6 14 rfl) rfl
theorem q1322 : (Jvm.Cond.methodLink "LinesPromisedLaw" (130 : Nat) ({ cls := "LinesPromised", name := "held", desc := "(II)I" } : Jvm.MethodName)) ∈ lw_all := lw_g (lw_at lw_m6 25 rfl) rfl
theorem q1326 : (Jvm.Cond.methodLink "LinesPromisedLaw" (134 : Nat) ({ cls := "LinesPromised", name := "purse", desc := "(II)I" } : Jvm.MethodName)) ∈ lw_all := lw_g (lw_at lw_m6 29 rfl) rfl
theorem q1330 : (Jvm.Cond.methodLink "LinesPromisedLaw" (138 : Nat) ({ cls := "LinesPromised", name := "ask", desc := "(IIIIZ)I" } : Jvm.MethodName)) ∈ lw_all := lw_g (lw_at lw_m6 33 rfl) rfl
theorem q1362 : (Jvm.Cond.methodLink "LinesPromisedLaw" (143 : Nat) ({ cls := "LinesPromised", name := "price", desc := "(I)I" } : Jvm.MethodName)) ∈ lw_all := lw_g (lw_at lw_m6 65 rfl) rfl
theorem q1434 : (Jvm.Cond.methodLink "LinesPromisedLaw" (147 : Nat) ({ cls := "LinesPromised", name := "read", desc := "(I)I" } : Jvm.MethodName)) ∈ lw_all := lw_g (lw_at lw_m6 137 rfl) rfl
theorem q1438 : (Jvm.Cond.methodLink "LinesPromisedLaw" (151 : Nat) ({ cls := "LinesPromised", name := "call", desc := "(II)I" } : Jvm.MethodName)) ∈ lw_all := lw_g (lw_at lw_m6 141 rfl) rfl
theorem q1466 : (Jvm.Cond.methodLink "LinesPromisedLaw" (155 : Nat) ({ cls := "LinesPromised", name := "lend", desc := "(III)I" } : Jvm.MethodName)) ∈ lw_all := lw_g (lw_at lw_m6 169 rfl) rfl
theorem q1485 : (Jvm.Cond.methodLink "LinesPromisedLaw" (159 : Nat) ({ cls := "LinesPromised", name := "settle", desc := "()I" } : Jvm.MethodName)) ∈ lw_all := lw_g (lw_at lw_m6 188 rfl) rfl
theorem q1547 : (Jvm.Cond.methodLink "LinesPromisedLaw" (163 : Nat) ({ cls := "LinesPromised", name := "along", desc := "(II)I" } : Jvm.MethodName)) ∈ lw_all := lw_g (lw_at lw_m7 10 rfl) rfl
theorem q1555 : (Jvm.Cond.methodLink "LinesPromisedLaw" (167 : Nat) ({ cls := "LinesPromised", name := "dig", desc := "(I)I" } : Jvm.MethodName)) ∈ lw_all := lw_g (lw_at lw_m7 18 rfl) rfl
theorem q1569 : (Jvm.Cond.methodLink "LinesPromisedLaw" (171 : Nat) ({ cls := "LinesPromised", name := "last", desc := "(II)I" } : Jvm.MethodName)) ∈ lw_all := lw_g (lw_at lw_m7 32 rfl) rfl
theorem q1573 : (Jvm.Cond.methodLink "LinesPromisedLaw" (191 : Nat) ({ cls := "LinesPromised", name := "known", desc := "(II)I" } : Jvm.MethodName)) ∈ lw_all := lw_g (lw_at lw_m7 36 rfl) rfl
theorem q1577 : (Jvm.Cond.methodLink "LinesPromisedLaw" (175 : Nat) ({ cls := "LinesPromised", name := "meet", desc := "()I" } : Jvm.MethodName)) ∈ lw_all := lw_g (lw_at lw_m7 40 rfl) rfl
theorem q1581 : (Jvm.Cond.methodLink "LinesPromisedLaw" (179 : Nat) ({ cls := "LinesPromised", name := "gauge", desc := "(I)I" } : Jvm.MethodName)) ∈ lw_all := lw_g (lw_at lw_m7 44 rfl) rfl
theorem q1599 : (Jvm.Cond.methodLink "LinesPromisedLaw" (183 : Nat) ({ cls := "LinesPromised", name := "plan", desc := "(IIII)I" } : Jvm.MethodName)) ∈ lw_all := lw_g (lw_at lw_m7 62 rfl) rfl
theorem q1611 : (Jvm.Cond.methodLink "LinesPromisedLaw" (187 : Nat) ({ cls := "LinesPromised", name := "tried", desc := "(I)I" } : Jvm.MethodName)) ∈ lw_all := lw_g (lw_at lw_m7 74 rfl) rfl
theorem q1619 : (Jvm.Cond.methodLink "LinesPromisedLaw" (195 : Nat) ({ cls := "LinesPromised", name := "image", desc := "()I" } : Jvm.MethodName)) ∈ lw_all := lw_g (lw_at lw_m7 82 rfl) rfl
theorem q1802 : (Jvm.Cond.methodLink "LinesPromisedLaw" (199 : Nat) ({ cls := "LinesPromised", name := "undo", desc := "()I" } : Jvm.MethodName)) ∈ lw_all := lw_g (lw_at lw_m8 25 rfl) rfl
theorem q1826 : (Jvm.Cond.methodLink "LinesPromisedLaw" (203 : Nat) ({ cls := "LinesPromised", name := "count", desc := "(I)I" } : Jvm.MethodName)) ∈ lw_all := lw_g (lw_at lw_m8 49 rfl) rfl
theorem q1834 : (Jvm.Cond.methodLink "LinesPromisedLaw" (207 : Nat) ({ cls := "LinesPromised", name := "sheet", desc := "(III)I" } : Jvm.MethodName)) ∈ lw_all := lw_g (lw_at lw_m8 57 rfl) rfl
theorem q1842 : (Jvm.Cond.methodLink "LinesPromisedLaw" (211 : Nat) ({ cls := "LinesPromised", name := "item", desc := "(III)I" } : Jvm.MethodName)) ∈ lw_all := lw_g (lw_at lw_m8 65 rfl) rfl
theorem q1858 : (Jvm.Cond.methodLink "LinesPromisedLaw" (215 : Nat) ({ cls := "LinesPromised", name := "copy", desc := "(IIIII)I" } : Jvm.MethodName)) ∈ lw_all := lw_g (lw_at lw_m8 81 rfl) rfl
theorem q1889 : (Jvm.Cond.classLink "LinesPromisedLaw" (10 : Nat) "LinesPromisedModel") ∈ lw_all := lw_g (lw_at lw_m8 112 rfl) rfl
theorem q1891 : (Jvm.Cond.methodLink "LinesPromisedLaw" (12 : Nat) ({ cls := "LinesPromisedModel", name := "<init>", desc := "()V" } : Jvm.MethodName)) ∈ lw_all := lw_g (lw_at lw_m8 114 rfl) rfl
theorem q1959 : (Jvm.Cond.methodLink "LinesPromisedLaw" (17 : Nat) ({ cls := "LinesPromisedModel", name := "land", desc := "(III)I" } : Jvm.MethodName)) ∈ lw_all := lw_g (lw_at lw_m8 182 rfl) rfl
theorem q1969 : (Jvm.Cond.methodLink "LinesPromisedLaw" (22 : Nat) ({ cls := "LinesPromisedModel", name := "town", desc := "(II)I" } : Jvm.MethodName)) ∈ lw_all := lw_g (lw_at lw_m8 192 rfl) rfl
theorem q1973 : (Jvm.Cond.methodLink "LinesPromisedLaw" (26 : Nat) ({ cls := "LinesPromisedModel", name := "coin", desc := "(II)I" } : Jvm.MethodName)) ∈ lw_all := lw_g (lw_at lw_m8 196 rfl) rfl
theorem q1981 : (Jvm.Cond.methodLink "LinesPromisedLaw" (31 : Nat) ({ cls := "LinesPromisedModel", name := "man", desc := "(I)I" } : Jvm.MethodName)) ∈ lw_all := lw_g (lw_at lw_m8 204 rfl) rfl
theorem q1985 : (Jvm.Cond.methodLink "LinesPromisedLaw" (38 : Nat) ({ cls := "LinesPromisedModel", name := "feed", desc := "(JI)I" } : Jvm.MethodName)) ∈ lw_all := lw_g (lw_at lw_m8 208 rfl) rfl
theorem q1990 : (Jvm.Cond.methodLink "LinesPromisedLaw" (42 : Nat) ({ cls := "LinesPromisedModel", name := "text", desc := "(I)I" } : Jvm.MethodName)) ∈ lw_all := lw_g (lw_at lw_m8 213 rfl) rfl
theorem q2087 : (Jvm.Cond.methodLink "LinesPromisedLaw" (46 : Nat) ({ cls := "LinesPromisedModel", name := "force", desc := "(II)I" } : Jvm.MethodName)) ∈ lw_all := lw_g (lw_at lw_m9 70 rfl) rfl
theorem q2099 : (Jvm.Cond.methodLink "LinesPromisedLaw" (50 : Nat) ({ cls := "LinesPromisedModel", name := "why", desc := "(II)I" } : Jvm.MethodName)) ∈ lw_all := lw_g (lw_at lw_m9 82 rfl) rfl
theorem q2103 : (Jvm.Cond.methodLink "LinesPromisedLaw" (55 : Nat) ({ cls := "LinesPromisedModel", name := "scheme", desc := "(IIII)I" } : Jvm.MethodName)) ∈ lw_all := lw_g (lw_at lw_m9 86 rfl) rfl
theorem q2115 : (Jvm.Cond.methodLink "LinesPromisedLaw" (59 : Nat) ({ cls := "LinesPromisedModel", name := "chain", desc := "(III)I" } : Jvm.MethodName)) ∈ lw_all := lw_g (lw_at lw_m9 98 rfl) rfl
theorem q2147 : (Jvm.Cond.methodLink "LinesPromisedLaw" (63 : Nat) ({ cls := "LinesPromisedModel", name := "way", desc := "(II)I" } : Jvm.MethodName)) ∈ lw_all := lw_g (lw_at lw_m9 130 rfl) rfl
theorem q2162 : (Jvm.Cond.methodLink "LinesPromisedLaw" (67 : Nat) ({ cls := "LinesPromisedModel", name := "level", desc := "(II)I" } : Jvm.MethodName)) ∈ lw_all := lw_g (lw_at lw_m9 145 rfl) rfl
theorem q2166 : (Jvm.Cond.methodLink "LinesPromisedLaw" (71 : Nat) ({ cls := "LinesPromisedModel", name := "close", desc := "(III)I" } : Jvm.MethodName)) ∈ lw_all := lw_g (lw_at lw_m9 149 rfl) rfl
theorem q2178 : (Jvm.Cond.methodLink "LinesPromisedLaw" (75 : Nat) ({ cls := "LinesPromisedModel", name := "quarrel", desc := "(II)I" } : Jvm.MethodName)) ∈ lw_all := lw_g (lw_at lw_m9 161 rfl) rfl
theorem q2182 : (Jvm.Cond.methodLink "LinesPromisedLaw" (79 : Nat) ({ cls := "LinesPromisedModel", name := "slope", desc := "(IIII)I" } : Jvm.MethodName)) ∈ lw_all := lw_g (lw_at lw_m9 165 rfl) rfl
theorem q2194 : (Jvm.Cond.methodLink "LinesPromisedLaw" (83 : Nat) ({ cls := "LinesPromisedModel", name := "claim", desc := "(II)I" } : Jvm.MethodName)) ∈ lw_all := lw_g (lw_at lw_m9 177 rfl) rfl
theorem q2198 : (Jvm.Cond.methodLink "LinesPromisedLaw" (87 : Nat) ({ cls := "LinesPromisedModel", name := "bill", desc := "(I)I" } : Jvm.MethodName)) ∈ lw_all := lw_g (lw_at lw_m9 181 rfl) rfl
theorem q2202 : (Jvm.Cond.methodLink "LinesPromisedLaw" (91 : Nat) ({ cls := "LinesPromisedModel", name := "hear", desc := "(II)I" } : Jvm.MethodName)) ∈ lw_all := lw_g (lw_at lw_m9 185 rfl) rfl
theorem q2218 : (Jvm.Cond.methodLink "LinesPromisedLaw" (95 : Nat) ({ cls := "LinesPromisedModel", name := "bar", desc := "(II)I" } : Jvm.MethodName)) ∈ lw_all := lw_g (lw_at lw_m9 201 rfl) rfl
theorem q2226 : (Jvm.Cond.methodLink "LinesPromisedLaw" (99 : Nat) ({ cls := "LinesPromisedModel", name := "grant", desc := "(I)I" } : Jvm.MethodName)) ∈ lw_all := lw_g (lw_at lw_m9 209 rfl) rfl
theorem q2238 : (Jvm.Cond.methodLink "LinesPromisedLaw" (103 : Nat) ({ cls := "LinesPromisedModel", name := "cast", desc := "(II)I" } : Jvm.MethodName)) ∈ lw_all := lw_g (lw_at lw_m9 221 rfl) rfl
theorem q2249 : (Jvm.Cond.methodLink "LinesPromisedLaw" (107 : Nat) ({ cls := "LinesPromisedModel", name := "about", desc := "(II)I" } : Jvm.MethodName)) ∈ lw_all := lw_g (lw_at lw_m9 232 rfl) rfl
theorem q2253 : (Jvm.Cond.methodLink "LinesPromisedLaw" (112 : Nat) ({ cls := "LinesPromisedModel", name := "board", desc := "(IIZ)I" } : Jvm.MethodName)) ∈ lw_all := lw_g (lw_at lw_m9 236 rfl) rfl
theorem q2257 : (Jvm.Cond.methodLink "LinesPromisedLaw" (117 : Nat) ({ cls := "LinesPromisedModel", name := "doubled", desc := "()I" } : Jvm.MethodName)) ∈ lw_all := lw_g (lw_at lw_m10 0 rfl) rfl
theorem q2261 : (Jvm.Cond.methodLink "LinesPromisedLaw" (121 : Nat) ({ cls := "LinesPromisedModel", name := "hand", desc := "(II)I" } : Jvm.MethodName)) ∈ lw_all := lw_g (lw_at lw_m10 4 rfl) rfl
theorem q2265 : (Jvm.Cond.methodLink "LinesPromisedLaw" (125 : Nat) ({ cls := "LinesPromisedModel", name := "midnight", desc := "(II)I" } : Jvm.MethodName)) ∈ lw_all := lw_g (lw_at lw_m10 8 rfl) rfl
theorem q2273 : (Jvm.Cond.methodLink "LinesPromisedLaw" (129 : Nat) ({ cls := "LinesPromisedModel", name := "scrip", desc := "(III)I" } : Jvm.MethodName)) ∈ lw_all := lw_g (lw_at lw_m10 16 rfl) rfl
theorem q2293 : (Jvm.Cond.methodLink "LinesPromisedLaw" (133 : Nat) ({ cls := "LinesPromisedModel", name := "held", desc := "(II)I" } : Jvm.MethodName)) ∈ lw_all := lw_g (lw_at lw_m10 36 rfl) rfl
theorem q2297 : (Jvm.Cond.methodLink "LinesPromisedLaw" (137 : Nat) ({ cls := "LinesPromisedModel", name := "purse", desc := "(II)I" } : Jvm.MethodName)) ∈ lw_all := lw_g (lw_at lw_m10 40 rfl) rfl
theorem q2301 : (Jvm.Cond.methodLink "LinesPromisedLaw" (142 : Nat) ({ cls := "LinesPromisedModel", name := "ask", desc := "(IIIIZ)I" } : Jvm.MethodName)) ∈ lw_all := lw_g (lw_at lw_m10 44 rfl) rfl
theorem q2305 : (Jvm.Cond.methodLink "LinesPromisedLaw" (146 : Nat) ({ cls := "LinesPromisedModel", name := "price", desc := "(I)I" } : Jvm.MethodName)) ∈ lw_all := lw_g (lw_at lw_m10 48 rfl) rfl
theorem q2313 : (Jvm.Cond.methodLink "LinesPromisedLaw" (150 : Nat) ({ cls := "LinesPromisedModel", name := "read", desc := "(I)I" } : Jvm.MethodName)) ∈ lw_all := lw_g (lw_at lw_m10 56 rfl) rfl
theorem q2317 : (Jvm.Cond.methodLink "LinesPromisedLaw" (154 : Nat) ({ cls := "LinesPromisedModel", name := "call", desc := "(II)I" } : Jvm.MethodName)) ∈ lw_all := lw_g (lw_at lw_m10 60 rfl) rfl
theorem q2321 : (Jvm.Cond.methodLink "LinesPromisedLaw" (158 : Nat) ({ cls := "LinesPromisedModel", name := "lend", desc := "(III)I" } : Jvm.MethodName)) ∈ lw_all := lw_g (lw_at lw_m10 64 rfl) rfl
theorem q2325 : (Jvm.Cond.methodLink "LinesPromisedLaw" (166 : Nat) ({ cls := "LinesPromisedModel", name := "along", desc := "(II)I" } : Jvm.MethodName)) ∈ lw_all := lw_g (lw_at lw_m10 68 rfl) rfl
theorem q2341 : (Jvm.Cond.methodLink "LinesPromisedLaw" (162 : Nat) ({ cls := "LinesPromisedModel", name := "settle", desc := "()I" } : Jvm.MethodName)) ∈ lw_all := lw_g (lw_at lw_m10 84 rfl) rfl
theorem q2345 : (Jvm.Cond.methodLink "LinesPromisedLaw" (170 : Nat) ({ cls := "LinesPromisedModel", name := "dig", desc := "(I)I" } : Jvm.MethodName)) ∈ lw_all := lw_g (lw_at lw_m10 88 rfl) rfl
theorem q2357 : (Jvm.Cond.methodLink "LinesPromisedLaw" (174 : Nat) ({ cls := "LinesPromisedModel", name := "last", desc := "(II)I" } : Jvm.MethodName)) ∈ lw_all := lw_g (lw_at lw_m10 100 rfl) rfl
theorem q2361 : (Jvm.Cond.methodLink "LinesPromisedLaw" (178 : Nat) ({ cls := "LinesPromisedModel", name := "meet", desc := "()I" } : Jvm.MethodName)) ∈ lw_all := lw_g (lw_at lw_m10 104 rfl) rfl
theorem q2365 : (Jvm.Cond.methodLink "LinesPromisedLaw" (182 : Nat) ({ cls := "LinesPromisedModel", name := "gauge", desc := "(I)I" } : Jvm.MethodName)) ∈ lw_all := lw_g (lw_at lw_m10 108 rfl) rfl
theorem q2376 : (Jvm.Cond.methodLink "LinesPromisedLaw" (186 : Nat) ({ cls := "LinesPromisedModel", name := "plan", desc := "(IIII)I" } : Jvm.MethodName)) ∈ lw_all := lw_g (lw_at lw_m10 119 rfl) rfl
theorem q2381 : (Jvm.Cond.methodLink "LinesPromisedLaw" (190 : Nat) ({ cls := "LinesPromisedModel", name := "tried", desc := "(I)I" } : Jvm.MethodName)) ∈ lw_all := lw_g (lw_at lw_m10 124 rfl) rfl
theorem q2386 : (Jvm.Cond.methodLink "LinesPromisedLaw" (194 : Nat) ({ cls := "LinesPromisedModel", name := "known", desc := "(II)I" } : Jvm.MethodName)) ∈ lw_all := lw_g (lw_at lw_m10 129 rfl) rfl
theorem q2390 : (Jvm.Cond.methodLink "LinesPromisedLaw" (198 : Nat) ({ cls := "LinesPromisedModel", name := "image", desc := "()I" } : Jvm.MethodName)) ∈ lw_all := lw_g (lw_at lw_m10 133 rfl) rfl
theorem q2394 : (Jvm.Cond.methodLink "LinesPromisedLaw" (202 : Nat) ({ cls := "LinesPromisedModel", name := "undo", desc := "()I" } : Jvm.MethodName)) ∈ lw_all := lw_g (lw_at lw_m10 137 rfl) rfl
theorem q2398 : (Jvm.Cond.methodLink "LinesPromisedLaw" (206 : Nat) ({ cls := "LinesPromisedModel", name := "count", desc := "(I)I" } : Jvm.MethodName)) ∈ lw_all := lw_g (lw_at lw_m10 141 rfl) rfl
theorem q2402 : (Jvm.Cond.methodLink "LinesPromisedLaw" (210 : Nat) ({ cls := "LinesPromisedModel", name := "sheet", desc := "(III)I" } : Jvm.MethodName)) ∈ lw_all := lw_g (lw_at lw_m10 145 rfl) rfl
theorem q2406 : (Jvm.Cond.methodLink "LinesPromisedLaw" (214 : Nat) ({ cls := "LinesPromisedModel", name := "item", desc := "(III)I" } : Jvm.MethodName)) ∈ lw_all := lw_g (lw_at lw_m10 149 rfl) rfl
theorem q2410 : (Jvm.Cond.methodLink "LinesPromisedLaw" (219 : Nat) ({ cls := "LinesPromisedModel", name := "copy", desc := "(IIIII)I" } : Jvm.MethodName)) ∈ lw_all := lw_g (lw_at lw_m10 153 rfl) rfl
theorem q2414 : (Jvm.Cond.constantLong "LinesPromisedLaw" (32 : Nat) (4294967295 : Int64)) ∈ lw_all := lw_g (lw_at lw_m10 157 rfl) rfl
theorem q1642 : (Jvm.Cond.sameMethod "[B" "java/lang/Object" "clone" "()Ljava/lang/Object;") ∈ lw_all := lw_g (lw_at lw_m7 105 rfl) rfl
theorem q1643 : (Jvm.Cond.selects "[B" ({ cls := "[B", name := "clone", desc := "()Ljava/lang/Object;" } : Jvm.MethodName) ({ cls := "java/lang/Object", name := "clone", desc := "()Ljava/lang/Object;" } : Jvm.MethodName)) ∈ lw_all := lw_g (lw_at lw_m7 106 rfl) rfl
theorem q1644 : (Jvm.Cond.castable "[B" "java/lang/Cloneable") ∈ lw_tbl := lw_at lw_m7 107 rfl
theorem q2466 : (Jvm.Cond.castable "[B" "java/lang/Object") ∈ lw_tbl := lw_at lw_m10 209 rfl
theorem q2467 : (Jvm.Cond.castable "[C" "java/lang/Object") ∈ lw_tbl := lw_at lw_m10 210 rfl
theorem q1630 : (Jvm.Cond.sameMethod "[I" "java/lang/Object" "clone" "()Ljava/lang/Object;") ∈ lw_all := lw_g (lw_at lw_m7 93 rfl) rfl
theorem q1633 : (Jvm.Cond.selects "[I" ({ cls := "[I", name := "clone", desc := "()Ljava/lang/Object;" } : Jvm.MethodName) ({ cls := "java/lang/Object", name := "clone", desc := "()Ljava/lang/Object;" } : Jvm.MethodName)) ∈ lw_all := lw_g (lw_at lw_m7 96 rfl) rfl
theorem q1634 : (Jvm.Cond.castable "[I" "java/lang/Cloneable") ∈ lw_tbl := lw_at lw_m7 97 rfl
theorem q2464 : (Jvm.Cond.castable "[I" "java/lang/Object") ∈ lw_tbl := lw_at lw_m10 207 rfl
theorem q1637 : (Jvm.Cond.sameMethod "[J" "java/lang/Object" "clone" "()Ljava/lang/Object;") ∈ lw_all := lw_g (lw_at lw_m7 100 rfl) rfl
theorem q1638 : (Jvm.Cond.selects "[J" ({ cls := "[J", name := "clone", desc := "()Ljava/lang/Object;" } : Jvm.MethodName) ({ cls := "java/lang/Object", name := "clone", desc := "()Ljava/lang/Object;" } : Jvm.MethodName)) ∈ lw_all := lw_g (lw_at lw_m7 101 rfl) rfl
theorem q1639 : (Jvm.Cond.castable "[J" "java/lang/Cloneable") ∈ lw_tbl := lw_at lw_m7 102 rfl
theorem q2465 : (Jvm.Cond.castable "[J" "java/lang/Object") ∈ lw_tbl := lw_at lw_m10 208 rfl
theorem q2469 : (Jvm.Cond.castable "[LLinesPromised$Sheet;" "java/lang/Object") ∈ lw_tbl := lw_at lw_m10 212 rfl
theorem q2460 : (Jvm.Cond.sameMethod "[Ljava/lang/Object;" "java/lang/Object" "getClass" "()Ljava/lang/Class;") ∈ lw_all := lw_g (lw_at lw_m10 203 rfl) rfl
theorem q2461 : (Jvm.Cond.selects "[Ljava/lang/Object;" ({ cls := "java/lang/Object", name := "getClass", desc := "()Ljava/lang/Class;" } : Jvm.MethodName) ({ cls := "java/lang/Object", name := "getClass", desc := "()Ljava/lang/Class;" } : Jvm.MethodName)) ∈ lw_all := lw_g (lw_at lw_m10 204 rfl) rfl
theorem q2462 : (Jvm.Cond.castable "[Ljava/lang/Object;" "java/lang/Object") ∈ lw_tbl := lw_at lw_m10 205 rfl
theorem q1722 : (Jvm.Cond.sameMethod "[S" "java/lang/Object" "clone" "()Ljava/lang/Object;") ∈ lw_all := lw_g (lw_at lw_m7 185 rfl) rfl
theorem q1723 : (Jvm.Cond.selects "[S" ({ cls := "[S", name := "clone", desc := "()Ljava/lang/Object;" } : Jvm.MethodName) ({ cls := "java/lang/Object", name := "clone", desc := "()Ljava/lang/Object;" } : Jvm.MethodName)) ∈ lw_all := lw_g (lw_at lw_m7 186 rfl) rfl
theorem q1724 : (Jvm.Cond.castable "[S" "java/lang/Cloneable") ∈ lw_tbl := lw_at lw_m7 187 rfl
theorem q2472 : (Jvm.Cond.castable "[S" "java/lang/Object") ∈ lw_tbl := lw_at lw_m10 215 rfl
theorem q2471 : (Jvm.Cond.castable "[Z" "java/lang/Object") ∈ lw_tbl := lw_at lw_m10 214 rfl
theorem q2463 : (Jvm.Cond.castable "[[C" "java/lang/Object") ∈ lw_tbl := lw_at lw_m10 206 rfl
theorem q2468 : (Jvm.Cond.castable "[[I" "java/lang/Object") ∈ lw_tbl := lw_at lw_m10 211 rfl
theorem q2470 : (Jvm.Cond.castable "[[J" "java/lang/Object") ∈ lw_tbl := lw_at lw_m10 213 rfl
theorem q110 : (Jvm.Cond.initialized "java/lang/System") ∈ lw_all := lw_g (lw_at lw_m1 13 rfl) rfl
theorem q268 : (Jvm.Cond.static ({ cls := "java/lang/System", name := "arraycopy", desc := "(Ljava/lang/Object;ILjava/lang/Object;II)V" } : Jvm.MethodName)) ∈ lw_all := lw_g (lw_at lw_m1 171 rfl) rfl
theorem q269 : (Jvm.Cond.native ({ cls := "java/lang/System", name := "arraycopy", desc := "(Ljava/lang/Object;ILjava/lang/Object;II)V" } : Jvm.MethodName)) ∈ lw_all := lw_g (lw_at lw_m1 172 rfl) rfl
theorem q1653 : (Jvm.Cond.interfaceMethod "java/util/Collection" "java/util/Collection" "toArray" "()[Ljava/lang/Object;") ∈ lw_tbl := lw_at lw_m7 116 rfl
theorem q1654 : (Jvm.Cond.declares ({ cls := "java/util/Collection", name := "toArray", desc := "()[Ljava/lang/Object;" } : Jvm.MethodName)) ∈ lw_tbl := lw_at lw_m7 117 rfl
theorem q1663 : (Jvm.Cond.interfaceMethod "java/util/Collection" "java/lang/Object" "getClass" "()Ljava/lang/Class;") ∈ lw_tbl := lw_at lw_m7 126 rfl
theorem q262 : (Jvm.Cond.arrayOver (Jvm.ClassFile.FieldType.object "java/lang/Object")) ∈ lw_tbl := lw_at lw_m1 165 rfl
theorem q568 : (Jvm.Cond.arrayOver (Jvm.ClassFile.FieldType.array Jvm.ClassFile.FieldType.char)) ∈ lw_tbl := lw_at lw_m2 231 rfl
theorem q585 : (Jvm.Cond.arrayClass Jvm.ClassFile.FieldType.int) ∈ lw_all := lw_g (lw_at lw_m3 8 rfl) rfl
theorem q586 : (Jvm.Cond.arrayClass Jvm.ClassFile.FieldType.long) ∈ lw_all := lw_g (lw_at lw_m3 9 rfl) rfl
theorem q587 : (Jvm.Cond.arrayClass Jvm.ClassFile.FieldType.byte) ∈ lw_all := lw_g (lw_at lw_m3 10 rfl) rfl
theorem q588 : (Jvm.Cond.arrayClass Jvm.ClassFile.FieldType.char) ∈ lw_all := lw_g (lw_at lw_m3 11 rfl) rfl
theorem q590 : (Jvm.Cond.arrayOver (Jvm.ClassFile.FieldType.array Jvm.ClassFile.FieldType.int)) ∈ lw_tbl := lw_at lw_m3 13 rfl
theorem q592 : (Jvm.Cond.arrayOver (Jvm.ClassFile.FieldType.object "LinesPromised$Sheet")) ∈ lw_tbl := lw_at lw_m3 15 rfl
theorem q1496 : (Jvm.Cond.arrayOver (Jvm.ClassFile.FieldType.array Jvm.ClassFile.FieldType.long)) ∈ lw_tbl := lw_at lw_m6 199 rfl
theorem q1700 : (Jvm.Cond.arrayClass Jvm.ClassFile.FieldType.boolean) ∈ lw_all := lw_g (lw_at lw_m7 163 rfl) rfl
theorem q1734 : (Jvm.Cond.arrayClass Jvm.ClassFile.FieldType.short) ∈ lw_all := lw_g (lw_at lw_m7 197 rfl) rfl
theorem in_J2 : ∀ w ∈ wsJ20, w ∈ lw_all := lw_in wsJ20 [326, 322, 324] (by decide +kernel) (by decide +kernel)
theorem in_J8 : ∀ w ∈ wsJ80, w ∈ lw_all := lw_in wsJ80 [371, 373, 375, 377, 379] (by decide +kernel) (by decide +kernel)
theorem in_X0 : ∀ w ∈ wsX00, w ∈ lw_all := lw_in wsX00 [642, 644, 646, 648, 650, 652, 654, 656, 658, 660, 662, 664, 666, 668, 670, 672, 674, 676, 678, 680, 682, 684, 686, 688, 690, 692, 694] (by decide +kernel) (by decide +kernel)
theorem in_X1 : ∀ w ∈ wsX10, w ∈ lw_all := lw_in wsX10 [574, 576, 578, 580, 582] (by decide +kernel) (by decide +kernel)
theorem in_X10 : ∀ w ∈ wsX100, w ∈ lw_all := lw_in wsX100 [492, 494] (by decide +kernel) (by decide +kernel)
theorem in_X11 : ∀ w ∈ wsX110, w ∈ lw_all := lw_in wsX110 [503, 504] (by decide +kernel) (by decide +kernel)
theorem in_X13 : ∀ w ∈ wsX130, w ∈ lw_all := lw_in wsX130 [788, 790, 768, 770, 772, 774, 776, 778, 780, 782, 784, 786] (by decide +kernel) (by decide +kernel)
theorem in_X15 : ∀ w ∈ wsX150, w ∈ lw_all := lw_in wsX150 [869, 870, 859, 860, 861, 862, 863, 864, 865, 866, 867, 868, 857, 849, 851, 853, 855] (by decide +kernel) (by decide +kernel)
theorem in_X16 : ∀ w ∈ wsX160, w ∈ lw_all := lw_in wsX160 [891, 892, 893, 894, 895, 904, 902] (by decide +kernel) (by decide +kernel)
theorem in_X17 : ∀ w ∈ wsX170, w ∈ lw_all := lw_in wsX170 [1007, 1008, 1003, 1005] (by decide +kernel) (by decide +kernel)
theorem in_X18 : ∀ w ∈ wsX180, w ∈ lw_all := lw_in wsX180 [1053, 1054, 1043, 1044, 1045, 1046, 1047, 1048, 1049, 1050, 1051, 1052, 1042, 1032, 1034, 1036, 1038, 1040] (by decide +kernel) (by decide +kernel)
theorem in_X19 : ∀ w ∈ wsX190, w ∈ lw_all := lw_in wsX190 [1287, 1289, 1291] (by decide +kernel) (by decide +kernel)
theorem in_X2 : ∀ w ∈ wsX20, w ∈ lw_all := lw_in wsX20 [1916, 1918, 1920, 1922, 1924, 1926, 1928, 1930, 1932, 1934, 1936, 1938, 1940, 1942, 1944, 1946, 1948, 1950, 1952, 1954, 1956] (by decide +kernel) (by decide +kernel)
theorem in_X20 : ∀ w ∈ wsX200, w ∈ lw_all := lw_in wsX200 [1351, 1353, 1355, 1357, 1359] (by decide +kernel) (by decide +kernel)
theorem in_X21 : ∀ w ∈ wsX210, w ∈ lw_all := lw_in wsX210 [1464, 1465, 1458, 1460, 1462] (by decide +kernel) (by decide +kernel)
theorem in_X22 : ∀ w ∈ wsX220, w ∈ lw_all := lw_in wsX220 [1483, 1484, 1480, 1481, 1482, 1478] (by decide +kernel) (by decide +kernel)
theorem in_X23 : ∀ w ∈ wsX230, w ∈ lw_all := lw_in wsX230 [1520, 1522, 1524, 1526, 1528, 1530, 1532] (by decide +kernel) (by decide +kernel)
theorem in_X24 : ∀ w ∈ wsX240, w ∈ lw_all := lw_in wsX240 [1757, 1759, 1761, 1763, 1765, 1767, 1769, 1771, 1773, 1775, 1777, 1779, 1781, 1783, 1785, 1787, 1789, 1791, 1793, 1795, 1797, 1799] (by decide +kernel) (by decide +kernel)
theorem in_X26 : ∀ w ∈ wsX260, w ∈ lw_all := lw_in wsX260 [1697] (by decide +kernel) (by decide +kernel)
theorem in_X27 : ∀ w ∈ wsX270, w ∈ lw_all := lw_in wsX270 [1713] (by decide +kernel) (by decide +kernel)
theorem in_X28 : ∀ w ∈ wsX280, w ∈ lw_all := lw_in wsX280 [1731] (by decide +kernel) (by decide +kernel)
theorem in_X3 : ∀ w ∈ wsX30, w ∈ lw_all := lw_in wsX30 [189, 191, 193] (by decide +kernel) (by decide +kernel)
theorem in_X4 : ∀ w ∈ wsX40, w ∈ lw_all := lw_in wsX40 [334, 336] (by decide +kernel) (by decide +kernel)
theorem in_X5 : ∀ w ∈ wsX50, w ∈ lw_all := lw_in wsX50 [370, 372, 374, 376, 378, 421, 415] (by decide +kernel) (by decide +kernel)
theorem in_X6 : ∀ w ∈ wsX60, w ∈ lw_all := lw_in wsX60 [516, 518, 520] (by decide +kernel) (by decide +kernel)
theorem in_X8 : ∀ w ∈ wsX80, w ∈ lw_all := lw_in wsX80 [453] (by decide +kernel) (by decide +kernel)
theorem in_X9 : ∀ w ∈ wsX90, w ∈ lw_all := lw_in wsX90 [465, 467, 469] (by decide +kernel) (by decide +kernel)
