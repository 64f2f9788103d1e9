/-! java/lang/String -/
set_option maxRecDepth 100000
def RJ0 : String := "java/lang/String"
abbrev cJ0_length : ByteArray := prog_23_method_54_code
def yJ0_length : MethodName := ⟨RJ0, "length", "()I"⟩
theorem dJ0_length_0 : decode cJ0_length 0 = .ok (.aload_n 0, 1) := by decide +kernel
theorem dJ0_length_1 : decode cJ0_length 1 = .ok (.getfield 9, 3) := by decide +kernel
theorem dJ0_length_4 : decode cJ0_length 4 = .ok (.arraylength, 1) := by decide +kernel
theorem dJ0_length_5 : decode cJ0_length 5 = .ok (.aload_n 0, 1) := by decide +kernel
theorem dJ0_length_6 : decode cJ0_length 6 = .ok (.invokevirtual 335, 3) := by decide +kernel
theorem dJ0_length_9 : decode cJ0_length 9 = .ok (.ishr, 1) := by decide +kernel
theorem dJ0_length_10 : decode cJ0_length 10 = .ok (.ireturn, 1) := by decide +kernel
abbrev cJ0_coder : ByteArray := prog_23_method_152_code
def yJ0_coder : MethodName := ⟨RJ0, "coder", "()B"⟩
theorem dJ0_coder_0 : decode cJ0_coder 0 = .ok (.getstatic 38, 3) := by decide +kernel
theorem dJ0_coder_3 : decode cJ0_coder 3 = .ok (.ifCond .eq 10, 3) := by decide +kernel
theorem dJ0_coder_6 : decode cJ0_coder 6 = .ok (.aload_n 0, 1) := by decide +kernel
theorem dJ0_coder_7 : decode cJ0_coder 7 = .ok (.getfield 15, 3) := by decide +kernel
theorem dJ0_coder_10 : decode cJ0_coder 10 = .ok (.goto 4, 3) := by decide +kernel
theorem dJ0_coder_13 : decode cJ0_coder 13 = .ok (.iconst 1, 1) := by decide +kernel
theorem dJ0_coder_14 : decode cJ0_coder 14 = .ok (.ireturn, 1) := by decide +kernel
abbrev cJ0_charAt : ByteArray := prog_23_method_56_code
def yJ0_charAt : MethodName := ⟨RJ0, "charAt", "(I)C"⟩
theorem dJ0_charAt_0 : decode cJ0_charAt 0 = .ok (.aload_n 0, 1) := by decide +kernel
theorem dJ0_charAt_1 : decode cJ0_charAt 1 = .ok (.invokevirtual 492, 3) := by decide +kernel
theorem dJ0_charAt_4 : decode cJ0_charAt 4 = .ok (.ifCond .eq 12, 3) := by decide +kernel
theorem dJ0_charAt_7 : decode cJ0_charAt 7 = .ok (.aload_n 0, 1) := by decide +kernel
theorem dJ0_charAt_8 : decode cJ0_charAt 8 = .ok (.getfield 9, 3) := by decide +kernel
theorem dJ0_charAt_11 : decode cJ0_charAt 11 = .ok (.iload_n 1, 1) := by decide +kernel
theorem dJ0_charAt_12 : decode cJ0_charAt 12 = .ok (.invokestatic 495, 3) := by decide +kernel
theorem dJ0_charAt_15 : decode cJ0_charAt 15 = .ok (.ireturn, 1) := by decide +kernel
theorem dJ0_charAt_16 : decode cJ0_charAt 16 = .ok (.aload_n 0, 1) := by decide +kernel
theorem dJ0_charAt_17 : decode cJ0_charAt 17 = .ok (.getfield 9, 3) := by decide +kernel
theorem dJ0_charAt_20 : decode cJ0_charAt 20 = .ok (.iload_n 1, 1) := by decide +kernel
theorem dJ0_charAt_21 : decode cJ0_charAt 21 = .ok (.invokestatic 498, 3) := by decide +kernel
theorem dJ0_charAt_24 : decode cJ0_charAt 24 = .ok (.ireturn, 1) := by decide +kernel
abbrev cJ0_isLatin1 : ByteArray := prog_23_method_154_code
def yJ0_isLatin1 : MethodName := ⟨RJ0, "isLatin1", "()Z"⟩
theorem dJ0_isLatin1_0 : decode cJ0_isLatin1 0 = .ok (.getstatic 38, 3) := by decide +kernel
theorem dJ0_isLatin1_3 : decode cJ0_isLatin1 3 = .ok (.ifCond .eq 14, 3) := by decide +kernel
theorem dJ0_isLatin1_6 : decode cJ0_isLatin1 6 = .ok (.aload_n 0, 1) := by decide +kernel
theorem dJ0_isLatin1_7 : decode cJ0_isLatin1 7 = .ok (.getfield 15, 3) := by decide +kernel
theorem dJ0_isLatin1_10 : decode cJ0_isLatin1 10 = .ok (.ifCond .ne 7, 3) := by decide +kernel
theorem dJ0_isLatin1_13 : decode cJ0_isLatin1 13 = .ok (.iconst 1, 1) := by decide +kernel
theorem dJ0_isLatin1_14 : decode cJ0_isLatin1 14 = .ok (.goto 4, 3) := by decide +kernel
theorem dJ0_isLatin1_17 : decode cJ0_isLatin1 17 = .ok (.iconst 0, 1) := by decide +kernel
theorem dJ0_isLatin1_18 : decode cJ0_isLatin1 18 = .ok (.ireturn, 1) := by decide +kernel
abbrev cJ0_checkIndex : ByteArray := prog_23_method_155_code
def yJ0_checkIndex : MethodName := ⟨RJ0, "checkIndex", "(II)V"⟩
theorem dJ0_checkIndex_0 : decode cJ0_checkIndex 0 = .ok (.iload_n 0, 1) := by decide +kernel
theorem dJ0_checkIndex_1 : decode cJ0_checkIndex 1 = .ok (.iload_n 1, 1) := by decide +kernel
theorem dJ0_checkIndex_2 : decode cJ0_checkIndex 2 = .ok (.getstatic 1053, 3) := by decide +kernel
theorem dJ0_checkIndex_5 : decode cJ0_checkIndex 5 = .ok (.invokestatic 1059, 3) := by decide +kernel
theorem dJ0_checkIndex_8 : decode cJ0_checkIndex 8 = .ok (.pop, 1) := by decide +kernel
theorem dJ0_checkIndex_9 : decode cJ0_checkIndex 9 = .ok (.return_, 1) := by decide +kernel
theorem q104 : (Jvm.Cond.initialized "java/lang/String") ∈ lw_all := lw_g (lw_at lw_m1 7 rfl) rfl
theorem q202 : (Jvm.Cond.instanceMethod ({ cls := "java/lang/String", name := "length", desc := "()I" } : Jvm.MethodName)) ∈ lw_all := lw_g (lw_at lw_m1 105 rfl) rfl
theorem q203 : (Jvm.Cond.selects "java/lang/String" ({ cls := "java/lang/String", name := "length", desc := "()I" } : Jvm.MethodName) ({ cls := "java/lang/String", name := "length", desc := "()I" } : Jvm.MethodName)) ∈ lw_all := lw_g (lw_at lw_m1 106 rfl) rfl
theorem q204 : (Jvm.Cond.code ({ cls := "java/lang/String", name := "length", desc := "()I" } : Jvm.MethodName) prog_23_method_54_code (1 : Nat) (Option.some Jvm.ClassFile.FieldType.int)) ∈ lw_all := lw_g (lw_at lw_m1 107 rfl) rfl
theorem q205 : (Jvm.Cond.methodLink "java/lang/String" (335 : Nat) ({ cls := "java/lang/String", name := "coder", desc := "()B" } : Jvm.MethodName)) ∈ lw_all := lw_g (lw_at lw_m1 108 rfl) rfl
theorem q206 : (Jvm.Cond.instanceMethod ({ cls := "java/lang/String", name := "coder", desc := "()B" } : Jvm.MethodName)) ∈ lw_all := lw_g (lw_at lw_m1 109 rfl) rfl
theorem q207 : (Jvm.Cond.selects "java/lang/String" ({ cls := "java/lang/String", name := "coder", desc := "()B" } : Jvm.MethodName) ({ cls := "java/lang/String", name := "coder", desc := "()B" } : Jvm.MethodName)) ∈ lw_all := lw_g (lw_at lw_m1 110 rfl) rfl
theorem q208 : (Jvm.Cond.code ({ cls := "java/lang/String", name := "coder", desc := "()B" } : Jvm.MethodName) prog_23_method_152_code (1 : Nat) (Option.some Jvm.ClassFile.FieldType.byte)) ∈ lw_all := lw_g (lw_at lw_m1 111 rfl) rfl
theorem q209 : (Jvm.Cond.fieldLink "java/lang/String" (38 : Nat) "java/lang/String" "COMPACT_STRINGS" "Z") ∈ lw_all := lw_g (lw_at lw_m1 112 rfl) rfl
theorem q210 : (Jvm.Cond.laysStatic "java/lang/String" "COMPACT_STRINGS" "Z") ∈ lw_tbl := lw_at lw_m1 113 rfl
theorem q212 : (Jvm.Cond.instanceMethod ({ cls := "java/lang/String", name := "charAt", desc := "(I)C" } : Jvm.MethodName)) ∈ lw_all := lw_g (lw_at lw_m1 115 rfl) rfl
theorem q213 : (Jvm.Cond.selects "java/lang/String" ({ cls := "java/lang/String", name := "charAt", desc := "(I)C" } : Jvm.MethodName) ({ cls := "java/lang/String", name := "charAt", desc := "(I)C" } : Jvm.MethodName)) ∈ lw_all := lw_g (lw_at lw_m1 116 rfl) rfl
theorem q214 : (Jvm.Cond.code ({ cls := "java/lang/String", name := "charAt", desc := "(I)C" } : Jvm.MethodName) prog_23_method_56_code (2 : Nat) (Option.some Jvm.ClassFile.FieldType.char)) ∈ lw_all := lw_g (lw_at lw_m1 117 rfl) rfl
theorem q215 : (Jvm.Cond.methodLink "java/lang/String" (492 : Nat) ({ cls := "java/lang/String", name := "isLatin1", desc := "()Z" } : Jvm.MethodName)) ∈ lw_all := lw_g (lw_at lw_m1 118 rfl) rfl
theorem q216 : (Jvm.Cond.instanceMethod ({ cls := "java/lang/String", name := "isLatin1", desc := "()Z" } : Jvm.MethodName)) ∈ lw_all := lw_g (lw_at lw_m1 119 rfl) rfl
theorem q217 : (Jvm.Cond.selects "java/lang/String" ({ cls := "java/lang/String", name := "isLatin1", desc := "()Z" } : Jvm.MethodName) ({ cls := "java/lang/String", name := "isLatin1", desc := "()Z" } : Jvm.MethodName)) ∈ lw_all := lw_g (lw_at lw_m1 120 rfl) rfl
theorem q218 : (Jvm.Cond.code ({ cls := "java/lang/String", name := "isLatin1", desc := "()Z" } : Jvm.MethodName) prog_23_method_154_code (1 : Nat) (Option.some Jvm.ClassFile.FieldType.boolean)) ∈ lw_all := lw_g (lw_at lw_m1 121 rfl) rfl
theorem q219 : (Jvm.Cond.methodLink "java/lang/String" (495 : Nat) ({ cls := "java/lang/StringLatin1", name := "charAt", desc := "([BI)C" } : Jvm.MethodName)) ∈ lw_all := lw_g (lw_at lw_m1 122 rfl) rfl
theorem q223 : (Jvm.Cond.static ({ cls := "java/lang/String", name := "checkIndex", desc := "(II)V" } : Jvm.MethodName)) ∈ lw_all := lw_g (lw_at lw_m1 126 rfl) rfl
theorem q224 : (Jvm.Cond.code ({ cls := "java/lang/String", name := "checkIndex", desc := "(II)V" } : Jvm.MethodName) prog_23_method_155_code (2 : Nat) (Option.none : Option Jvm.ClassFile.FieldType)) ∈ lw_all := lw_g (lw_at lw_m1 127 rfl) rfl
theorem q225 : (Jvm.Cond.fieldLink "java/lang/String" (1053 : Nat) "jdk/internal/util/Preconditions" "SIOOBE_FORMATTER" "Ljava/util/function/BiFunction;") ∈ lw_all := lw_g (lw_at lw_m1 128 rfl) rfl
theorem q227 : (Jvm.Cond.methodLink "java/lang/String" (1059 : Nat) ({ cls := "jdk/internal/util/Preconditions", name := "checkIndex", desc := "(IILjava/util/function/BiFunction;)I" } : Jvm.MethodName)) ∈ lw_all := lw_g (lw_at lw_m1 130 rfl) rfl
theorem q230 : (Jvm.Cond.methodLink "java/lang/String" (498 : Nat) ({ cls := "java/lang/StringUTF16", name := "charAt", desc := "([BI)C" } : Jvm.MethodName)) ∈ lw_all := lw_g (lw_at lw_m1 133 rfl) rfl
theorem q2158 : (Jvm.Cond.castable "java/lang/String" "java/lang/Object") ∈ lw_tbl := lw_at lw_m9 141 rfl
theorem q2161 : (Jvm.Cond.fieldLink "java/lang/String" (9 : Nat) "java/lang/String" "value" "[B") ∈ lw_all := lw_g (lw_at lw_m9 144 rfl) rfl
theorem q2162 : (Jvm.Cond.fieldLink "java/lang/String" (15 : Nat) "java/lang/String" "coder" "B") ∈ lw_all := lw_g (lw_at lw_m9 145 rfl) rfl
/-! java/lang/StringLatin1 -/
set_option maxRecDepth 100000
def RJ1 : String := "java/lang/StringLatin1"
abbrev cJ1_charAt : ByteArray := prog_24_method_2_code
def yJ1_charAt : MethodName := ⟨RJ1, "charAt", "([BI)C"⟩
theorem dJ1_charAt_0 : decode cJ1_charAt 0 = .ok (.iload_n 1, 1) := by decide +kernel
theorem dJ1_charAt_1 : decode cJ1_charAt 1 = .ok (.aload_n 0, 1) := by decide +kernel
theorem dJ1_charAt_2 : decode cJ1_charAt 2 = .ok (.arraylength, 1) := by decide +kernel
theorem dJ1_charAt_3 : decode cJ1_charAt 3 = .ok (.invokestatic 9, 3) := by decide +kernel
theorem dJ1_charAt_6 : decode cJ1_charAt 6 = .ok (.aload_n 0, 1) := by decide +kernel
theorem dJ1_charAt_7 : decode cJ1_charAt 7 = .ok (.iload_n 1, 1) := by decide +kernel
theorem dJ1_charAt_8 : decode cJ1_charAt 8 = .ok (.baload, 1) := by decide +kernel
theorem dJ1_charAt_9 : decode cJ1_charAt 9 = .ok (.sipush 255, 3) := by decide +kernel
theorem dJ1_charAt_12 : decode cJ1_charAt 12 = .ok (.iand, 1) := by decide +kernel
theorem dJ1_charAt_13 : decode cJ1_charAt 13 = .ok (.i2c, 1) := by decide +kernel
theorem dJ1_charAt_14 : decode cJ1_charAt 14 = .ok (.ireturn, 1) := by decide +kernel
theorem q105 : (Jvm.Cond.initialized "java/lang/StringLatin1") ∈ lw_all := lw_g (lw_at lw_m1 8 rfl) rfl
theorem q220 : (Jvm.Cond.static ({ cls := "java/lang/StringLatin1", name := "charAt", desc := "([BI)C" } : Jvm.MethodName)) ∈ lw_all := lw_g (lw_at lw_m1 123 rfl) rfl
theorem q221 : (Jvm.Cond.code ({ cls := "java/lang/StringLatin1", name := "charAt", desc := "([BI)C" } : Jvm.MethodName) prog_24_method_2_code (2 : Nat) (Option.some Jvm.ClassFile.FieldType.char)) ∈ lw_all := lw_g (lw_at lw_m1 124 rfl) rfl
theorem q222 : (Jvm.Cond.methodLink "java/lang/StringLatin1" (9 : Nat) ({ cls := "java/lang/String", name := "checkIndex", desc := "(II)V" } : Jvm.MethodName)) ∈ lw_all := lw_g (lw_at lw_m1 125 rfl) rfl
/-! jdk/internal/util/Preconditions -/
set_option maxRecDepth 100000
def RJ2 : String := "jdk/internal/util/Preconditions"
abbrev cJ2_checkIndex : ByteArray := prog_29_method_11_code
def yJ2_checkIndex : MethodName := ⟨RJ2, "checkIndex", "(IILjava/util/function/BiFunction;)I"⟩
theorem dJ2_checkIndex_0 : decode cJ2_checkIndex 0 = .ok (.iload_n 0, 1) := by decide +kernel
theorem dJ2_checkIndex_1 : decode cJ2_checkIndex 1 = .ok (.ifCond .lt 8, 3) := by decide +kernel
theorem dJ2_checkIndex_4 : decode cJ2_checkIndex 4 = .ok (.iload_n 0, 1) := by decide +kernel
theorem dJ2_checkIndex_5 : decode cJ2_checkIndex 5 = .ok (.iload_n 1, 1) := by decide +kernel
theorem dJ2_checkIndex_6 : decode cJ2_checkIndex 6 = .ok (.if_icmp .lt 10, 3) := by decide +kernel
theorem dJ2_checkIndex_9 : decode cJ2_checkIndex 9 = .ok (.aload_n 2, 1) := by decide +kernel
theorem dJ2_checkIndex_10 : decode cJ2_checkIndex 10 = .ok (.iload_n 0, 1) := by decide +kernel
theorem dJ2_checkIndex_11 : decode cJ2_checkIndex 11 = .ok (.iload_n 1, 1) := by decide +kernel
theorem dJ2_checkIndex_12 : decode cJ2_checkIndex 12 = .ok (.invokestatic 95, 3) := by decide +kernel
theorem dJ2_checkIndex_15 : decode cJ2_checkIndex 15 = .ok (.athrow, 1) := by decide +kernel
theorem dJ2_checkIndex_16 : decode cJ2_checkIndex 16 = .ok (.iload_n 0, 1) := by decide +kernel
theorem dJ2_checkIndex_17 : decode cJ2_checkIndex 17 = .ok (.ireturn, 1) := by decide +kernel
theorem q106 : (Jvm.Cond.initialized "jdk/internal/util/Preconditions") ∈ lw_all := lw_g (lw_at lw_m1 9 rfl) rfl
theorem q226 : (Jvm.Cond.laysStatic "jdk/internal/util/Preconditions" "SIOOBE_FORMATTER" "Ljava/util/function/BiFunction;") ∈ lw_tbl := lw_at lw_m1 129 rfl
theorem q228 : (Jvm.Cond.static ({ cls := "jdk/internal/util/Preconditions", name := "checkIndex", desc := "(IILjava/util/function/BiFunction;)I" } : Jvm.MethodName)) ∈ lw_all := lw_g (lw_at lw_m1 131 rfl) rfl
theorem q229 : (Jvm.Cond.code ({ cls := "jdk/internal/util/Preconditions", name := "checkIndex", desc := "(IILjava/util/function/BiFunction;)I" } : Jvm.MethodName) prog_29_method_11_code (3 : Nat) (Option.some Jvm.ClassFile.FieldType.int)) ∈ lw_all := lw_g (lw_at lw_m1 132 rfl) rfl
/-! java/lang/StringUTF16 -/
set_option maxRecDepth 100000
def RJ3 : String := "java/lang/StringUTF16"
abbrev cJ3_charAt : ByteArray := prog_25_method_83_code
def yJ3_charAt : MethodName := ⟨RJ3, "charAt", "([BI)C"⟩
theorem dJ3_charAt_0 : decode cJ3_charAt 0 = .ok (.iload_n 1, 1) := by decide +kernel
theorem dJ3_charAt_1 : decode cJ3_charAt 1 = .ok (.aload_n 0, 1) := by decide +kernel
theorem dJ3_charAt_2 : decode cJ3_charAt 2 = .ok (.invokestatic 67, 3) := by decide +kernel
theorem dJ3_charAt_5 : decode cJ3_charAt 5 = .ok (.aload_n 0, 1) := by decide +kernel
theorem dJ3_charAt_6 : decode cJ3_charAt 6 = .ok (.iload_n 1, 1) := by decide +kernel
theorem dJ3_charAt_7 : decode cJ3_charAt 7 = .ok (.invokestatic 71, 3) := by decide +kernel
theorem dJ3_charAt_10 : decode cJ3_charAt 10 = .ok (.ireturn, 1) := by decide +kernel
abbrev cJ3_checkIndex : ByteArray := prog_25_method_91_code
def yJ3_checkIndex : MethodName := ⟨RJ3, "checkIndex", "(I[B)V"⟩
theorem dJ3_checkIndex_0 : decode cJ3_checkIndex 0 = .ok (.iload_n 0, 1) := by decide +kernel
theorem dJ3_checkIndex_1 : decode cJ3_checkIndex 1 = .ok (.aload_n 1, 1) := by decide +kernel
theorem dJ3_checkIndex_2 : decode cJ3_checkIndex 2 = .ok (.invokestatic 48, 3) := by decide +kernel
theorem dJ3_checkIndex_5 : decode cJ3_checkIndex 5 = .ok (.invokestatic 414, 3) := by decide +kernel
theorem dJ3_checkIndex_8 : decode cJ3_checkIndex 8 = .ok (.return_, 1) := by decide +kernel
abbrev cJ3_length : ByteArray := prog_25_method_6_code
def yJ3_length : MethodName := ⟨RJ3, "length", "([B)I"⟩
theorem dJ3_length_0 : decode cJ3_length 0 = .ok (.aload_n 0, 1) := by decide +kernel
theorem dJ3_length_1 : decode cJ3_length 1 = .ok (.arraylength, 1) := by decide +kernel
theorem dJ3_length_2 : decode cJ3_length 2 = .ok (.iconst 1, 1) := by decide +kernel
theorem dJ3_length_3 : decode cJ3_length 3 = .ok (.ishr, 1) := by decide +kernel
theorem dJ3_length_4 : decode cJ3_length 4 = .ok (.ireturn, 1) := by decide +kernel
abbrev cJ3_getChar : ByteArray := prog_25_method_5_code
def yJ3_getChar : MethodName := ⟨RJ3, "getChar", "([BI)C"⟩
theorem dJ3_getChar_0 : decode cJ3_getChar 0 = .ok (.getstatic 44, 3) := by decide +kernel
theorem dJ3_getChar_3 : decode cJ3_getChar 3 = .ok (.ifCond .ne 25, 3) := by decide +kernel
theorem dJ3_getChar_6 : decode cJ3_getChar 6 = .ok (.iload_n 1, 1) := by decide +kernel
theorem dJ3_getChar_7 : decode cJ3_getChar 7 = .ok (.ifCond .lt 11, 3) := by decide +kernel
theorem dJ3_getChar_10 : decode cJ3_getChar 10 = .ok (.iload_n 1, 1) := by decide +kernel
theorem dJ3_getChar_11 : decode cJ3_getChar 11 = .ok (.aload_n 0, 1) := by decide +kernel
theorem dJ3_getChar_12 : decode cJ3_getChar 12 = .ok (.invokestatic 48, 3) := by decide +kernel
theorem dJ3_getChar_15 : decode cJ3_getChar 15 = .ok (.if_icmp .lt 13, 3) := by decide +kernel
theorem dJ3_getChar_18 : decode cJ3_getChar 18 = .ok (.new 52, 3) := by decide +kernel
theorem dJ3_getChar_21 : decode cJ3_getChar 21 = .ok (.dup, 1) := by decide +kernel
theorem dJ3_getChar_22 : decode cJ3_getChar 22 = .ok (.ldc 54, 2) := by decide +kernel
theorem dJ3_getChar_24 : decode cJ3_getChar 24 = .ok (.invokespecial 56, 3) := by decide +kernel
theorem dJ3_getChar_27 : decode cJ3_getChar 27 = .ok (.athrow, 1) := by decide +kernel
theorem dJ3_getChar_28 : decode cJ3_getChar 28 = .ok (.iload_n 1, 1) := by decide +kernel
theorem dJ3_getChar_29 : decode cJ3_getChar 29 = .ok (.iconst 1, 1) := by decide +kernel
theorem dJ3_getChar_30 : decode cJ3_getChar 30 = .ok (.ishl, 1) := by decide +kernel
theorem dJ3_getChar_31 : decode cJ3_getChar 31 = .ok (.istore_n 1, 1) := by decide +kernel
theorem dJ3_getChar_32 : decode cJ3_getChar 32 = .ok (.aload_n 0, 1) := by decide +kernel
theorem dJ3_getChar_33 : decode cJ3_getChar 33 = .ok (.iload_n 1, 1) := by decide +kernel
theorem dJ3_getChar_34 : decode cJ3_getChar 34 = .ok (.iinc 1 1, 3) := by decide +kernel
theorem dJ3_getChar_37 : decode cJ3_getChar 37 = .ok (.baload, 1) := by decide +kernel
theorem dJ3_getChar_38 : decode cJ3_getChar 38 = .ok (.sipush 255, 3) := by decide +kernel
theorem dJ3_getChar_41 : decode cJ3_getChar 41 = .ok (.iand, 1) := by decide +kernel
theorem dJ3_getChar_42 : decode cJ3_getChar 42 = .ok (.getstatic 59, 3) := by decide +kernel
theorem dJ3_getChar_45 : decode cJ3_getChar 45 = .ok (.ishl, 1) := by decide +kernel
theorem dJ3_getChar_46 : decode cJ3_getChar 46 = .ok (.aload_n 0, 1) := by decide +kernel
theorem dJ3_getChar_47 : decode cJ3_getChar 47 = .ok (.iload_n 1, 1) := by decide +kernel
theorem dJ3_getChar_48 : decode cJ3_getChar 48 = .ok (.baload, 1) := by decide +kernel
theorem dJ3_getChar_49 : decode cJ3_getChar 49 = .ok (.sipush 255, 3) := by decide +kernel
theorem dJ3_getChar_52 : decode cJ3_getChar 52 = .ok (.iand, 1) := by decide +kernel
theorem dJ3_getChar_53 : decode cJ3_getChar 53 = .ok (.getstatic 63, 3) := by decide +kernel
theorem dJ3_getChar_56 : decode cJ3_getChar 56 = .ok (.ishl, 1) := by decide +kernel
theorem dJ3_getChar_57 : decode cJ3_getChar 57 = .ok (.ior, 1) := by decide +kernel
theorem dJ3_getChar_58 : decode cJ3_getChar 58 = .ok (.i2c, 1) := by decide +kernel
theorem dJ3_getChar_59 : decode cJ3_getChar 59 = .ok (.ireturn, 1) := by decide +kernel
theorem q107 : (Jvm.Cond.initialized "java/lang/StringUTF16") ∈ lw_all := lw_g (lw_at lw_m1 10 rfl) rfl
theorem q231 : (Jvm.Cond.static ({ cls := "java/lang/StringUTF16", name := "charAt", desc := "([BI)C" } : Jvm.MethodName)) ∈ lw_all := lw_g (lw_at lw_m1 134 rfl) rfl
theorem q232 : (Jvm.Cond.code ({ cls := "java/lang/StringUTF16", name := "charAt", desc := "([BI)C" } : Jvm.MethodName) prog_25_method_83_code (2 : Nat) (Option.some Jvm.ClassFile.FieldType.char)) ∈ lw_all := lw_g (lw_at lw_m1 135 rfl) rfl
theorem q233 : (Jvm.Cond.methodLink "java/lang/StringUTF16" (67 : Nat) ({ cls := "java/lang/StringUTF16", name := "checkIndex", desc := "(I[B)V" } : Jvm.MethodName)) ∈ lw_all := lw_g (lw_at lw_m1 136 rfl) rfl
theorem q234 : (Jvm.Cond.static ({ cls := "java/lang/StringUTF16", name := "checkIndex", desc := "(I[B)V" } : Jvm.MethodName)) ∈ lw_all := lw_g (lw_at lw_m1 137 rfl) rfl
theorem q235 : (Jvm.Cond.code ({ cls := "java/lang/StringUTF16", name := "checkIndex", desc := "(I[B)V" } : Jvm.MethodName) prog_25_method_91_code (2 : Nat) (Option.none : Option Jvm.ClassFile.FieldType)) ∈ lw_all := lw_g (lw_at lw_m1 138 rfl) rfl
theorem q236 : (Jvm.Cond.methodLink "java/lang/StringUTF16" (48 : Nat) ({ cls := "java/lang/StringUTF16", name := "length", desc := "([B)I" } : Jvm.MethodName)) ∈ lw_all := lw_g (lw_at lw_m1 139 rfl) rfl
theorem q237 : (Jvm.Cond.static ({ cls := "java/lang/StringUTF16", name := "length", desc := "([B)I" } : Jvm.MethodName)) ∈ lw_all := lw_g (lw_at lw_m1 140 rfl) rfl
theorem q238 : (Jvm.Cond.code ({ cls := "java/lang/StringUTF16", name := "length", desc := "([B)I" } : Jvm.MethodName) prog_25_method_6_code (1 : Nat) (Option.some Jvm.ClassFile.FieldType.int)) ∈ lw_all := lw_g (lw_at lw_m1 141 rfl) rfl
theorem q239 : (Jvm.Cond.methodLink "java/lang/StringUTF16" (414 : Nat) ({ cls := "java/lang/String", name := "checkIndex", desc := "(II)V" } : Jvm.MethodName)) ∈ lw_all := lw_g (lw_at lw_m1 142 rfl) rfl
theorem q240 : (Jvm.Cond.methodLink "java/lang/StringUTF16" (71 : Nat) ({ cls := "java/lang/StringUTF16", name := "getChar", desc := "([BI)C" } : Jvm.MethodName)) ∈ lw_all := lw_g (lw_at lw_m1 143 rfl) rfl
theorem q241 : (Jvm.Cond.static ({ cls := "java/lang/StringUTF16", name := "getChar", desc := "([BI)C" } : Jvm.MethodName)) ∈ lw_all := lw_g (lw_at lw_m1 144 rfl) rfl
theorem q242 : (Jvm.Cond.code ({ cls := "java/lang/StringUTF16", name := "getChar", desc := "([BI)C" } : Jvm.MethodName) prog_25_method_5_code (2 : Nat) (Option.some Jvm.ClassFile.FieldType.char)) ∈ lw_all := lw_g (lw_at lw_m1 145 rfl) rfl
theorem q243 : (Jvm.Cond.fieldLink "java/lang/StringUTF16" (44 : Nat) "java/lang/StringUTF16" "$assertionsDisabled" "Z") ∈ lw_all := lw_g (lw_at lw_m1 146 rfl) rfl
theorem q244 : (Jvm.Cond.laysStatic "java/lang/StringUTF16" "$assertionsDisabled" "Z") ∈ lw_tbl := lw_at lw_m1 147 rfl
theorem q245 : (Jvm.Cond.fieldLink "java/lang/StringUTF16" (59 : Nat) "java/lang/StringUTF16" "HI_BYTE_SHIFT" "I") ∈ lw_all := lw_g (lw_at lw_m1 148 rfl) rfl
theorem q246 : (Jvm.Cond.laysStatic "java/lang/StringUTF16" "HI_BYTE_SHIFT" "I") ∈ lw_tbl := lw_at lw_m1 149 rfl
theorem q247 : (Jvm.Cond.fieldLink "java/lang/StringUTF16" (63 : Nat) "java/lang/StringUTF16" "LO_BYTE_SHIFT" "I") ∈ lw_all := lw_g (lw_at lw_m1 150 rfl) rfl
theorem q248 : (Jvm.Cond.laysStatic "java/lang/StringUTF16" "LO_BYTE_SHIFT" "I") ∈ lw_tbl := lw_at lw_m1 151 rfl
/-! java/lang/Integer -/
set_option maxRecDepth 100000
def RJ4 : String := "java/lang/Integer"
abbrev cJ4_compareUnsigned : ByteArray := prog_20_method_41_code
def yJ4_compareUnsigned : MethodName := ⟨RJ4, "compareUnsigned", "(II)I"⟩
theorem dJ4_compareUnsigned_0 : decode cJ4_compareUnsigned 0 = .ok (.iload_n 0, 1) := by decide +kernel
theorem dJ4_compareUnsigned_1 : decode cJ4_compareUnsigned 1 = .ok (.ldc 127, 2) := by decide +kernel
theorem dJ4_compareUnsigned_3 : decode cJ4_compareUnsigned 3 = .ok (.iadd, 1) := by decide +kernel
theorem dJ4_compareUnsigned_4 : decode cJ4_compareUnsigned 4 = .ok (.iload_n 1, 1) := by decide +kernel
theorem dJ4_compareUnsigned_5 : decode cJ4_compareUnsigned 5 = .ok (.ldc 127, 2) := by decide +kernel
theorem dJ4_compareUnsigned_7 : decode cJ4_compareUnsigned 7 = .ok (.iadd, 1) := by decide +kernel
theorem dJ4_compareUnsigned_8 : decode cJ4_compareUnsigned 8 = .ok (.invokestatic 259, 3) := by decide +kernel
theorem dJ4_compareUnsigned_11 : decode cJ4_compareUnsigned 11 = .ok (.ireturn, 1) := by decide +kernel
abbrev cJ4_compare : ByteArray := prog_20_method_40_code
def yJ4_compare : MethodName := ⟨RJ4, "compare", "(II)I"⟩
theorem dJ4_compare_0 : decode cJ4_compare 0 = .ok (.iload_n 0, 1) := by decide +kernel
theorem dJ4_compare_1 : decode cJ4_compare 1 = .ok (.iload_n 1, 1) := by decide +kernel
theorem dJ4_compare_2 : decode cJ4_compare 2 = .ok (.if_icmp .ge 7, 3) := by decide +kernel
theorem dJ4_compare_5 : decode cJ4_compare 5 = .ok (.iconst (-1), 1) := by decide +kernel
theorem dJ4_compare_6 : decode cJ4_compare 6 = .ok (.goto 13, 3) := by decide +kernel
theorem dJ4_compare_9 : decode cJ4_compare 9 = .ok (.iload_n 0, 1) := by decide +kernel
theorem dJ4_compare_10 : decode cJ4_compare 10 = .ok (.iload_n 1, 1) := by decide +kernel
theorem dJ4_compare_11 : decode cJ4_compare 11 = .ok (.if_icmp .ne 7, 3) := by decide +kernel
theorem dJ4_compare_14 : decode cJ4_compare 14 = .ok (.iconst 0, 1) := by decide +kernel
theorem dJ4_compare_15 : decode cJ4_compare 15 = .ok (.goto 4, 3) := by decide +kernel
theorem dJ4_compare_18 : decode cJ4_compare 18 = .ok (.iconst 1, 1) := by decide +kernel
theorem dJ4_compare_19 : decode cJ4_compare 19 = .ok (.ireturn, 1) := by decide +kernel
abbrev cJ4_numberOfLeadingZeros : ByteArray := prog_20_method_47_code
def yJ4_numberOfLeadingZeros : MethodName := ⟨RJ4, "numberOfLeadingZeros", "(I)I"⟩
theorem dJ4_numberOfLeadingZeros_0 : decode cJ4_numberOfLeadingZeros 0 = .ok (.iload_n 0, 1) := by decide +kernel
theorem dJ4_numberOfLeadingZeros_1 : decode cJ4_numberOfLeadingZeros 1 = .ok (.ifCond .gt 14, 3) := by decide +kernel
theorem dJ4_numberOfLeadingZeros_4 : decode cJ4_numberOfLeadingZeros 4 = .ok (.iload_n 0, 1) := by decide +kernel
theorem dJ4_numberOfLeadingZeros_5 : decode cJ4_numberOfLeadingZeros 5 = .ok (.ifCond .ne 8, 3) := by decide +kernel
theorem dJ4_numberOfLeadingZeros_8 : decode cJ4_numberOfLeadingZeros 8 = .ok (.bipush 32, 2) := by decide +kernel
theorem dJ4_numberOfLeadingZeros_10 : decode cJ4_numberOfLeadingZeros 10 = .ok (.goto 4, 3) := by decide +kernel
theorem dJ4_numberOfLeadingZeros_13 : decode cJ4_numberOfLeadingZeros 13 = .ok (.iconst 0, 1) := by decide +kernel
theorem dJ4_numberOfLeadingZeros_14 : decode cJ4_numberOfLeadingZeros 14 = .ok (.ireturn, 1) := by decide +kernel
theorem dJ4_numberOfLeadingZeros_15 : decode cJ4_numberOfLeadingZeros 15 = .ok (.bipush 31, 2) := by decide +kernel
theorem dJ4_numberOfLeadingZeros_17 : decode cJ4_numberOfLeadingZeros 17 = .ok (.istore_n 1, 1) := by decide +kernel
theorem dJ4_numberOfLeadingZeros_18 : decode cJ4_numberOfLeadingZeros 18 = .ok (.iload_n 0, 1) := by decide +kernel
theorem dJ4_numberOfLeadingZeros_19 : decode cJ4_numberOfLeadingZeros 19 = .ok (.ldc_w 264, 3) := by decide +kernel
theorem dJ4_numberOfLeadingZeros_22 : decode cJ4_numberOfLeadingZeros 22 = .ok (.if_icmp .lt 11, 3) := by decide +kernel
theorem dJ4_numberOfLeadingZeros_25 : decode cJ4_numberOfLeadingZeros 25 = .ok (.iinc 1 (-16), 3) := by decide +kernel
theorem dJ4_numberOfLeadingZeros_28 : decode cJ4_numberOfLeadingZeros 28 = .ok (.iload_n 0, 1) := by decide +kernel
theorem dJ4_numberOfLeadingZeros_29 : decode cJ4_numberOfLeadingZeros 29 = .ok (.bipush 16, 2) := by decide +kernel
theorem dJ4_numberOfLeadingZeros_31 : decode cJ4_numberOfLeadingZeros 31 = .ok (.iushr, 1) := by decide +kernel
theorem dJ4_numberOfLeadingZeros_32 : decode cJ4_numberOfLeadingZeros 32 = .ok (.istore_n 0, 1) := by decide +kernel
theorem dJ4_numberOfLeadingZeros_33 : decode cJ4_numberOfLeadingZeros 33 = .ok (.iload_n 0, 1) := by decide +kernel
theorem dJ4_numberOfLeadingZeros_34 : decode cJ4_numberOfLeadingZeros 34 = .ok (.sipush 256, 3) := by decide +kernel
theorem dJ4_numberOfLeadingZeros_37 : decode cJ4_numberOfLeadingZeros 37 = .ok (.if_icmp .lt 11, 3) := by decide +kernel
theorem dJ4_numberOfLeadingZeros_40 : decode cJ4_numberOfLeadingZeros 40 = .ok (.iinc 1 (-8), 3) := by decide +kernel
theorem dJ4_numberOfLeadingZeros_43 : decode cJ4_numberOfLeadingZeros 43 = .ok (.iload_n 0, 1) := by decide +kernel
theorem dJ4_numberOfLeadingZeros_44 : decode cJ4_numberOfLeadingZeros 44 = .ok (.bipush 8, 2) := by decide +kernel
theorem dJ4_numberOfLeadingZeros_46 : decode cJ4_numberOfLeadingZeros 46 = .ok (.iushr, 1) := by decide +kernel
theorem dJ4_numberOfLeadingZeros_47 : decode cJ4_numberOfLeadingZeros 47 = .ok (.istore_n 0, 1) := by decide +kernel
theorem dJ4_numberOfLeadingZeros_48 : decode cJ4_numberOfLeadingZeros 48 = .ok (.iload_n 0, 1) := by decide +kernel
theorem dJ4_numberOfLeadingZeros_49 : decode cJ4_numberOfLeadingZeros 49 = .ok (.bipush 16, 2) := by decide +kernel
theorem dJ4_numberOfLeadingZeros_51 : decode cJ4_numberOfLeadingZeros 51 = .ok (.if_icmp .lt 10, 3) := by decide +kernel
theorem dJ4_numberOfLeadingZeros_54 : decode cJ4_numberOfLeadingZeros 54 = .ok (.iinc 1 (-4), 3) := by decide +kernel
theorem dJ4_numberOfLeadingZeros_57 : decode cJ4_numberOfLeadingZeros 57 = .ok (.iload_n 0, 1) := by decide +kernel
theorem dJ4_numberOfLeadingZeros_58 : decode cJ4_numberOfLeadingZeros 58 = .ok (.iconst 4, 1) := by decide +kernel
theorem dJ4_numberOfLeadingZeros_59 : decode cJ4_numberOfLeadingZeros 59 = .ok (.iushr, 1) := by decide +kernel
theorem dJ4_numberOfLeadingZeros_60 : decode cJ4_numberOfLeadingZeros 60 = .ok (.istore_n 0, 1) := by decide +kernel
theorem dJ4_numberOfLeadingZeros_61 : decode cJ4_numberOfLeadingZeros 61 = .ok (.iload_n 0, 1) := by decide +kernel
theorem dJ4_numberOfLeadingZeros_62 : decode cJ4_numberOfLeadingZeros 62 = .ok (.iconst 4, 1) := by decide +kernel
theorem dJ4_numberOfLeadingZeros_63 : decode cJ4_numberOfLeadingZeros 63 = .ok (.if_icmp .lt 10, 3) := by decide +kernel
theorem dJ4_numberOfLeadingZeros_66 : decode cJ4_numberOfLeadingZeros 66 = .ok (.iinc 1 (-2), 3) := by decide +kernel
theorem dJ4_numberOfLeadingZeros_69 : decode cJ4_numberOfLeadingZeros 69 = .ok (.iload_n 0, 1) := by decide +kernel
theorem dJ4_numberOfLeadingZeros_70 : decode cJ4_numberOfLeadingZeros 70 = .ok (.iconst 2, 1) := by decide +kernel
theorem dJ4_numberOfLeadingZeros_71 : decode cJ4_numberOfLeadingZeros 71 = .ok (.iushr, 1) := by decide +kernel
theorem dJ4_numberOfLeadingZeros_72 : decode cJ4_numberOfLeadingZeros 72 = .ok (.istore_n 0, 1) := by decide +kernel
theorem dJ4_numberOfLeadingZeros_73 : decode cJ4_numberOfLeadingZeros 73 = .ok (.iload_n 1, 1) := by decide +kernel
theorem dJ4_numberOfLeadingZeros_74 : decode cJ4_numberOfLeadingZeros 74 = .ok (.iload_n 0, 1) := by decide +kernel
theorem dJ4_numberOfLeadingZeros_75 : decode cJ4_numberOfLeadingZeros 75 = .ok (.iconst 1, 1) := by decide +kernel
theorem dJ4_numberOfLeadingZeros_76 : decode cJ4_numberOfLeadingZeros 76 = .ok (.iushr, 1) := by decide +kernel
theorem dJ4_numberOfLeadingZeros_77 : decode cJ4_numberOfLeadingZeros 77 = .ok (.isub, 1) := by decide +kernel
theorem dJ4_numberOfLeadingZeros_78 : decode cJ4_numberOfLeadingZeros 78 = .ok (.ireturn, 1) := by decide +kernel
abbrev cJ4_rotateRight : ByteArray := prog_20_method_51_code
def yJ4_rotateRight : MethodName := ⟨RJ4, "rotateRight", "(II)I"⟩
theorem dJ4_rotateRight_0 : decode cJ4_rotateRight 0 = .ok (.iload_n 0, 1) := by decide +kernel
theorem dJ4_rotateRight_1 : decode cJ4_rotateRight 1 = .ok (.iload_n 1, 1) := by decide +kernel
theorem dJ4_rotateRight_2 : decode cJ4_rotateRight 2 = .ok (.iushr, 1) := by decide +kernel
theorem dJ4_rotateRight_3 : decode cJ4_rotateRight 3 = .ok (.iload_n 0, 1) := by decide +kernel
theorem dJ4_rotateRight_4 : decode cJ4_rotateRight 4 = .ok (.iload_n 1, 1) := by decide +kernel
theorem dJ4_rotateRight_5 : decode cJ4_rotateRight 5 = .ok (.ineg, 1) := by decide +kernel
theorem dJ4_rotateRight_6 : decode cJ4_rotateRight 6 = .ok (.ishl, 1) := by decide +kernel
theorem dJ4_rotateRight_7 : decode cJ4_rotateRight 7 = .ok (.ior, 1) := by decide +kernel
theorem dJ4_rotateRight_8 : decode cJ4_rotateRight 8 = .ok (.ireturn, 1) := by decide +kernel
theorem q109 : (Jvm.Cond.initialized "java/lang/Integer") ∈ lw_all := lw_g (lw_at lw_m1 12 rfl) rfl
theorem q271 : (Jvm.Cond.static ({ cls := "java/lang/Integer", name := "compareUnsigned", desc := "(II)I" } : Jvm.MethodName)) ∈ lw_all := lw_g (lw_at lw_m1 174 rfl) rfl
theorem q272 : (Jvm.Cond.code ({ cls := "java/lang/Integer", name := "compareUnsigned", desc := "(II)I" } : Jvm.MethodName) prog_20_method_41_code (2 : Nat) (Option.some Jvm.ClassFile.FieldType.int)) ∈ lw_all := lw_g (lw_at lw_m1 175 rfl) rfl
theorem q273 : (Jvm.Cond.constant "java/lang/Integer" (127 : Nat) (-2147483648 : Int32)) ∈ lw_all := lw_g (lw_at lw_m1 176 rfl) rfl
theorem q274 : (Jvm.Cond.methodLink "java/lang/Integer" (259 : Nat) ({ cls := "java/lang/Integer", name := "compare", desc := "(II)I" } : Jvm.MethodName)) ∈ lw_all := lw_g (lw_at lw_m1 177 rfl) rfl
theorem q275 : (Jvm.Cond.static ({ cls := "java/lang/Integer", name := "compare", desc := "(II)I" } : Jvm.MethodName)) ∈ lw_all := lw_g (lw_at lw_m1 178 rfl) rfl
theorem q276 : (Jvm.Cond.code ({ cls := "java/lang/Integer", name := "compare", desc := "(II)I" } : Jvm.MethodName) prog_20_method_40_code (2 : Nat) (Option.some Jvm.ClassFile.FieldType.int)) ∈ lw_all := lw_g (lw_at lw_m1 179 rfl) rfl
theorem q755 : (Jvm.Cond.static ({ cls := "java/lang/Integer", name := "numberOfLeadingZeros", desc := "(I)I" } : Jvm.MethodName)) ∈ lw_all := lw_g (lw_at lw_m3 178 rfl) rfl
theorem q756 : (Jvm.Cond.code ({ cls := "java/lang/Integer", name := "numberOfLeadingZeros", desc := "(I)I" } : Jvm.MethodName) prog_20_method_47_code (2 : Nat) (Option.some Jvm.ClassFile.FieldType.int)) ∈ lw_all := lw_g (lw_at lw_m3 179 rfl) rfl
theorem q757 : (Jvm.Cond.constant "java/lang/Integer" (264 : Nat) (65536 : Int32)) ∈ lw_all := lw_g (lw_at lw_m3 180 rfl) rfl
theorem q868 : (Jvm.Cond.static ({ cls := "java/lang/Integer", name := "rotateRight", desc := "(II)I" } : Jvm.MethodName)) ∈ lw_all := lw_g (lw_at lw_m4 51 rfl) rfl
theorem q869 : (Jvm.Cond.code ({ cls := "java/lang/Integer", name := "rotateRight", desc := "(II)I" } : Jvm.MethodName) prog_20_method_51_code (2 : Nat) (Option.some Jvm.ClassFile.FieldType.int)) ∈ lw_all := lw_g (lw_at lw_m4 52 rfl) rfl
/-! java/lang/Throwable -/
set_option maxRecDepth 100000
def RJ5 : String := "java/lang/Throwable"
def TJ5 : u_T := fun k => match k with
  | 0 => ("java/lang/Throwable", "cause", "Ljava/lang/Throwable;", false)
  | 1 => ("java/lang/Throwable", "stackTrace", "[Ljava/lang/StackTraceElement;", false)
  | 2 => ("java/lang/Throwable", "suppressedExceptions", "Ljava/util/List;", false)
  | 3 => ("java/lang/Throwable", "detailMessage", "Ljava/lang/String;", false)
  | _ => ("java/lang/Throwable", "backtrace", "Ljava/lang/Object;", false)
def tyJ5 : Nat → FieldType := fun k => match k with
  | 0 => .object "java/lang/Throwable"
  | 1 => .array (.object "java/lang/StackTraceElement")
  | 2 => .object "java/util/List"
  | 3 => .object "java/lang/String"
  | _ => .object "java/lang/Object"
abbrev wsJ50 : List Cond := u_ws RJ5 TJ5 5
theorem nmJ5 : ∀ a, a < 5 → ∀ b, b < 5 → a ≠ b → (TJ5 a).2.1 ≠ (TJ5 b).2.1 := by decide +kernel
theorem tyJ5_ok : ∀ k, k < 5 → parseFieldDescriptor (TJ5 k).2.2.1 = some (tyJ5 k) := by decide +kernel
abbrev cJ5_init : ByteArray := prog_27_method_1_code
def yJ5_init : MethodName := ⟨RJ5, "<init>", "()V"⟩
theorem dJ5_init_0 : decode cJ5_init 0 = .ok (.aload_n 0, 1) := by decide +kernel
theorem dJ5_init_1 : decode cJ5_init 1 = .ok (.invokespecial 1, 3) := by decide +kernel
theorem dJ5_init_4 : decode cJ5_init 4 = .ok (.aload_n 0, 1) := by decide +kernel
theorem dJ5_init_5 : decode cJ5_init 5 = .ok (.aload_n 0, 1) := by decide +kernel
theorem dJ5_init_6 : decode cJ5_init 6 = .ok (.putfield 7, 3) := by decide +kernel
theorem dJ5_init_9 : decode cJ5_init 9 = .ok (.aload_n 0, 1) := by decide +kernel
theorem dJ5_init_10 : decode cJ5_init 10 = .ok (.getstatic 13, 3) := by decide +kernel
theorem dJ5_init_13 : decode cJ5_init 13 = .ok (.putfield 17, 3) := by decide +kernel
theorem dJ5_init_16 : decode cJ5_init 16 = .ok (.aload_n 0, 1) := by decide +kernel
theorem dJ5_init_17 : decode cJ5_init 17 = .ok (.getstatic 20, 3) := by decide +kernel
theorem dJ5_init_20 : decode cJ5_init 20 = .ok (.putfield 24, 3) := by decide +kernel
theorem dJ5_init_23 : decode cJ5_init 23 = .ok (.aload_n 0, 1) := by decide +kernel
theorem dJ5_init_24 : decode cJ5_init 24 = .ok (.invokevirtual 27, 3) := by decide +kernel
theorem dJ5_init_27 : decode cJ5_init 27 = .ok (.pop, 1) := by decide +kernel
theorem dJ5_init_28 : decode cJ5_init 28 = .ok (.return_, 1) := by decide +kernel
abbrev cJ5_init_2 : ByteArray := prog_27_method_5_code
def yJ5_init_2 : MethodName := ⟨RJ5, "<init>", "(Ljava/lang/String;Ljava/lang/Throwable;ZZ)V"⟩
theorem dJ5_init_2_0 : decode cJ5_init_2 0 = .ok (.aload_n 0, 1) := by decide +kernel
theorem dJ5_init_2_1 : decode cJ5_init_2 1 = .ok (.invokespecial 1, 3) := by decide +kernel
theorem dJ5_init_2_4 : decode cJ5_init_2 4 = .ok (.aload_n 0, 1) := by decide +kernel
theorem dJ5_init_2_5 : decode cJ5_init_2 5 = .ok (.aload_n 0, 1) := by decide +kernel
theorem dJ5_init_2_6 : decode cJ5_init_2 6 = .ok (.putfield 7, 3) := by decide +kernel
theorem dJ5_init_2_9 : decode cJ5_init_2 9 = .ok (.aload_n 0, 1) := by decide +kernel
theorem dJ5_init_2_10 : decode cJ5_init_2 10 = .ok (.getstatic 13, 3) := by decide +kernel
theorem dJ5_init_2_13 : decode cJ5_init_2 13 = .ok (.putfield 17, 3) := by decide +kernel
theorem dJ5_init_2_16 : decode cJ5_init_2 16 = .ok (.aload_n 0, 1) := by decide +kernel
theorem dJ5_init_2_17 : decode cJ5_init_2 17 = .ok (.getstatic 20, 3) := by decide +kernel
theorem dJ5_init_2_20 : decode cJ5_init_2 20 = .ok (.putfield 24, 3) := by decide +kernel
theorem dJ5_init_2_23 : decode cJ5_init_2 23 = .ok (.iload 4, 2) := by decide +kernel
theorem dJ5_init_2_25 : decode cJ5_init_2 25 = .ok (.ifCond .eq 11, 3) := by decide +kernel
theorem dJ5_init_2_28 : decode cJ5_init_2 28 = .ok (.aload_n 0, 1) := by decide +kernel
theorem dJ5_init_2_29 : decode cJ5_init_2 29 = .ok (.invokevirtual 27, 3) := by decide +kernel
theorem dJ5_init_2_32 : decode cJ5_init_2 32 = .ok (.pop, 1) := by decide +kernel
theorem dJ5_init_2_33 : decode cJ5_init_2 33 = .ok (.goto 8, 3) := by decide +kernel
theorem dJ5_init_2_36 : decode cJ5_init_2 36 = .ok (.aload_n 0, 1) := by decide +kernel
theorem dJ5_init_2_37 : decode cJ5_init_2 37 = .ok (.aconst_null, 1) := by decide +kernel
theorem dJ5_init_2_38 : decode cJ5_init_2 38 = .ok (.putfield 17, 3) := by decide +kernel
theorem dJ5_init_2_41 : decode cJ5_init_2 41 = .ok (.aload_n 0, 1) := by decide +kernel
theorem dJ5_init_2_42 : decode cJ5_init_2 42 = .ok (.aload_n 1, 1) := by decide +kernel
theorem dJ5_init_2_43 : decode cJ5_init_2 43 = .ok (.putfield 31, 3) := by decide +kernel
theorem dJ5_init_2_46 : decode cJ5_init_2 46 = .ok (.aload_n 0, 1) := by decide +kernel
theorem dJ5_init_2_47 : decode cJ5_init_2 47 = .ok (.aload_n 2, 1) := by decide +kernel
theorem dJ5_init_2_48 : decode cJ5_init_2 48 = .ok (.putfield 7, 3) := by decide +kernel
theorem dJ5_init_2_51 : decode cJ5_init_2 51 = .ok (.iload_n 3, 1) := by decide +kernel
theorem dJ5_init_2_52 : decode cJ5_init_2 52 = .ok (.ifCond .ne 8, 3) := by decide +kernel
theorem dJ5_init_2_55 : decode cJ5_init_2 55 = .ok (.aload_n 0, 1) := by decide +kernel
theorem dJ5_init_2_56 : decode cJ5_init_2 56 = .ok (.aconst_null, 1) := by decide +kernel
theorem dJ5_init_2_57 : decode cJ5_init_2 57 = .ok (.putfield 24, 3) := by decide +kernel
theorem dJ5_init_2_60 : decode cJ5_init_2 60 = .ok (.return_, 1) := by decide +kernel
theorem q111 : (Jvm.Cond.initialized "java/lang/Throwable") ∈ lw_all := lw_g (lw_at lw_m1 14 rfl) rfl
theorem q432 : (Jvm.Cond.declares ({ cls := "java/lang/Throwable", name := "<init>", desc := "()V" } : Jvm.MethodName)) ∈ lw_tbl := lw_at lw_m2 95 rfl
theorem q433 : (Jvm.Cond.declares ({ cls := "java/lang/Throwable", name := "<init>", desc := "(Ljava/lang/String;)V" } : Jvm.MethodName)) ∈ lw_tbl := lw_at lw_m2 96 rfl
theorem q437 : (Jvm.Cond.lays "java/lang/Throwable" "java/lang/Throwable" "cause" "Ljava/lang/Throwable;") ∈ lw_all := lw_g (lw_at lw_m2 100 rfl) rfl
theorem q439 : (Jvm.Cond.lays "java/lang/Throwable" "java/lang/Throwable" "stackTrace" "[Ljava/lang/StackTraceElement;") ∈ lw_all := lw_g (lw_at lw_m2 102 rfl) rfl
theorem q441 : (Jvm.Cond.lays "java/lang/Throwable" "java/lang/Throwable" "suppressedExceptions" "Ljava/util/List;") ∈ lw_all := lw_g (lw_at lw_m2 104 rfl) rfl
theorem q443 : (Jvm.Cond.lays "java/lang/Throwable" "java/lang/Throwable" "detailMessage" "Ljava/lang/String;") ∈ lw_all := lw_g (lw_at lw_m2 106 rfl) rfl
theorem q445 : (Jvm.Cond.lays "java/lang/Throwable" "java/lang/Throwable" "backtrace" "Ljava/lang/Object;") ∈ lw_all := lw_g (lw_at lw_m2 108 rfl) rfl
theorem q446 : (Jvm.Cond.fieldLink "java/lang/Throwable" (198 : Nat) "java/lang/Throwable" "backtrace" "Ljava/lang/Object;") ∈ lw_all := lw_g (lw_at lw_m2 109 rfl) rfl
theorem q447 : (Jvm.Cond.superclass "java/lang/Throwable" "java/lang/Object") ∈ lw_all := lw_g (lw_at lw_m2 110 rfl) rfl
theorem q448 : (Jvm.Cond.instanceMethod ({ cls := "java/lang/Throwable", name := "<init>", desc := "()V" } : Jvm.MethodName)) ∈ lw_all := lw_g (lw_at lw_m2 111 rfl) rfl
theorem q449 : (Jvm.Cond.code ({ cls := "java/lang/Throwable", name := "<init>", desc := "()V" } : Jvm.MethodName) prog_27_method_1_code (1 : Nat) (Option.none : Option Jvm.ClassFile.FieldType)) ∈ lw_all := lw_g (lw_at lw_m2 112 rfl) rfl
theorem q450 : (Jvm.Cond.methodLink "java/lang/Throwable" (1 : Nat) ({ cls := "java/lang/Object", name := "<init>", desc := "()V" } : Jvm.MethodName)) ∈ lw_all := lw_g (lw_at lw_m2 113 rfl) rfl
theorem q451 : (Jvm.Cond.fieldLink "java/lang/Throwable" (13 : Nat) "java/lang/Throwable" "UNASSIGNED_STACK" "[Ljava/lang/StackTraceElement;") ∈ lw_all := lw_g (lw_at lw_m2 114 rfl) rfl
theorem q452 : (Jvm.Cond.laysStatic "java/lang/Throwable" "UNASSIGNED_STACK" "[Ljava/lang/StackTraceElement;") ∈ lw_tbl := lw_at lw_m2 115 rfl
theorem q453 : (Jvm.Cond.fieldLink "java/lang/Throwable" (20 : Nat) "java/lang/Throwable" "SUPPRESSED_SENTINEL" "Ljava/util/List;") ∈ lw_all := lw_g (lw_at lw_m2 116 rfl) rfl
theorem q454 : (Jvm.Cond.laysStatic "java/lang/Throwable" "SUPPRESSED_SENTINEL" "Ljava/util/List;") ∈ lw_tbl := lw_at lw_m2 117 rfl
theorem q455 : (Jvm.Cond.methodLink "java/lang/Throwable" (27 : Nat) ({ cls := "java/lang/Throwable", name := "fillInStackTrace", desc := "()Ljava/lang/Throwable;" } : Jvm.MethodName)) ∈ lw_all := lw_g (lw_at lw_m2 118 rfl) rfl
theorem q456 : (Jvm.Cond.instanceMethod ({ cls := "java/lang/Throwable", name := "fillInStackTrace", desc := "()Ljava/lang/Throwable;" } : Jvm.MethodName)) ∈ lw_all := lw_g (lw_at lw_m2 119 rfl) rfl
theorem q457 : (Jvm.Cond.sameMethod "java/lang/Throwable" "java/lang/Throwable" "fillInStackTrace" "()Ljava/lang/Throwable;") ∈ lw_all := lw_g (lw_at lw_m2 120 rfl) rfl
theorem q459 : (Jvm.Cond.codeSync ({ cls := "java/lang/Throwable", name := "fillInStackTrace", desc := "()Ljava/lang/Throwable;" } : Jvm.MethodName) prog_27_method_18_code (1 : Nat) (Option.some (Jvm.ClassFile.FieldType.object "java/lang/Throwable"))) ∈ lw_all := lw_g (lw_at lw_m2 122 rfl) rfl
theorem q460 : (Jvm.Cond.methodLink "java/lang/Throwable" (202 : Nat) ({ cls := "java/lang/Throwable", name := "fillInStackTrace", desc := "(I)Ljava/lang/Throwable;" } : Jvm.MethodName)) ∈ lw_all := lw_g (lw_at lw_m2 123 rfl) rfl
theorem q461 : (Jvm.Cond.privateMethod ({ cls := "java/lang/Throwable", name := "fillInStackTrace", desc := "(I)Ljava/lang/Throwable;" } : Jvm.MethodName)) ∈ lw_tbl := lw_at lw_m2 124 rfl
theorem q462 : (Jvm.Cond.instanceMethod ({ cls := "java/lang/Throwable", name := "fillInStackTrace", desc := "(I)Ljava/lang/Throwable;" } : Jvm.MethodName)) ∈ lw_all := lw_g (lw_at lw_m2 125 rfl) rfl
theorem q463 : (Jvm.Cond.instantiable "java/lang/Throwable" (6 : Nat)) ∈ lw_all := lw_g (lw_at lw_m2 126 rfl) rfl
theorem q464 : (Jvm.Cond.native ({ cls := "java/lang/Throwable", name := "fillInStackTrace", desc := "(I)Ljava/lang/Throwable;" } : Jvm.MethodName)) ∈ lw_all := lw_g (lw_at lw_m2 127 rfl) rfl
theorem q475 : (Jvm.Cond.instanceMethod ({ cls := "java/lang/Throwable", name := "<init>", desc := "(Ljava/lang/String;Ljava/lang/Throwable;ZZ)V" } : Jvm.MethodName)) ∈ lw_all := lw_g (lw_at lw_m2 138 rfl) rfl
theorem q476 : (Jvm.Cond.code ({ cls := "java/lang/Throwable", name := "<init>", desc := "(Ljava/lang/String;Ljava/lang/Throwable;ZZ)V" } : Jvm.MethodName) prog_27_method_5_code (5 : Nat) (Option.none : Option Jvm.ClassFile.FieldType)) ∈ lw_all := lw_g (lw_at lw_m2 139 rfl) rfl
theorem q479 : (Jvm.Cond.fieldLink "java/lang/Throwable" (198 : Nat) "java/lang/Throwable" "backtrace" "Ljava/lang/Object;") ∈ lw_all := lw_g (lw_at lw_m2 142 rfl) rfl
theorem q480 : (Jvm.Cond.fieldLink "java/lang/Throwable" (31 : Nat) "java/lang/Throwable" "detailMessage" "Ljava/lang/String;") ∈ lw_all := lw_g (lw_at lw_m2 143 rfl) rfl
theorem q481 : (Jvm.Cond.fieldLink "java/lang/Throwable" (7 : Nat) "java/lang/Throwable" "cause" "Ljava/lang/Throwable;") ∈ lw_all := lw_g (lw_at lw_m2 144 rfl) rfl
theorem q482 : (Jvm.Cond.fieldLink "java/lang/Throwable" (17 : Nat) "java/lang/Throwable" "stackTrace" "[Ljava/lang/StackTraceElement;") ∈ lw_all := lw_g (lw_at lw_m2 145 rfl) rfl
theorem q483 : (Jvm.Cond.fieldLink "java/lang/Throwable" (24 : Nat) "java/lang/Throwable" "suppressedExceptions" "Ljava/util/List;") ∈ lw_all := lw_g (lw_at lw_m2 146 rfl) rfl
theorem q486 : (Jvm.Cond.soleField "java/lang/Throwable" "backtrace") ∈ lw_all := lw_g (lw_at lw_m2 149 rfl) rfl
theorem q487 : (Jvm.Cond.soleField "java/lang/Throwable" "detailMessage") ∈ lw_all := lw_g (lw_at lw_m2 150 rfl) rfl
theorem q488 : (Jvm.Cond.soleField "java/lang/Throwable" "cause") ∈ lw_all := lw_g (lw_at lw_m2 151 rfl) rfl
theorem q489 : (Jvm.Cond.soleField "java/lang/Throwable" "stackTrace") ∈ lw_all := lw_g (lw_at lw_m2 152 rfl) rfl
theorem q491 : (Jvm.Cond.soleField "java/lang/Throwable" "depth") ∈ lw_all := lw_g (lw_at lw_m2 154 rfl) rfl
theorem q492 : (Jvm.Cond.soleField "java/lang/Throwable" "suppressedExceptions") ∈ lw_all := lw_g (lw_at lw_m2 155 rfl) rfl
theorem q2131 : (Jvm.Cond.sameMethod "java/lang/Throwable" "java/lang/Throwable" "fillInStackTrace" "(I)Ljava/lang/Throwable;") ∈ lw_all := lw_g (lw_at lw_m9 114 rfl) rfl
theorem q2157 : (Jvm.Cond.castable "java/lang/Throwable" "java/lang/Object") ∈ lw_tbl := lw_at lw_m9 140 rfl
theorem in_J5 : ∀ w ∈ wsJ50, w ∈ lw_all := lw_in wsJ50 [437, 439, 441, 443, 445] (by decide +kernel) (by decide +kernel)
/-! java/lang/Exception -/
set_option maxRecDepth 100000
def RJ6 : String := "java/lang/Exception"
abbrev cJ6_init : ByteArray := prog_19_method_5_code
def yJ6_init : MethodName := ⟨RJ6, "<init>", "(Ljava/lang/String;Ljava/lang/Throwable;ZZ)V"⟩
theorem dJ6_init_0 : decode cJ6_init 0 = .ok (.aload_n 0, 1) := by decide +kernel
theorem dJ6_init_1 : decode cJ6_init 1 = .ok (.aload_n 1, 1) := by decide +kernel
theorem dJ6_init_2 : decode cJ6_init 2 = .ok (.aload_n 2, 1) := by decide +kernel
theorem dJ6_init_3 : decode cJ6_init 3 = .ok (.iload_n 3, 1) := by decide +kernel
theorem dJ6_init_4 : decode cJ6_init 4 = .ok (.iload 4, 2) := by decide +kernel
theorem dJ6_init_6 : decode cJ6_init 6 = .ok (.invokespecial 16, 3) := by decide +kernel
theorem dJ6_init_9 : decode cJ6_init 9 = .ok (.return_, 1) := by decide +kernel
abbrev cJ6_init_2 : ByteArray := prog_19_method_1_code
def yJ6_init_2 : MethodName := ⟨RJ6, "<init>", "()V"⟩
theorem dJ6_init_2_0 : decode cJ6_init_2 0 = .ok (.aload_n 0, 1) := by decide +kernel
theorem dJ6_init_2_1 : decode cJ6_init_2 1 = .ok (.invokespecial 1, 3) := by decide +kernel
theorem dJ6_init_2_4 : decode cJ6_init_2 4 = .ok (.return_, 1) := by decide +kernel
theorem q112 : (Jvm.Cond.initialized "java/lang/Exception") ∈ lw_all := lw_g (lw_at lw_m1 15 rfl) rfl
theorem q430 : (Jvm.Cond.declares ({ cls := "java/lang/Exception", name := "<init>", desc := "()V" } : Jvm.MethodName)) ∈ lw_tbl := lw_at lw_m2 93 rfl
theorem q431 : (Jvm.Cond.declares ({ cls := "java/lang/Exception", name := "<init>", desc := "(Ljava/lang/String;)V" } : Jvm.MethodName)) ∈ lw_tbl := lw_at lw_m2 94 rfl
theorem q472 : (Jvm.Cond.instanceMethod ({ cls := "java/lang/Exception", name := "<init>", desc := "(Ljava/lang/String;Ljava/lang/Throwable;ZZ)V" } : Jvm.MethodName)) ∈ lw_all := lw_g (lw_at lw_m2 135 rfl) rfl
theorem q473 : (Jvm.Cond.code ({ cls := "java/lang/Exception", name := "<init>", desc := "(Ljava/lang/String;Ljava/lang/Throwable;ZZ)V" } : Jvm.MethodName) prog_19_method_5_code (5 : Nat) (Option.none : Option Jvm.ClassFile.FieldType)) ∈ lw_all := lw_g (lw_at lw_m2 136 rfl) rfl
theorem q474 : (Jvm.Cond.methodLink "java/lang/Exception" (16 : Nat) ({ cls := "java/lang/Throwable", name := "<init>", desc := "(Ljava/lang/String;Ljava/lang/Throwable;ZZ)V" } : Jvm.MethodName)) ∈ lw_all := lw_g (lw_at lw_m2 137 rfl) rfl
theorem q1274 : (Jvm.Cond.instanceMethod ({ cls := "java/lang/Exception", name := "<init>", desc := "()V" } : Jvm.MethodName)) ∈ lw_all := lw_g (lw_at lw_m5 217 rfl) rfl
theorem q1275 : (Jvm.Cond.code ({ cls := "java/lang/Exception", name := "<init>", desc := "()V" } : Jvm.MethodName) prog_19_method_1_code (1 : Nat) (Option.none : Option Jvm.ClassFile.FieldType)) ∈ lw_all := lw_g (lw_at lw_m5 218 rfl) rfl
theorem q1276 : (Jvm.Cond.methodLink "java/lang/Exception" (1 : Nat) ({ cls := "java/lang/Throwable", name := "<init>", desc := "()V" } : Jvm.MethodName)) ∈ lw_all := lw_g (lw_at lw_m5 219 rfl) rfl
/-! java/lang/RuntimeException -/
set_option maxRecDepth 100000
def RJ7 : String := "java/lang/RuntimeException"
abbrev cJ7_init : ByteArray := prog_22_method_5_code
def yJ7_init : MethodName := ⟨RJ7, "<init>", "(Ljava/lang/String;Ljava/lang/Throwable;ZZ)V"⟩
theorem dJ7_init_0 : decode cJ7_init 0 = .ok (.aload_n 0, 1) := by decide +kernel
theorem dJ7_init_1 : decode cJ7_init 1 = .ok (.aload_n 1, 1) := by decide +kernel
theorem dJ7_init_2 : decode cJ7_init 2 = .ok (.aload_n 2, 1) := by decide +kernel
theorem dJ7_init_3 : decode cJ7_init 3 = .ok (.iload_n 3, 1) := by decide +kernel
theorem dJ7_init_4 : decode cJ7_init 4 = .ok (.iload 4, 2) := by decide +kernel
theorem dJ7_init_6 : decode cJ7_init 6 = .ok (.invokespecial 16, 3) := by decide +kernel
theorem dJ7_init_9 : decode cJ7_init 9 = .ok (.return_, 1) := by decide +kernel
abbrev cJ7_init_2 : ByteArray := prog_22_method_1_code
def yJ7_init_2 : MethodName := ⟨RJ7, "<init>", "()V"⟩
theorem dJ7_init_2_0 : decode cJ7_init_2 0 = .ok (.aload_n 0, 1) := by decide +kernel
theorem dJ7_init_2_1 : decode cJ7_init_2 1 = .ok (.invokespecial 1, 3) := by decide +kernel
theorem dJ7_init_2_4 : decode cJ7_init_2 4 = .ok (.return_, 1) := by decide +kernel
theorem q113 : (Jvm.Cond.initialized "java/lang/RuntimeException") ∈ lw_all := lw_g (lw_at lw_m1 16 rfl) rfl
theorem q428 : (Jvm.Cond.declares ({ cls := "java/lang/RuntimeException", name := "<init>", desc := "()V" } : Jvm.MethodName)) ∈ lw_tbl := lw_at lw_m2 91 rfl
theorem q429 : (Jvm.Cond.declares ({ cls := "java/lang/RuntimeException", name := "<init>", desc := "(Ljava/lang/String;)V" } : Jvm.MethodName)) ∈ lw_tbl := lw_at lw_m2 92 rfl
theorem q469 : (Jvm.Cond.instanceMethod ({ cls := "java/lang/RuntimeException", name := "<init>", desc := "(Ljava/lang/String;Ljava/lang/Throwable;ZZ)V" } : Jvm.MethodName)) ∈ lw_all := lw_g (lw_at lw_m2 132 rfl) rfl
theorem q470 : (Jvm.Cond.code ({ cls := "java/lang/RuntimeException", name := "<init>", desc := "(Ljava/lang/String;Ljava/lang/Throwable;ZZ)V" } : Jvm.MethodName) prog_22_method_5_code (5 : Nat) (Option.none : Option Jvm.ClassFile.FieldType)) ∈ lw_all := lw_g (lw_at lw_m2 133 rfl) rfl
theorem q471 : (Jvm.Cond.methodLink "java/lang/RuntimeException" (16 : Nat) ({ cls := "java/lang/Exception", name := "<init>", desc := "(Ljava/lang/String;Ljava/lang/Throwable;ZZ)V" } : Jvm.MethodName)) ∈ lw_all := lw_g (lw_at lw_m2 134 rfl) rfl
theorem q1271 : (Jvm.Cond.instanceMethod ({ cls := "java/lang/RuntimeException", name := "<init>", desc := "()V" } : Jvm.MethodName)) ∈ lw_all := lw_g (lw_at lw_m5 214 rfl) rfl
theorem q1272 : (Jvm.Cond.code ({ cls := "java/lang/RuntimeException", name := "<init>", desc := "()V" } : Jvm.MethodName) prog_22_method_1_code (1 : Nat) (Option.none : Option Jvm.ClassFile.FieldType)) ∈ lw_all := lw_g (lw_at lw_m5 215 rfl) rfl
theorem q1273 : (Jvm.Cond.methodLink "java/lang/RuntimeException" (1 : Nat) ({ cls := "java/lang/Exception", name := "<init>", desc := "()V" } : Jvm.MethodName)) ∈ lw_all := lw_g (lw_at lw_m5 216 rfl) rfl
/-! java/lang/Long -/
set_option maxRecDepth 100000
def RJ8 : String := "java/lang/Long"
abbrev cJ8_rotateRight : ByteArray := prog_21_method_52_code
def yJ8_rotateRight : MethodName := ⟨RJ8, "rotateRight", "(JI)J"⟩
theorem dJ8_rotateRight_0 : decode cJ8_rotateRight 0 = .ok (.lload_n 0, 1) := by decide +kernel
theorem dJ8_rotateRight_1 : decode cJ8_rotateRight 1 = .ok (.iload_n 2, 1) := by decide +kernel
theorem dJ8_rotateRight_2 : decode cJ8_rotateRight 2 = .ok (.lushr, 1) := by decide +kernel
theorem dJ8_rotateRight_3 : decode cJ8_rotateRight 3 = .ok (.lload_n 0, 1) := by decide +kernel
theorem dJ8_rotateRight_4 : decode cJ8_rotateRight 4 = .ok (.iload_n 2, 1) := by decide +kernel
theorem dJ8_rotateRight_5 : decode cJ8_rotateRight 5 = .ok (.ineg, 1) := by decide +kernel
theorem dJ8_rotateRight_6 : decode cJ8_rotateRight 6 = .ok (.lshl, 1) := by decide +kernel
theorem dJ8_rotateRight_7 : decode cJ8_rotateRight 7 = .ok (.lor, 1) := by decide +kernel
theorem dJ8_rotateRight_8 : decode cJ8_rotateRight 8 = .ok (.lreturn, 1) := by decide +kernel
abbrev cJ8_divideUnsigned : ByteArray := prog_21_method_44_code
def yJ8_divideUnsigned : MethodName := ⟨RJ8, "divideUnsigned", "(JJ)J"⟩
theorem dJ8_divideUnsigned_0 : decode cJ8_divideUnsigned 0 = .ok (.lload_n 2, 1) := by decide +kernel
theorem dJ8_divideUnsigned_1 : decode cJ8_divideUnsigned 1 = .ok (.lconst 0, 1) := by decide +kernel
theorem dJ8_divideUnsigned_2 : decode cJ8_divideUnsigned 2 = .ok (.lcmp, 1) := by decide +kernel
theorem dJ8_divideUnsigned_3 : decode cJ8_divideUnsigned 3 = .ok (.ifCond .lt 38, 3) := by decide +kernel
theorem dJ8_divideUnsigned_6 : decode cJ8_divideUnsigned 6 = .ok (.lload_n 0, 1) := by decide +kernel
theorem dJ8_divideUnsigned_7 : decode cJ8_divideUnsigned 7 = .ok (.iconst 1, 1) := by decide +kernel
theorem dJ8_divideUnsigned_8 : decode cJ8_divideUnsigned 8 = .ok (.lushr, 1) := by decide +kernel
theorem dJ8_divideUnsigned_9 : decode cJ8_divideUnsigned 9 = .ok (.lload_n 2, 1) := by decide +kernel
theorem dJ8_divideUnsigned_10 : decode cJ8_divideUnsigned 10 = .ok (.ldiv, 1) := by decide +kernel
theorem dJ8_divideUnsigned_11 : decode cJ8_divideUnsigned 11 = .ok (.iconst 1, 1) := by decide +kernel
theorem dJ8_divideUnsigned_12 : decode cJ8_divideUnsigned 12 = .ok (.lshl, 1) := by decide +kernel
theorem dJ8_divideUnsigned_13 : decode cJ8_divideUnsigned 13 = .ok (.lstore 4, 2) := by decide +kernel
theorem dJ8_divideUnsigned_15 : decode cJ8_divideUnsigned 15 = .ok (.lload_n 0, 1) := by decide +kernel
theorem dJ8_divideUnsigned_16 : decode cJ8_divideUnsigned 16 = .ok (.lload 4, 2) := by decide +kernel
theorem dJ8_divideUnsigned_18 : decode cJ8_divideUnsigned 18 = .ok (.lload_n 2, 1) := by decide +kernel
theorem dJ8_divideUnsigned_19 : decode cJ8_divideUnsigned 19 = .ok (.lmul, 1) := by decide +kernel
theorem dJ8_divideUnsigned_20 : decode cJ8_divideUnsigned 20 = .ok (.lsub, 1) := by decide +kernel
theorem dJ8_divideUnsigned_21 : decode cJ8_divideUnsigned 21 = .ok (.lstore 6, 2) := by decide +kernel
theorem dJ8_divideUnsigned_23 : decode cJ8_divideUnsigned 23 = .ok (.lload 4, 2) := by decide +kernel
theorem dJ8_divideUnsigned_25 : decode cJ8_divideUnsigned 25 = .ok (.lload 6, 2) := by decide +kernel
theorem dJ8_divideUnsigned_27 : decode cJ8_divideUnsigned 27 = .ok (.lload 6, 2) := by decide +kernel
theorem dJ8_divideUnsigned_29 : decode cJ8_divideUnsigned 29 = .ok (.lload_n 2, 1) := by decide +kernel
theorem dJ8_divideUnsigned_30 : decode cJ8_divideUnsigned 30 = .ok (.lsub, 1) := by decide +kernel
theorem dJ8_divideUnsigned_31 : decode cJ8_divideUnsigned 31 = .ok (.ldc2_w 306, 3) := by decide +kernel
theorem dJ8_divideUnsigned_34 : decode cJ8_divideUnsigned 34 = .ok (.lxor, 1) := by decide +kernel
theorem dJ8_divideUnsigned_35 : decode cJ8_divideUnsigned 35 = .ok (.lor, 1) := by decide +kernel
theorem dJ8_divideUnsigned_36 : decode cJ8_divideUnsigned 36 = .ok (.bipush 63, 2) := by decide +kernel
theorem dJ8_divideUnsigned_38 : decode cJ8_divideUnsigned 38 = .ok (.lushr, 1) := by decide +kernel
theorem dJ8_divideUnsigned_39 : decode cJ8_divideUnsigned 39 = .ok (.ladd, 1) := by decide +kernel
theorem dJ8_divideUnsigned_40 : decode cJ8_divideUnsigned 40 = .ok (.lreturn, 1) := by decide +kernel
theorem dJ8_divideUnsigned_41 : decode cJ8_divideUnsigned 41 = .ok (.lload_n 0, 1) := by decide +kernel
theorem dJ8_divideUnsigned_42 : decode cJ8_divideUnsigned 42 = .ok (.lload_n 0, 1) := by decide +kernel
theorem dJ8_divideUnsigned_43 : decode cJ8_divideUnsigned 43 = .ok (.lload_n 2, 1) := by decide +kernel
theorem dJ8_divideUnsigned_44 : decode cJ8_divideUnsigned 44 = .ok (.lsub, 1) := by decide +kernel
theorem dJ8_divideUnsigned_45 : decode cJ8_divideUnsigned 45 = .ok (.ldc2_w 306, 3) := by decide +kernel
theorem dJ8_divideUnsigned_48 : decode cJ8_divideUnsigned 48 = .ok (.lxor, 1) := by decide +kernel
theorem dJ8_divideUnsigned_49 : decode cJ8_divideUnsigned 49 = .ok (.land, 1) := by decide +kernel
theorem dJ8_divideUnsigned_50 : decode cJ8_divideUnsigned 50 = .ok (.bipush 63, 2) := by decide +kernel
theorem dJ8_divideUnsigned_52 : decode cJ8_divideUnsigned 52 = .ok (.lushr, 1) := by decide +kernel
theorem dJ8_divideUnsigned_53 : decode cJ8_divideUnsigned 53 = .ok (.lreturn, 1) := by decide +kernel
abbrev cJ8_remainderUnsigned : ByteArray := prog_21_method_45_code
def yJ8_remainderUnsigned : MethodName := ⟨RJ8, "remainderUnsigned", "(JJ)J"⟩
theorem dJ8_remainderUnsigned_0 : decode cJ8_remainderUnsigned 0 = .ok (.lload_n 2, 1) := by decide +kernel
theorem dJ8_remainderUnsigned_1 : decode cJ8_remainderUnsigned 1 = .ok (.lconst 0, 1) := by decide +kernel
theorem dJ8_remainderUnsigned_2 : decode cJ8_remainderUnsigned 2 = .ok (.lcmp, 1) := by decide +kernel
theorem dJ8_remainderUnsigned_3 : decode cJ8_remainderUnsigned 3 = .ok (.ifCond .lt 37, 3) := by decide +kernel
theorem dJ8_remainderUnsigned_6 : decode cJ8_remainderUnsigned 6 = .ok (.lload_n 0, 1) := by decide +kernel
theorem dJ8_remainderUnsigned_7 : decode cJ8_remainderUnsigned 7 = .ok (.iconst 1, 1) := by decide +kernel
theorem dJ8_remainderUnsigned_8 : decode cJ8_remainderUnsigned 8 = .ok (.lushr, 1) := by decide +kernel
theorem dJ8_remainderUnsigned_9 : decode cJ8_remainderUnsigned 9 = .ok (.lload_n 2, 1) := by decide +kernel
theorem dJ8_remainderUnsigned_10 : decode cJ8_remainderUnsigned 10 = .ok (.ldiv, 1) := by decide +kernel
theorem dJ8_remainderUnsigned_11 : decode cJ8_remainderUnsigned 11 = .ok (.iconst 1, 1) := by decide +kernel
theorem dJ8_remainderUnsigned_12 : decode cJ8_remainderUnsigned 12 = .ok (.lshl, 1) := by decide +kernel
theorem dJ8_remainderUnsigned_13 : decode cJ8_remainderUnsigned 13 = .ok (.lstore 4, 2) := by decide +kernel
theorem dJ8_remainderUnsigned_15 : decode cJ8_remainderUnsigned 15 = .ok (.lload_n 0, 1) := by decide +kernel
theorem dJ8_remainderUnsigned_16 : decode cJ8_remainderUnsigned 16 = .ok (.lload 4, 2) := by decide +kernel
theorem dJ8_remainderUnsigned_18 : decode cJ8_remainderUnsigned 18 = .ok (.lload_n 2, 1) := by decide +kernel
theorem dJ8_remainderUnsigned_19 : decode cJ8_remainderUnsigned 19 = .ok (.lmul, 1) := by decide +kernel
theorem dJ8_remainderUnsigned_20 : decode cJ8_remainderUnsigned 20 = .ok (.lsub, 1) := by decide +kernel
theorem dJ8_remainderUnsigned_21 : decode cJ8_remainderUnsigned 21 = .ok (.lstore 6, 2) := by decide +kernel
theorem dJ8_remainderUnsigned_23 : decode cJ8_remainderUnsigned 23 = .ok (.lload 6, 2) := by decide +kernel
theorem dJ8_remainderUnsigned_25 : decode cJ8_remainderUnsigned 25 = .ok (.lload 6, 2) := by decide +kernel
theorem dJ8_remainderUnsigned_27 : decode cJ8_remainderUnsigned 27 = .ok (.lload_n 2, 1) := by decide +kernel
theorem dJ8_remainderUnsigned_28 : decode cJ8_remainderUnsigned 28 = .ok (.lsub, 1) := by decide +kernel
theorem dJ8_remainderUnsigned_29 : decode cJ8_remainderUnsigned 29 = .ok (.ldc2_w 306, 3) := by decide +kernel
theorem dJ8_remainderUnsigned_32 : decode cJ8_remainderUnsigned 32 = .ok (.lxor, 1) := by decide +kernel
theorem dJ8_remainderUnsigned_33 : decode cJ8_remainderUnsigned 33 = .ok (.bipush 63, 2) := by decide +kernel
theorem dJ8_remainderUnsigned_35 : decode cJ8_remainderUnsigned 35 = .ok (.lshr, 1) := by decide +kernel
theorem dJ8_remainderUnsigned_36 : decode cJ8_remainderUnsigned 36 = .ok (.lload_n 2, 1) := by decide +kernel
theorem dJ8_remainderUnsigned_37 : decode cJ8_remainderUnsigned 37 = .ok (.land, 1) := by decide +kernel
theorem dJ8_remainderUnsigned_38 : decode cJ8_remainderUnsigned 38 = .ok (.lsub, 1) := by decide +kernel
theorem dJ8_remainderUnsigned_39 : decode cJ8_remainderUnsigned 39 = .ok (.lreturn, 1) := by decide +kernel
theorem dJ8_remainderUnsigned_40 : decode cJ8_remainderUnsigned 40 = .ok (.lload_n 0, 1) := by decide +kernel
theorem dJ8_remainderUnsigned_41 : decode cJ8_remainderUnsigned 41 = .ok (.lload_n 0, 1) := by decide +kernel
theorem dJ8_remainderUnsigned_42 : decode cJ8_remainderUnsigned 42 = .ok (.lload_n 0, 1) := by decide +kernel
theorem dJ8_remainderUnsigned_43 : decode cJ8_remainderUnsigned 43 = .ok (.lload_n 2, 1) := by decide +kernel
theorem dJ8_remainderUnsigned_44 : decode cJ8_remainderUnsigned 44 = .ok (.lsub, 1) := by decide +kernel
theorem dJ8_remainderUnsigned_45 : decode cJ8_remainderUnsigned 45 = .ok (.ldc2_w 306, 3) := by decide +kernel
theorem dJ8_remainderUnsigned_48 : decode cJ8_remainderUnsigned 48 = .ok (.lxor, 1) := by decide +kernel
theorem dJ8_remainderUnsigned_49 : decode cJ8_remainderUnsigned 49 = .ok (.land, 1) := by decide +kernel
theorem dJ8_remainderUnsigned_50 : decode cJ8_remainderUnsigned 50 = .ok (.bipush 63, 2) := by decide +kernel
theorem dJ8_remainderUnsigned_52 : decode cJ8_remainderUnsigned 52 = .ok (.lshr, 1) := by decide +kernel
theorem dJ8_remainderUnsigned_53 : decode cJ8_remainderUnsigned 53 = .ok (.lload_n 2, 1) := by decide +kernel
theorem dJ8_remainderUnsigned_54 : decode cJ8_remainderUnsigned 54 = .ok (.land, 1) := by decide +kernel
theorem dJ8_remainderUnsigned_55 : decode cJ8_remainderUnsigned 55 = .ok (.lsub, 1) := by decide +kernel
theorem dJ8_remainderUnsigned_56 : decode cJ8_remainderUnsigned 56 = .ok (.lreturn, 1) := by decide +kernel
abbrev cJ8_compareUnsigned : ByteArray := prog_21_method_43_code
def yJ8_compareUnsigned : MethodName := ⟨RJ8, "compareUnsigned", "(JJ)I"⟩
theorem dJ8_compareUnsigned_0 : decode cJ8_compareUnsigned 0 = .ok (.lload_n 0, 1) := by decide +kernel
theorem dJ8_compareUnsigned_1 : decode cJ8_compareUnsigned 1 = .ok (.ldc2_w 168, 3) := by decide +kernel
theorem dJ8_compareUnsigned_4 : decode cJ8_compareUnsigned 4 = .ok (.ladd, 1) := by decide +kernel
theorem dJ8_compareUnsigned_5 : decode cJ8_compareUnsigned 5 = .ok (.lload_n 2, 1) := by decide +kernel
theorem dJ8_compareUnsigned_6 : decode cJ8_compareUnsigned 6 = .ok (.ldc2_w 168, 3) := by decide +kernel
theorem dJ8_compareUnsigned_9 : decode cJ8_compareUnsigned 9 = .ok (.ladd, 1) := by decide +kernel
theorem dJ8_compareUnsigned_10 : decode cJ8_compareUnsigned 10 = .ok (.invokestatic 302, 3) := by decide +kernel
theorem dJ8_compareUnsigned_13 : decode cJ8_compareUnsigned 13 = .ok (.ireturn, 1) := by decide +kernel
abbrev cJ8_compare : ByteArray := prog_21_method_42_code
def yJ8_compare : MethodName := ⟨RJ8, "compare", "(JJ)I"⟩
theorem dJ8_compare_0 : decode cJ8_compare 0 = .ok (.lload_n 0, 1) := by decide +kernel
theorem dJ8_compare_1 : decode cJ8_compare 1 = .ok (.lload_n 2, 1) := by decide +kernel
theorem dJ8_compare_2 : decode cJ8_compare 2 = .ok (.lcmp, 1) := by decide +kernel
theorem dJ8_compare_3 : decode cJ8_compare 3 = .ok (.ifCond .ge 7, 3) := by decide +kernel
theorem dJ8_compare_6 : decode cJ8_compare 6 = .ok (.iconst (-1), 1) := by decide +kernel
theorem dJ8_compare_7 : decode cJ8_compare 7 = .ok (.goto 14, 3) := by decide +kernel
theorem dJ8_compare_10 : decode cJ8_compare 10 = .ok (.lload_n 0, 1) := by decide +kernel
theorem dJ8_compare_11 : decode cJ8_compare 11 = .ok (.lload_n 2, 1) := by decide +kernel
theorem dJ8_compare_12 : decode cJ8_compare 12 = .ok (.lcmp, 1) := by decide +kernel
theorem dJ8_compare_13 : decode cJ8_compare 13 = .ok (.ifCond .ne 7, 3) := by decide +kernel
theorem dJ8_compare_16 : decode cJ8_compare 16 = .ok (.iconst 0, 1) := by decide +kernel
theorem dJ8_compare_17 : decode cJ8_compare 17 = .ok (.goto 4, 3) := by decide +kernel
theorem dJ8_compare_20 : decode cJ8_compare 20 = .ok (.iconst 1, 1) := by decide +kernel
theorem dJ8_compare_21 : decode cJ8_compare 21 = .ok (.ireturn, 1) := by decide +kernel
theorem q122 : (Jvm.Cond.initialized "java/lang/Long") ∈ lw_all := lw_g (lw_at lw_m1 25 rfl) rfl
theorem q876 : (Jvm.Cond.static ({ cls := "java/lang/Long", name := "rotateRight", desc := "(JI)J" } : Jvm.MethodName)) ∈ lw_all := lw_g (lw_at lw_m4 59 rfl) rfl
theorem q877 : (Jvm.Cond.code ({ cls := "java/lang/Long", name := "rotateRight", desc := "(JI)J" } : Jvm.MethodName) prog_21_method_52_code (3 : Nat) (Option.some Jvm.ClassFile.FieldType.long)) ∈ lw_all := lw_g (lw_at lw_m4 60 rfl) rfl
theorem q1777 : (Jvm.Cond.static ({ cls := "java/lang/Long", name := "divideUnsigned", desc := "(JJ)J" } : Jvm.MethodName)) ∈ lw_all := lw_g (lw_at lw_m8 0 rfl) rfl
theorem q1778 : (Jvm.Cond.code ({ cls := "java/lang/Long", name := "divideUnsigned", desc := "(JJ)J" } : Jvm.MethodName) prog_21_method_44_code (8 : Nat) (Option.some Jvm.ClassFile.FieldType.long)) ∈ lw_all := lw_g (lw_at lw_m8 1 rfl) rfl
theorem q1779 : (Jvm.Cond.constantLong "java/lang/Long" (306 : Nat) (-1 : Int64)) ∈ lw_all := lw_g (lw_at lw_m8 2 rfl) rfl
theorem q1781 : (Jvm.Cond.static ({ cls := "java/lang/Long", name := "remainderUnsigned", desc := "(JJ)J" } : Jvm.MethodName)) ∈ lw_all := lw_g (lw_at lw_m8 4 rfl) rfl
theorem q1782 : (Jvm.Cond.code ({ cls := "java/lang/Long", name := "remainderUnsigned", desc := "(JJ)J" } : Jvm.MethodName) prog_21_method_45_code (8 : Nat) (Option.some Jvm.ClassFile.FieldType.long)) ∈ lw_all := lw_g (lw_at lw_m8 5 rfl) rfl
theorem q1785 : (Jvm.Cond.static ({ cls := "java/lang/Long", name := "compareUnsigned", desc := "(JJ)I" } : Jvm.MethodName)) ∈ lw_all := lw_g (lw_at lw_m8 8 rfl) rfl
theorem q1786 : (Jvm.Cond.code ({ cls := "java/lang/Long", name := "compareUnsigned", desc := "(JJ)I" } : Jvm.MethodName) prog_21_method_43_code (4 : Nat) (Option.some Jvm.ClassFile.FieldType.int)) ∈ lw_all := lw_g (lw_at lw_m8 9 rfl) rfl
theorem q1787 : (Jvm.Cond.constantLong "java/lang/Long" (168 : Nat) (-9223372036854775808 : Int64)) ∈ lw_all := lw_g (lw_at lw_m8 10 rfl) rfl
theorem q1788 : (Jvm.Cond.methodLink "java/lang/Long" (302 : Nat) ({ cls := "java/lang/Long", name := "compare", desc := "(JJ)I" } : Jvm.MethodName)) ∈ lw_all := lw_g (lw_at lw_m8 11 rfl) rfl
theorem q1789 : (Jvm.Cond.static ({ cls := "java/lang/Long", name := "compare", desc := "(JJ)I" } : Jvm.MethodName)) ∈ lw_all := lw_g (lw_at lw_m8 12 rfl) rfl
theorem q1790 : (Jvm.Cond.code ({ cls := "java/lang/Long", name := "compare", desc := "(JJ)I" } : Jvm.MethodName) prog_21_method_42_code (4 : Nat) (Option.some Jvm.ClassFile.FieldType.int)) ∈ lw_all := lw_g (lw_at lw_m8 13 rfl) rfl
/-! java/util/NoSuchElementException -/
set_option maxRecDepth 100000
def RJ9 : String := "java/util/NoSuchElementException"
def TJ9 : u_T := fun k => match k with
  | 0 => ("java/lang/Throwable", "cause", "Ljava/lang/Throwable;", false)
  | 1 => ("java/lang/Throwable", "stackTrace", "[Ljava/lang/StackTraceElement;", false)
  | 2 => ("java/lang/Throwable", "suppressedExceptions", "Ljava/util/List;", false)
  | 3 => ("java/lang/Throwable", "detailMessage", "Ljava/lang/String;", false)
  | 4 => ("java/lang/Throwable", "backtrace", "Ljava/lang/Object;", false)
  | _ => ("java/lang/Throwable", "depth", "I", false)
def tyJ9 : Nat → FieldType := fun k => match k with
  | 0 => .object "java/lang/Throwable"
  | 1 => .array (.object "java/lang/StackTraceElement")
  | 2 => .object "java/util/List"
  | 3 => .object "java/lang/String"
  | 4 => .object "java/lang/Object"
  | _ => .int
abbrev wsJ90 : List Cond := u_ws RJ9 TJ9 6
theorem nmJ9 : ∀ a, a < 6 → ∀ b, b < 6 → a ≠ b → (TJ9 a).2.1 ≠ (TJ9 b).2.1 := by decide +kernel
theorem tyJ9_ok : ∀ k, k < 6 → parseFieldDescriptor (TJ9 k).2.2.1 = some (tyJ9 k) := by decide +kernel
abbrev cJ9_init : ByteArray := prog_28_method_1_code
def yJ9_init : MethodName := ⟨RJ9, "<init>", "()V"⟩
theorem dJ9_init_0 : decode cJ9_init 0 = .ok (.aload_n 0, 1) := by decide +kernel
theorem dJ9_init_1 : decode cJ9_init 1 = .ok (.invokespecial 1, 3) := by decide +kernel
theorem dJ9_init_4 : decode cJ9_init 4 = .ok (.return_, 1) := by decide +kernel
theorem q123 : (Jvm.Cond.initialized "java/util/NoSuchElementException") ∈ lw_all := lw_g (lw_at lw_m1 26 rfl) rfl
theorem q458 : (Jvm.Cond.selects "java/util/NoSuchElementException" ({ cls := "java/lang/Throwable", name := "fillInStackTrace", desc := "()Ljava/lang/Throwable;" } : Jvm.MethodName) ({ cls := "java/lang/Throwable", name := "fillInStackTrace", desc := "()Ljava/lang/Throwable;" } : Jvm.MethodName)) ∈ lw_all := lw_g (lw_at lw_m2 121 rfl) rfl
theorem q1259 : (Jvm.Cond.instantiable "java/util/NoSuchElementException" (6 : Nat)) ∈ lw_all := lw_g (lw_at lw_m5 202 rfl) rfl
theorem q1260 : (Jvm.Cond.castable "java/util/NoSuchElementException" "java/util/NoSuchElementException") ∈ lw_tbl := lw_at lw_m5 203 rfl
theorem q1261 : (Jvm.Cond.selects "java/util/NoSuchElementException" ({ cls := "java/lang/Throwable", name := "fillInStackTrace", desc := "(I)Ljava/lang/Throwable;" } : Jvm.MethodName) ({ cls := "java/lang/Throwable", name := "fillInStackTrace", desc := "(I)Ljava/lang/Throwable;" } : Jvm.MethodName)) ∈ lw_all := lw_g (lw_at lw_m5 204 rfl) rfl
theorem q1262 : (Jvm.Cond.lays "java/util/NoSuchElementException" "java/lang/Throwable" "cause" "Ljava/lang/Throwable;") ∈ lw_all := lw_g (lw_at lw_m5 205 rfl) rfl
theorem q1263 : (Jvm.Cond.lays "java/util/NoSuchElementException" "java/lang/Throwable" "stackTrace" "[Ljava/lang/StackTraceElement;") ∈ lw_all := lw_g (lw_at lw_m5 206 rfl) rfl
theorem q1264 : (Jvm.Cond.lays "java/util/NoSuchElementException" "java/lang/Throwable" "suppressedExceptions" "Ljava/util/List;") ∈ lw_all := lw_g (lw_at lw_m5 207 rfl) rfl
theorem q1265 : (Jvm.Cond.lays "java/util/NoSuchElementException" "java/lang/Throwable" "detailMessage" "Ljava/lang/String;") ∈ lw_all := lw_g (lw_at lw_m5 208 rfl) rfl
theorem q1266 : (Jvm.Cond.lays "java/util/NoSuchElementException" "java/lang/Throwable" "backtrace" "Ljava/lang/Object;") ∈ lw_all := lw_g (lw_at lw_m5 209 rfl) rfl
theorem q1268 : (Jvm.Cond.instanceMethod ({ cls := "java/util/NoSuchElementException", name := "<init>", desc := "()V" } : Jvm.MethodName)) ∈ lw_all := lw_g (lw_at lw_m5 211 rfl) rfl
theorem q1269 : (Jvm.Cond.code ({ cls := "java/util/NoSuchElementException", name := "<init>", desc := "()V" } : Jvm.MethodName) prog_28_method_1_code (1 : Nat) (Option.none : Option Jvm.ClassFile.FieldType)) ∈ lw_all := lw_g (lw_at lw_m5 212 rfl) rfl
theorem q1270 : (Jvm.Cond.methodLink "java/util/NoSuchElementException" (1 : Nat) ({ cls := "java/lang/RuntimeException", name := "<init>", desc := "()V" } : Jvm.MethodName)) ∈ lw_all := lw_g (lw_at lw_m5 213 rfl) rfl
theorem q1277 : (Jvm.Cond.lays "java/util/NoSuchElementException" "java/lang/Throwable" "depth" "I") ∈ lw_all := lw_g (lw_at lw_m5 220 rfl) rfl
theorem q1278 : (Jvm.Cond.superclass "java/util/NoSuchElementException" "java/lang/RuntimeException") ∈ lw_all := lw_g (lw_at lw_m5 221 rfl) rfl
theorem q2155 : (Jvm.Cond.castable "java/util/NoSuchElementException" "java/lang/Object") ∈ lw_tbl := lw_at lw_m9 138 rfl
theorem in_J9 : ∀ w ∈ wsJ90, w ∈ lw_all := lw_in wsJ90 [1262, 1263, 1264, 1265, 1266, 1277] (by decide +kernel) (by decide +kernel)
/-! java/lang/Object -/
set_option maxRecDepth 100000
def RJ10 : String := "java/lang/Object"
abbrev cJ10_init : ByteArray := object_method_1_code
def yJ10_init : MethodName := ⟨RJ10, "<init>", "()V"⟩
theorem dJ10_init_0 : decode cJ10_init 0 = .ok (.return_, 1) := by decide +kernel
theorem q131 : (Jvm.Cond.instanceMethod ({ cls := "java/lang/Object", name := "<init>", desc := "()V" } : Jvm.MethodName)) ∈ lw_all := lw_g (lw_at lw_m1 34 rfl) rfl
theorem q132 : (Jvm.Cond.code ({ cls := "java/lang/Object", name := "<init>", desc := "()V" } : Jvm.MethodName) object_method_1_code (1 : Nat) (Option.none : Option Jvm.ClassFile.FieldType)) ∈ lw_all := lw_g (lw_at lw_m1 35 rfl) rfl
theorem q1007 : (Jvm.Cond.native ({ cls := "java/lang/Object", name := "clone", desc := "()Ljava/lang/Object;" } : Jvm.MethodName)) ∈ lw_all := lw_g (lw_at lw_m4 190 rfl) rfl
theorem q1008 : (Jvm.Cond.instanceMethod ({ cls := "java/lang/Object", name := "clone", desc := "()Ljava/lang/Object;" } : Jvm.MethodName)) ∈ lw_all := lw_g (lw_at lw_m4 191 rfl) rfl
theorem q1006 : (Jvm.Cond.sameMethod "[I" "java/lang/Object" "clone" "()Ljava/lang/Object;") ∈ lw_all := lw_g (lw_at lw_m4 189 rfl) rfl
set_option maxRecDepth 100000
theorem q1009 : (Jvm.Cond.selects "[I" ({ cls := "[I", name := "clone", desc := "()Ljava/lang/Object;" } : Jvm.MethodName) ({ cls := "java/lang/Object", name := "clone", desc := "()Ljava/lang/Object;" } : Jvm.MethodName)) ∈ lw_all := lw_g (lw_at lw_m4 192 rfl) rfl
theorem q1010 : (Jvm.Cond.castable "[I" "java/lang/Cloneable") ∈ lw_tbl := lw_at lw_m4 193 rfl
theorem q108 : (Jvm.Cond.initialized "java/lang/System") ∈ lw_all := lw_g (lw_at lw_m1 11 rfl) rfl
set_option maxRecDepth 100000
theorem q257 : (Jvm.Cond.static ({ cls := "java/lang/System", name := "arraycopy", desc := "(Ljava/lang/Object;ILjava/lang/Object;II)V" } : Jvm.MethodName)) ∈ lw_all := lw_g (lw_at lw_m1 160 rfl) rfl
theorem q258 : (Jvm.Cond.native ({ cls := "java/lang/System", name := "arraycopy", desc := "(Ljava/lang/Object;ILjava/lang/Object;II)V" } : Jvm.MethodName)) ∈ lw_all := lw_g (lw_at lw_m1 161 rfl) rfl
theorem q169 : (Jvm.Cond.arrayClass Jvm.ClassFile.FieldType.byte) ∈ lw_all := lw_g (lw_at lw_m1 72 rfl) rfl
set_option maxRecDepth 100000
theorem q170 : (Jvm.Cond.arrayClass Jvm.ClassFile.FieldType.int) ∈ lw_all := lw_g (lw_at lw_m1 73 rfl) rfl
theorem q188 : (Jvm.Cond.arrayClass Jvm.ClassFile.FieldType.long) ∈ lw_all := lw_g (lw_at lw_m1 91 rfl) rfl
theorem q521 : (Jvm.Cond.arrayOver (Jvm.ClassFile.FieldType.object "VeilMint$Key")) ∈ lw_tbl := lw_at lw_m2 184 rfl
theorem q523 : (Jvm.Cond.arrayOver (Jvm.ClassFile.FieldType.object "VeilMint$Asking")) ∈ lw_tbl := lw_at lw_m2 186 rfl
theorem q1373 : (Jvm.Cond.arrayOver (Jvm.ClassFile.FieldType.object "VeilMintModel$Spot")) ∈ lw_tbl := lw_at lw_m6 76 rfl
theorem q1375 : (Jvm.Cond.arrayOver (Jvm.ClassFile.FieldType.array Jvm.ClassFile.FieldType.int)) ∈ lw_tbl := lw_at lw_m6 78 rfl
theorem q1376 : (Jvm.Cond.arrayOver (Jvm.ClassFile.FieldType.object "VeilMintModel$Mod")) ∈ lw_tbl := lw_at lw_m6 79 rfl
theorem q1698 : (Jvm.Cond.arrayClass Jvm.ClassFile.FieldType.boolean) ∈ lw_all := lw_g (lw_at lw_m7 161 rfl) rfl
/-! VeilMintLaw -/
set_option maxRecDepth 100000
def RX0 : String := "VeilMintLaw"
abbrev cX0_retire : ByteArray := method_3_code
def yX0_retire : MethodName := ⟨RX0, "retire", "(LVeilMint;I[J)I"⟩
theorem dX0_retire_0 : decode cX0_retire 0 = .ok (.aload_n 2, 1) := by decide +kernel
theorem dX0_retire_1 : decode cX0_retire 1 = .ok (.iconst 0, 1) := by decide +kernel
theorem dX0_retire_2 : decode cX0_retire 2 = .ok (.aload_n 0, 1) := by decide +kernel
theorem dX0_retire_3 : decode cX0_retire 3 = .ok (.iload_n 1, 1) := by decide +kernel
theorem dX0_retire_4 : decode cX0_retire 4 = .ok (.invokevirtual 7, 3) := by decide +kernel
theorem dX0_retire_7 : decode cX0_retire 7 = .ok (.ifCond .eq 7, 3) := by decide +kernel
theorem dX0_retire_10 : decode cX0_retire 10 = .ok (.lconst 1, 1) := by decide +kernel
theorem dX0_retire_11 : decode cX0_retire 11 = .ok (.goto 4, 3) := by decide +kernel
theorem dX0_retire_14 : decode cX0_retire 14 = .ok (.lconst 0, 1) := by decide +kernel
theorem dX0_retire_15 : decode cX0_retire 15 = .ok (.lastore, 1) := by decide +kernel
theorem dX0_retire_16 : decode cX0_retire 16 = .ok (.goto 6, 3) := by decide +kernel
theorem dX0_retire_19 : decode cX0_retire 19 = .ok (.astore_n 3, 1) := by decide +kernel
theorem dX0_retire_20 : decode cX0_retire 20 = .ok (.iconst 1, 1) := by decide +kernel
theorem dX0_retire_21 : decode cX0_retire 21 = .ok (.ireturn, 1) := by decide +kernel
theorem dX0_retire_22 : decode cX0_retire 22 = .ok (.iconst 0, 1) := by decide +kernel
theorem dX0_retire_23 : decode cX0_retire 23 = .ok (.ireturn, 1) := by decide +kernel
abbrev cX0_look : ByteArray := method_4_code
def yX0_look : MethodName := ⟨RX0, "look", "(LVeilMint;II[J)I"⟩
theorem dX0_look_0 : decode cX0_look 0 = .ok (.aload_n 3, 1) := by decide +kernel
theorem dX0_look_1 : decode cX0_look 1 = .ok (.iconst 0, 1) := by decide +kernel
theorem dX0_look_2 : decode cX0_look 2 = .ok (.aload_n 0, 1) := by decide +kernel
theorem dX0_look_3 : decode cX0_look 3 = .ok (.iload_n 1, 1) := by decide +kernel
theorem dX0_look_4 : decode cX0_look 4 = .ok (.iload_n 2, 1) := by decide +kernel
theorem dX0_look_5 : decode cX0_look 5 = .ok (.invokevirtual 15, 3) := by decide +kernel
theorem dX0_look_8 : decode cX0_look 8 = .ok (.i2l, 1) := by decide +kernel
theorem dX0_look_9 : decode cX0_look 9 = .ok (.lastore, 1) := by decide +kernel
theorem dX0_look_10 : decode cX0_look 10 = .ok (.goto 7, 3) := by decide +kernel
theorem dX0_look_13 : decode cX0_look 13 = .ok (.astore 4, 2) := by decide +kernel
theorem dX0_look_15 : decode cX0_look 15 = .ok (.iconst 1, 1) := by decide +kernel
theorem dX0_look_16 : decode cX0_look 16 = .ok (.ireturn, 1) := by decide +kernel
theorem dX0_look_17 : decode cX0_look 17 = .ok (.iconst 0, 1) := by decide +kernel
theorem dX0_look_18 : decode cX0_look 18 = .ok (.ireturn, 1) := by decide +kernel
abbrev cX0_finalize : ByteArray := method_5_code
def yX0_finalize : MethodName := ⟨RX0, "finalize", "(LVeilMint;I[J)I"⟩
theorem dX0_finalize_0 : decode cX0_finalize 0 = .ok (.aload_n 2, 1) := by decide +kernel
theorem dX0_finalize_1 : decode cX0_finalize 1 = .ok (.iconst 0, 1) := by decide +kernel
theorem dX0_finalize_2 : decode cX0_finalize 2 = .ok (.aload_n 0, 1) := by decide +kernel
theorem dX0_finalize_3 : decode cX0_finalize 3 = .ok (.iload_n 1, 1) := by decide +kernel
theorem dX0_finalize_4 : decode cX0_finalize 4 = .ok (.invokevirtual 19, 3) := by decide +kernel
theorem dX0_finalize_7 : decode cX0_finalize 7 = .ok (.i2l, 1) := by decide +kernel
theorem dX0_finalize_8 : decode cX0_finalize 8 = .ok (.lastore, 1) := by decide +kernel
theorem dX0_finalize_9 : decode cX0_finalize 9 = .ok (.goto 6, 3) := by decide +kernel
theorem dX0_finalize_12 : decode cX0_finalize 12 = .ok (.astore_n 3, 1) := by decide +kernel
theorem dX0_finalize_13 : decode cX0_finalize 13 = .ok (.iconst 1, 1) := by decide +kernel
theorem dX0_finalize_14 : decode cX0_finalize 14 = .ok (.ireturn, 1) := by decide +kernel
theorem dX0_finalize_15 : decode cX0_finalize 15 = .ok (.iconst 0, 1) := by decide +kernel
theorem dX0_finalize_16 : decode cX0_finalize 16 = .ok (.ireturn, 1) := by decide +kernel
abbrev cX0_finalizeMany : ByteArray := method_6_code
def yX0_finalizeMany : MethodName := ⟨RX0, "finalizeMany", "(LVeilMint;II[J)I"⟩
theorem dX0_finalizeMany_0 : decode cX0_finalizeMany 0 = .ok (.aload_n 3, 1) := by decide +kernel
theorem dX0_finalizeMany_1 : decode cX0_finalizeMany 1 = .ok (.iconst 0, 1) := by decide +kernel
theorem dX0_finalizeMany_2 : decode cX0_finalizeMany 2 = .ok (.aload_n 0, 1) := by decide +kernel
theorem dX0_finalizeMany_3 : decode cX0_finalizeMany 3 = .ok (.iload_n 1, 1) := by decide +kernel
theorem dX0_finalizeMany_4 : decode cX0_finalizeMany 4 = .ok (.iload_n 2, 1) := by decide +kernel
theorem dX0_finalizeMany_5 : decode cX0_finalizeMany 5 = .ok (.invokevirtual 23, 3) := by decide +kernel
theorem dX0_finalizeMany_8 : decode cX0_finalizeMany 8 = .ok (.i2l, 1) := by decide +kernel
theorem dX0_finalizeMany_9 : decode cX0_finalizeMany 9 = .ok (.lastore, 1) := by decide +kernel
theorem dX0_finalizeMany_10 : decode cX0_finalizeMany 10 = .ok (.goto 7, 3) := by decide +kernel
theorem dX0_finalizeMany_13 : decode cX0_finalizeMany 13 = .ok (.astore 4, 2) := by decide +kernel
theorem dX0_finalizeMany_15 : decode cX0_finalizeMany 15 = .ok (.iconst 1, 1) := by decide +kernel
theorem dX0_finalizeMany_16 : decode cX0_finalizeMany 16 = .ok (.ireturn, 1) := by decide +kernel
theorem dX0_finalizeMany_17 : decode cX0_finalizeMany 17 = .ok (.iconst 0, 1) := by decide +kernel
theorem dX0_finalizeMany_18 : decode cX0_finalizeMany 18 = .ok (.ireturn, 1) := by decide +kernel
theorem q97 : (Jvm.Cond.initialized "VeilMintLaw") ∈ lw_all := lw_g (lw_at lw_m1 0 rfl) rfl
theorem q125 : (Jvm.Cond.classLink "VeilMintLaw" (8 : Nat) "VeilMint") ∈ lw_all := lw_g (lw_at lw_m1 28 rfl) rfl
theorem q127 : (Jvm.Cond.methodLink "VeilMintLaw" (26 : Nat) ({ cls := "VeilMint", name := "<init>", desc := "()V" } : Jvm.MethodName)) ∈ lw_all := lw_g (lw_at lw_m1 30 rfl) rfl
theorem q570 : (Jvm.Cond.methodLink "VeilMintLaw" (30 : Nat) ({ cls := "VeilMint", name := "feed", desc := "(IIIII)I" } : Jvm.MethodName)) ∈ lw_all := lw_g (lw_at lw_m2 233 rfl) rfl
theorem q578 : (Jvm.Cond.methodLink "VeilMintLaw" (35 : Nat) ({ cls := "VeilMint", name := "end", desc := "(I)Z" } : Jvm.MethodName)) ∈ lw_all := lw_g (lw_at lw_m3 1 rfl) rfl
theorem q582 : (Jvm.Cond.methodLink "VeilMintLaw" (39 : Nat) ({ cls := "VeilMint", name := "again", desc := "(II)I" } : Jvm.MethodName)) ∈ lw_all := lw_g (lw_at lw_m3 5 rfl) rfl
theorem q587 : (Jvm.Cond.methodLink "VeilMintLaw" (43 : Nat) ({ cls := "VeilMint", name := "out", desc := "(I)I" } : Jvm.MethodName)) ∈ lw_all := lw_g (lw_at lw_m3 10 rfl) rfl
theorem q591 : (Jvm.Cond.methodLink "VeilMintLaw" (47 : Nat) ({ cls := "VeilMint", name := "outs", desc := "()I" } : Jvm.MethodName)) ∈ lw_all := lw_g (lw_at lw_m3 14 rfl) rfl
theorem q595 : (Jvm.Cond.methodLink "VeilMintLaw" (52 : Nat) ({ cls := "VeilMint", name := "key", desc := "(I)I" } : Jvm.MethodName)) ∈ lw_all := lw_g (lw_at lw_m3 18 rfl) rfl
theorem q901 : (Jvm.Cond.methodLink "VeilMintLaw" (69 : Nat) ({ cls := "VeilMint", name := "digest", desc := "()I" } : Jvm.MethodName)) ∈ lw_all := lw_g (lw_at lw_m4 84 rfl) rfl
theorem q910 : (Jvm.Cond.methodLink "VeilMintLaw" (73 : Nat) ({ cls := "VeilMint", name := "request", desc := "(I)I" } : Jvm.MethodName)) ∈ lw_all := lw_g (lw_at lw_m4 93 rfl) rfl
theorem q1088 : (Jvm.Cond.methodLink "VeilMintLaw" (77 : Nat) ({ cls := "VeilMint", name := "issue", desc := "()I" } : Jvm.MethodName)) ∈ lw_all := lw_g (lw_at lw_m5 31 rfl) rfl
theorem q1166 : (Jvm.Cond.methodLink "VeilMintLaw" (81 : Nat) ({ cls := "VeilMint", name := "issueMany", desc := "(I)I" } : Jvm.MethodName)) ∈ lw_all := lw_g (lw_at lw_m5 109 rfl) rfl
theorem q1170 : (Jvm.Cond.methodLink "VeilMintLaw" (91 : Nat) ({ cls := "VeilMint", name := "redeem", desc := "()I" } : Jvm.MethodName)) ∈ lw_all := lw_g (lw_at lw_m5 113 rfl) rfl
theorem q1226 : (Jvm.Cond.methodLink "VeilMintLaw" (95 : Nat) ({ cls := "VeilMint", name := "cut", desc := "(I)Z" } : Jvm.MethodName)) ∈ lw_all := lw_g (lw_at lw_m5 169 rfl) rfl
theorem q1230 : (Jvm.Cond.methodLink "VeilMintLaw" (99 : Nat) ({ cls := "VeilMint", name := "power", desc := "()I" } : Jvm.MethodName)) ∈ lw_all := lw_g (lw_at lw_m5 173 rfl) rfl
theorem q1238 : (Jvm.Cond.methodLink "VeilMintLaw" (103 : Nat) ({ cls := "VeilMint", name := "disk", desc := "(I)I" } : Jvm.MethodName)) ∈ lw_all := lw_g (lw_at lw_m5 181 rfl) rfl
theorem q1242 : (Jvm.Cond.methodLink "VeilMintLaw" (107 : Nat) ({ cls := "VeilMint", name := "count", desc := "(I)I" } : Jvm.MethodName)) ∈ lw_all := lw_g (lw_at lw_m5 185 rfl) rfl
theorem q1246 : (Jvm.Cond.methodLink "VeilMintLaw" (56 : Nat) ({ cls := "VeilMintLaw", name := "retire", desc := "(LVeilMint;I[J)I" } : Jvm.MethodName)) ∈ lw_all := lw_g (lw_at lw_m5 189 rfl) rfl
theorem q1247 : (Jvm.Cond.static ({ cls := "VeilMintLaw", name := "retire", desc := "(LVeilMint;I[J)I" } : Jvm.MethodName)) ∈ lw_all := lw_g (lw_at lw_m5 190 rfl) rfl
theorem q1248 : (Jvm.Cond.codeWith ({ cls := "VeilMintLaw", name := "retire", desc := "(LVeilMint;I[J)I" } : Jvm.MethodName) method_3_code (4 : Nat) (Option.some Jvm.ClassFile.FieldType.int) [((0 : Nat), (16 : Nat), (19 : Nat), (13 : Nat))]) ∈ lw_all := lw_g (lw_at lw_m5 191 rfl) rfl
theorem q1249 : (Jvm.Cond.classLink "VeilMintLaw" (13 : Nat) "java/util/NoSuchElementException") ∈ lw_all := lw_g (lw_at lw_m5 192 rfl) rfl
theorem q1250 : (Jvm.Cond.methodLink "VeilMintLaw" (7 : Nat) ({ cls := "VeilMint", name := "retire", desc := "(I)Z" } : Jvm.MethodName)) ∈ lw_all := lw_g (lw_at lw_m5 193 rfl) rfl
theorem q1279 : (Jvm.Cond.methodLink "VeilMintLaw" (65 : Nat) ({ cls := "VeilMintLaw", name := "look", desc := "(LVeilMint;II[J)I" } : Jvm.MethodName)) ∈ lw_all := lw_g (lw_at lw_m5 222 rfl) rfl
theorem q1280 : (Jvm.Cond.static ({ cls := "VeilMintLaw", name := "look", desc := "(LVeilMint;II[J)I" } : Jvm.MethodName)) ∈ lw_all := lw_g (lw_at lw_m5 223 rfl) rfl
theorem q1281 : (Jvm.Cond.codeWith ({ cls := "VeilMintLaw", name := "look", desc := "(LVeilMint;II[J)I" } : Jvm.MethodName) method_4_code (5 : Nat) (Option.some Jvm.ClassFile.FieldType.int) [((0 : Nat), (10 : Nat), (13 : Nat), (13 : Nat))]) ∈ lw_all := lw_g (lw_at lw_m5 224 rfl) rfl
theorem q1282 : (Jvm.Cond.methodLink "VeilMintLaw" (15 : Nat) ({ cls := "VeilMint", name := "look", desc := "(II)I" } : Jvm.MethodName)) ∈ lw_all := lw_g (lw_at lw_m5 225 rfl) rfl
theorem q1286 : (Jvm.Cond.methodLink "VeilMintLaw" (85 : Nat) ({ cls := "VeilMintLaw", name := "finalize", desc := "(LVeilMint;I[J)I" } : Jvm.MethodName)) ∈ lw_all := lw_g (lw_at lw_m5 229 rfl) rfl
theorem q1287 : (Jvm.Cond.static ({ cls := "VeilMintLaw", name := "finalize", desc := "(LVeilMint;I[J)I" } : Jvm.MethodName)) ∈ lw_all := lw_g (lw_at lw_m5 230 rfl) rfl
theorem q1288 : (Jvm.Cond.codeWith ({ cls := "VeilMintLaw", name := "finalize", desc := "(LVeilMint;I[J)I" } : Jvm.MethodName) method_5_code (4 : Nat) (Option.some Jvm.ClassFile.FieldType.int) [((0 : Nat), (9 : Nat), (12 : Nat), (13 : Nat))]) ∈ lw_all := lw_g (lw_at lw_m5 231 rfl) rfl
theorem q1289 : (Jvm.Cond.methodLink "VeilMintLaw" (19 : Nat) ({ cls := "VeilMint", name := "finalize", desc := "(I)I" } : Jvm.MethodName)) ∈ lw_all := lw_g (lw_at lw_m5 232 rfl) rfl
theorem q1314 : (Jvm.Cond.methodLink "VeilMintLaw" (88 : Nat) ({ cls := "VeilMintLaw", name := "finalizeMany", desc := "(LVeilMint;II[J)I" } : Jvm.MethodName)) ∈ lw_all := lw_g (lw_at lw_m6 17 rfl) rfl
theorem q1315 : (Jvm.Cond.static ({ cls := "VeilMintLaw", name := "finalizeMany", desc := "(LVeilMint;II[J)I" } : Jvm.MethodName)) ∈ lw_all := lw_g (lw_at lw_m6 18 rfl) rfl
theorem q1316 : (Jvm.Cond.codeWith ({ cls := "VeilMintLaw", name := "finalizeMany", desc := "(LVeilMint;II[J)I" } : Jvm.MethodName) method_6_code (5 : Nat) (Option.some Jvm.ClassFile.FieldType.int) [((0 : Nat), (10 : Nat), (13 : Nat), (13 : Nat))]) ∈ lw_all := lw_g (lw_at lw_m6 19 rfl) rfl
theorem q1317 : (Jvm.Cond.methodLink "VeilMintLaw" (23 : Nat) ({ cls := "VeilMint", name := "finalizeMany", desc := "(II)I" } : Jvm.MethodName)) ∈ lw_all := lw_g (lw_at lw_m6 20 rfl) rfl
theorem q1321 : (Jvm.Cond.methodLink "VeilMintLaw" (62 : Nat) ({ cls := "VeilMintModel", name := "thrown", desc := "()I" } : Jvm.MethodName)) ∈ lw_all := lw_g (lw_at lw_m6 24 rfl) rfl
theorem q1325 : (Jvm.Cond.classLink "VeilMintLaw" (27 : Nat) "VeilMintModel") ∈ lw_all := lw_g (lw_at lw_m6 28 rfl) rfl
theorem q1327 : (Jvm.Cond.methodLink "VeilMintLaw" (29 : Nat) ({ cls := "VeilMintModel", name := "<init>", desc := "()V" } : Jvm.MethodName)) ∈ lw_all := lw_g (lw_at lw_m6 30 rfl) rfl
theorem q1699 : (Jvm.Cond.methodLink "VeilMintLaw" (34 : Nat) ({ cls := "VeilMintModel", name := "feed", desc := "(IIIII)I" } : Jvm.MethodName)) ∈ lw_all := lw_g (lw_at lw_m7 162 rfl) rfl
theorem q1703 : (Jvm.Cond.methodLink "VeilMintLaw" (38 : Nat) ({ cls := "VeilMintModel", name := "end", desc := "(I)Z" } : Jvm.MethodName)) ∈ lw_all := lw_g (lw_at lw_m7 166 rfl) rfl
theorem q1707 : (Jvm.Cond.methodLink "VeilMintLaw" (42 : Nat) ({ cls := "VeilMintModel", name := "again", desc := "(II)I" } : Jvm.MethodName)) ∈ lw_all := lw_g (lw_at lw_m7 170 rfl) rfl
theorem q1711 : (Jvm.Cond.methodLink "VeilMintLaw" (46 : Nat) ({ cls := "VeilMintModel", name := "out", desc := "(I)I" } : Jvm.MethodName)) ∈ lw_all := lw_g (lw_at lw_m7 174 rfl) rfl
theorem q1715 : (Jvm.Cond.methodLink "VeilMintLaw" (51 : Nat) ({ cls := "VeilMintModel", name := "outs", desc := "()I" } : Jvm.MethodName)) ∈ lw_all := lw_g (lw_at lw_m7 178 rfl) rfl
theorem q1719 : (Jvm.Cond.methodLink "VeilMintLaw" (55 : Nat) ({ cls := "VeilMintModel", name := "key", desc := "(I)I" } : Jvm.MethodName)) ∈ lw_all := lw_g (lw_at lw_m7 182 rfl) rfl
theorem q1870 : (Jvm.Cond.methodLink "VeilMintLaw" (61 : Nat) ({ cls := "VeilMintModel", name := "retire", desc := "(I)Z" } : Jvm.MethodName)) ∈ lw_all := lw_g (lw_at lw_m8 93 rfl) rfl
theorem q1878 : (Jvm.Cond.methodLink "VeilMintLaw" (68 : Nat) ({ cls := "VeilMintModel", name := "look", desc := "(II)I" } : Jvm.MethodName)) ∈ lw_all := lw_g (lw_at lw_m8 101 rfl) rfl
theorem q1882 : (Jvm.Cond.methodLink "VeilMintLaw" (72 : Nat) ({ cls := "VeilMintModel", name := "digest", desc := "()I" } : Jvm.MethodName)) ∈ lw_all := lw_g (lw_at lw_m8 105 rfl) rfl
theorem q1886 : (Jvm.Cond.methodLink "VeilMintLaw" (76 : Nat) ({ cls := "VeilMintModel", name := "request", desc := "(I)I" } : Jvm.MethodName)) ∈ lw_all := lw_g (lw_at lw_m8 109 rfl) rfl
theorem q1998 : (Jvm.Cond.methodLink "VeilMintLaw" (80 : Nat) ({ cls := "VeilMintModel", name := "issue", desc := "()I" } : Jvm.MethodName)) ∈ lw_all := lw_g (lw_at lw_m8 221 rfl) rfl
theorem q2054 : (Jvm.Cond.methodLink "VeilMintLaw" (84 : Nat) ({ cls := "VeilMintModel", name := "issueMany", desc := "(I)I" } : Jvm.MethodName)) ∈ lw_all := lw_g (lw_at lw_m9 37 rfl) rfl
theorem q2058 : (Jvm.Cond.methodLink "VeilMintLaw" (87 : Nat) ({ cls := "VeilMintModel", name := "finalize", desc := "(I)I" } : Jvm.MethodName)) ∈ lw_all := lw_g (lw_at lw_m9 41 rfl) rfl
theorem q2087 : (Jvm.Cond.methodLink "VeilMintLaw" (90 : Nat) ({ cls := "VeilMintModel", name := "finalizeMany", desc := "(II)I" } : Jvm.MethodName)) ∈ lw_all := lw_g (lw_at lw_m9 70 rfl) rfl
theorem q2091 : (Jvm.Cond.methodLink "VeilMintLaw" (94 : Nat) ({ cls := "VeilMintModel", name := "redeem", desc := "()I" } : Jvm.MethodName)) ∈ lw_all := lw_g (lw_at lw_m9 74 rfl) rfl
theorem q2111 : (Jvm.Cond.methodLink "VeilMintLaw" (98 : Nat) ({ cls := "VeilMintModel", name := "cut", desc := "(I)Z" } : Jvm.MethodName)) ∈ lw_all := lw_g (lw_at lw_m9 94 rfl) rfl
theorem q2115 : (Jvm.Cond.methodLink "VeilMintLaw" (102 : Nat) ({ cls := "VeilMintModel", name := "power", desc := "()I" } : Jvm.MethodName)) ∈ lw_all := lw_g (lw_at lw_m9 98 rfl) rfl
theorem q2123 : (Jvm.Cond.methodLink "VeilMintLaw" (106 : Nat) ({ cls := "VeilMintModel", name := "disk", desc := "(I)I" } : Jvm.MethodName)) ∈ lw_all := lw_g (lw_at lw_m9 106 rfl) rfl
theorem q2127 : (Jvm.Cond.methodLink "VeilMintLaw" (110 : Nat) ({ cls := "VeilMintModel", name := "count", desc := "(I)I" } : Jvm.MethodName)) ∈ lw_all := lw_g (lw_at lw_m9 110 rfl) rfl
/-! VeilMint$Digest -/
set_option maxRecDepth 100000
def RX2 : String := "VeilMint$Digest"
abbrev cX2_init : ByteArray := prog_4_method_1_code
def yX2_init : MethodName := ⟨RX2, "<init>", "(II)V"⟩
theorem dX2_init_0 : decode cX2_init 0 = .ok (.aload_n 0, 1) := by decide +kernel
theorem dX2_init_1 : decode cX2_init 1 = .ok (.invokespecial 1, 3) := by decide +kernel
theorem dX2_init_4 : decode cX2_init 4 = .ok (.aload_n 0, 1) := by decide +kernel
theorem dX2_init_5 : decode cX2_init 5 = .ok (.iload_n 1, 1) := by decide +kernel
theorem dX2_init_6 : decode cX2_init 6 = .ok (.newarray .byte, 2) := by decide +kernel
theorem dX2_init_8 : decode cX2_init 8 = .ok (.putfield 7, 3) := by decide +kernel
theorem dX2_init_11 : decode cX2_init 11 = .ok (.aload_n 0, 1) := by decide +kernel
theorem dX2_init_12 : decode cX2_init 12 = .ok (.iload_n 2, 1) := by decide +kernel
theorem dX2_init_13 : decode cX2_init 13 = .ok (.newarray .byte, 2) := by decide +kernel
theorem dX2_init_15 : decode cX2_init 15 = .ok (.putfield 13, 3) := by decide +kernel
theorem dX2_init_18 : decode cX2_init 18 = .ok (.return_, 1) := by decide +kernel
abbrev cX2_begin : ByteArray := prog_4_method_5_code
def yX2_begin : MethodName := ⟨RX2, "begin", "()LVeilMint$Digest;"⟩
theorem dX2_begin_0 : decode cX2_begin 0 = .ok (.aload_n 0, 1) := by decide +kernel
theorem dX2_begin_1 : decode cX2_begin 1 = .ok (.lconst 0, 1) := by decide +kernel
theorem dX2_begin_2 : decode cX2_begin 2 = .ok (.putfield 16, 3) := by decide +kernel
theorem dX2_begin_5 : decode cX2_begin 5 = .ok (.aload_n 0, 1) := by decide +kernel
theorem dX2_begin_6 : decode cX2_begin 6 = .ok (.iconst 0, 1) := by decide +kernel
theorem dX2_begin_7 : decode cX2_begin 7 = .ok (.putfield 20, 3) := by decide +kernel
theorem dX2_begin_10 : decode cX2_begin 10 = .ok (.aload_n 0, 1) := by decide +kernel
theorem dX2_begin_11 : decode cX2_begin 11 = .ok (.invokevirtual 24, 3) := by decide +kernel
theorem dX2_begin_14 : decode cX2_begin 14 = .ok (.aload_n 0, 1) := by decide +kernel
theorem dX2_begin_15 : decode cX2_begin 15 = .ok (.areturn, 1) := by decide +kernel
abbrev cX2_put : ByteArray := prog_4_method_7_code
def yX2_put : MethodName := ⟨RX2, "put", "([BII)LVeilMint$Digest;"⟩
theorem dX2_put_0 : decode cX2_put 0 = .ok (.iconst 0, 1) := by decide +kernel
theorem dX2_put_1 : decode cX2_put 1 = .ok (.istore 4, 2) := by decide +kernel
theorem dX2_put_3 : decode cX2_put 3 = .ok (.iload 4, 2) := by decide +kernel
theorem dX2_put_5 : decode cX2_put 5 = .ok (.iload_n 3, 1) := by decide +kernel
theorem dX2_put_6 : decode cX2_put 6 = .ok (.if_icmp .ge 20, 3) := by decide +kernel
theorem dX2_put_9 : decode cX2_put 9 = .ok (.aload_n 0, 1) := by decide +kernel
theorem dX2_put_10 : decode cX2_put 10 = .ok (.aload_n 1, 1) := by decide +kernel
theorem dX2_put_11 : decode cX2_put 11 = .ok (.iload_n 2, 1) := by decide +kernel
theorem dX2_put_12 : decode cX2_put 12 = .ok (.iload 4, 2) := by decide +kernel
theorem dX2_put_14 : decode cX2_put 14 = .ok (.iadd, 1) := by decide +kernel
theorem dX2_put_15 : decode cX2_put 15 = .ok (.baload, 1) := by decide +kernel
theorem dX2_put_16 : decode cX2_put 16 = .ok (.invokevirtual 30, 3) := by decide +kernel
theorem dX2_put_19 : decode cX2_put 19 = .ok (.pop, 1) := by decide +kernel
theorem dX2_put_20 : decode cX2_put 20 = .ok (.iinc 4 1, 3) := by decide +kernel
theorem dX2_put_23 : decode cX2_put 23 = .ok (.goto (-20), 3) := by decide +kernel
theorem dX2_put_26 : decode cX2_put 26 = .ok (.aload_n 0, 1) := by decide +kernel
theorem dX2_put_27 : decode cX2_put 27 = .ok (.areturn, 1) := by decide +kernel
abbrev cX2_put_2 : ByteArray := prog_4_method_6_code
def yX2_put_2 : MethodName := ⟨RX2, "put", "(I)LVeilMint$Digest;"⟩
theorem dX2_put_2_0 : decode cX2_put_2 0 = .ok (.aload_n 0, 1) := by decide +kernel
theorem dX2_put_2_1 : decode cX2_put_2 1 = .ok (.getfield 7, 3) := by decide +kernel
theorem dX2_put_2_4 : decode cX2_put_2 4 = .ok (.aload_n 0, 1) := by decide +kernel
theorem dX2_put_2_5 : decode cX2_put_2 5 = .ok (.getfield 20, 3) := by decide +kernel
theorem dX2_put_2_8 : decode cX2_put_2 8 = .ok (.iload_n 1, 1) := by decide +kernel
theorem dX2_put_2_9 : decode cX2_put_2 9 = .ok (.i2b, 1) := by decide +kernel
theorem dX2_put_2_10 : decode cX2_put_2 10 = .ok (.bastore, 1) := by decide +kernel
theorem dX2_put_2_11 : decode cX2_put_2 11 = .ok (.aload_n 0, 1) := by decide +kernel
theorem dX2_put_2_12 : decode cX2_put_2 12 = .ok (.dup, 1) := by decide +kernel
theorem dX2_put_2_13 : decode cX2_put_2 13 = .ok (.getfield 20, 3) := by decide +kernel
theorem dX2_put_2_16 : decode cX2_put_2 16 = .ok (.iconst 1, 1) := by decide +kernel
theorem dX2_put_2_17 : decode cX2_put_2 17 = .ok (.iadd, 1) := by decide +kernel
theorem dX2_put_2_18 : decode cX2_put_2 18 = .ok (.putfield 20, 3) := by decide +kernel
theorem dX2_put_2_21 : decode cX2_put_2 21 = .ok (.aload_n 0, 1) := by decide +kernel
theorem dX2_put_2_22 : decode cX2_put_2 22 = .ok (.dup, 1) := by decide +kernel
theorem dX2_put_2_23 : decode cX2_put_2 23 = .ok (.getfield 16, 3) := by decide +kernel
theorem dX2_put_2_26 : decode cX2_put_2 26 = .ok (.lconst 1, 1) := by decide +kernel
theorem dX2_put_2_27 : decode cX2_put_2 27 = .ok (.ladd, 1) := by decide +kernel
theorem dX2_put_2_28 : decode cX2_put_2 28 = .ok (.putfield 16, 3) := by decide +kernel
theorem dX2_put_2_31 : decode cX2_put_2 31 = .ok (.aload_n 0, 1) := by decide +kernel
theorem dX2_put_2_32 : decode cX2_put_2 32 = .ok (.getfield 20, 3) := by decide +kernel
theorem dX2_put_2_35 : decode cX2_put_2 35 = .ok (.aload_n 0, 1) := by decide +kernel
theorem dX2_put_2_36 : decode cX2_put_2 36 = .ok (.getfield 7, 3) := by decide +kernel
theorem dX2_put_2_39 : decode cX2_put_2 39 = .ok (.arraylength, 1) := by decide +kernel
theorem dX2_put_2_40 : decode cX2_put_2 40 = .ok (.if_icmp .ne 12, 3) := by decide +kernel
theorem dX2_put_2_43 : decode cX2_put_2 43 = .ok (.aload_n 0, 1) := by decide +kernel
theorem dX2_put_2_44 : decode cX2_put_2 44 = .ok (.invokevirtual 27, 3) := by decide +kernel
theorem dX2_put_2_47 : decode cX2_put_2 47 = .ok (.aload_n 0, 1) := by decide +kernel
theorem dX2_put_2_48 : decode cX2_put_2 48 = .ok (.iconst 0, 1) := by decide +kernel
theorem dX2_put_2_49 : decode cX2_put_2 49 = .ok (.putfield 20, 3) := by decide +kernel
theorem dX2_put_2_52 : decode cX2_put_2 52 = .ok (.aload_n 0, 1) := by decide +kernel
theorem dX2_put_2_53 : decode cX2_put_2 53 = .ok (.areturn, 1) := by decide +kernel
abbrev cX2_end : ByteArray := prog_4_method_10_code
def yX2_end : MethodName := ⟨RX2, "end", "()[B"⟩
theorem dX2_end_0 : decode cX2_end 0 = .ok (.ldc2_w 44, 3) := by decide +kernel
theorem dX2_end_3 : decode cX2_end 3 = .ok (.aload_n 0, 1) := by decide +kernel
theorem dX2_end_4 : decode cX2_end 4 = .ok (.getfield 16, 3) := by decide +kernel
theorem dX2_end_7 : decode cX2_end 7 = .ok (.lmul, 1) := by decide +kernel
theorem dX2_end_8 : decode cX2_end 8 = .ok (.lstore_n 1, 1) := by decide +kernel
theorem dX2_end_9 : decode cX2_end 9 = .ok (.aload_n 0, 1) := by decide +kernel
theorem dX2_end_10 : decode cX2_end 10 = .ok (.getfield 7, 3) := by decide +kernel
theorem dX2_end_13 : decode cX2_end 13 = .ok (.arraylength, 1) := by decide +kernel
theorem dX2_end_14 : decode cX2_end 14 = .ok (.bipush 8, 2) := by decide +kernel
theorem dX2_end_16 : decode cX2_end 16 = .ok (.idiv, 1) := by decide +kernel
theorem dX2_end_17 : decode cX2_end 17 = .ok (.istore_n 3, 1) := by decide +kernel
theorem dX2_end_18 : decode cX2_end 18 = .ok (.aload_n 0, 1) := by decide +kernel
theorem dX2_end_19 : decode cX2_end 19 = .ok (.sipush 128, 3) := by decide +kernel
theorem dX2_end_22 : decode cX2_end 22 = .ok (.invokevirtual 30, 3) := by decide +kernel
theorem dX2_end_25 : decode cX2_end 25 = .ok (.pop, 1) := by decide +kernel
theorem dX2_end_26 : decode cX2_end 26 = .ok (.aload_n 0, 1) := by decide +kernel
theorem dX2_end_27 : decode cX2_end 27 = .ok (.getfield 20, 3) := by decide +kernel
theorem dX2_end_30 : decode cX2_end 30 = .ok (.aload_n 0, 1) := by decide +kernel
theorem dX2_end_31 : decode cX2_end 31 = .ok (.getfield 7, 3) := by decide +kernel
theorem dX2_end_34 : decode cX2_end 34 = .ok (.arraylength, 1) := by decide +kernel
theorem dX2_end_35 : decode cX2_end 35 = .ok (.iload_n 3, 1) := by decide +kernel
theorem dX2_end_36 : decode cX2_end 36 = .ok (.isub, 1) := by decide +kernel
theorem dX2_end_37 : decode cX2_end 37 = .ok (.if_icmp .eq 12, 3) := by decide +kernel
theorem dX2_end_40 : decode cX2_end 40 = .ok (.aload_n 0, 1) := by decide +kernel
theorem dX2_end_41 : decode cX2_end 41 = .ok (.iconst 0, 1) := by decide +kernel
theorem dX2_end_42 : decode cX2_end 42 = .ok (.invokevirtual 30, 3) := by decide +kernel
theorem dX2_end_45 : decode cX2_end 45 = .ok (.pop, 1) := by decide +kernel
theorem dX2_end_46 : decode cX2_end 46 = .ok (.goto (-20), 3) := by decide +kernel
theorem dX2_end_49 : decode cX2_end 49 = .ok (.bipush 8, 2) := by decide +kernel
theorem dX2_end_51 : decode cX2_end 51 = .ok (.iload_n 3, 1) := by decide +kernel
theorem dX2_end_52 : decode cX2_end 52 = .ok (.imul, 1) := by decide +kernel
theorem dX2_end_53 : decode cX2_end 53 = .ok (.bipush 8, 2) := by decide +kernel
theorem dX2_end_55 : decode cX2_end 55 = .ok (.isub, 1) := by decide +kernel
theorem dX2_end_56 : decode cX2_end 56 = .ok (.istore 4, 2) := by decide +kernel
theorem dX2_end_58 : decode cX2_end 58 = .ok (.iload 4, 2) := by decide +kernel
theorem dX2_end_60 : decode cX2_end 60 = .ok (.ifCond .lt 30, 3) := by decide +kernel
theorem dX2_end_63 : decode cX2_end 63 = .ok (.aload_n 0, 1) := by decide +kernel
theorem dX2_end_64 : decode cX2_end 64 = .ok (.iload 4, 2) := by decide +kernel
theorem dX2_end_66 : decode cX2_end 66 = .ok (.bipush 64, 2) := by decide +kernel
theorem dX2_end_68 : decode cX2_end 68 = .ok (.if_icmp .ge 11, 3) := by decide +kernel
theorem dX2_end_71 : decode cX2_end 71 = .ok (.lload_n 1, 1) := by decide +kernel
theorem dX2_end_72 : decode cX2_end 72 = .ok (.iload 4, 2) := by decide +kernel
theorem dX2_end_74 : decode cX2_end 74 = .ok (.lshr, 1) := by decide +kernel
theorem dX2_end_75 : decode cX2_end 75 = .ok (.l2i, 1) := by decide +kernel
theorem dX2_end_76 : decode cX2_end 76 = .ok (.goto 4, 3) := by decide +kernel
theorem dX2_end_79 : decode cX2_end 79 = .ok (.iconst 0, 1) := by decide +kernel
theorem dX2_end_80 : decode cX2_end 80 = .ok (.invokevirtual 30, 3) := by decide +kernel
theorem dX2_end_83 : decode cX2_end 83 = .ok (.pop, 1) := by decide +kernel
theorem dX2_end_84 : decode cX2_end 84 = .ok (.iinc 4 (-8), 3) := by decide +kernel
theorem dX2_end_87 : decode cX2_end 87 = .ok (.goto (-29), 3) := by decide +kernel
theorem dX2_end_90 : decode cX2_end 90 = .ok (.aload_n 0, 1) := by decide +kernel
theorem dX2_end_91 : decode cX2_end 91 = .ok (.invokevirtual 46, 3) := by decide +kernel
theorem dX2_end_94 : decode cX2_end 94 = .ok (.aload_n 0, 1) := by decide +kernel
theorem dX2_end_95 : decode cX2_end 95 = .ok (.getfield 13, 3) := by decide +kernel
theorem dX2_end_98 : decode cX2_end 98 = .ok (.areturn, 1) := by decide +kernel
abbrev cX2_two : ByteArray := prog_4_method_8_code
def yX2_two : MethodName := ⟨RX2, "two", "(I)LVeilMint$Digest;"⟩
theorem dX2_two_0 : decode cX2_two 0 = .ok (.aload_n 0, 1) := by decide +kernel
theorem dX2_two_1 : decode cX2_two 1 = .ok (.iload_n 1, 1) := by decide +kernel
theorem dX2_two_2 : decode cX2_two 2 = .ok (.bipush 8, 2) := by decide +kernel
theorem dX2_two_4 : decode cX2_two 4 = .ok (.ishr, 1) := by decide +kernel
theorem dX2_two_5 : decode cX2_two 5 = .ok (.invokevirtual 30, 3) := by decide +kernel
theorem dX2_two_8 : decode cX2_two 8 = .ok (.iload_n 1, 1) := by decide +kernel
theorem dX2_two_9 : decode cX2_two 9 = .ok (.invokevirtual 30, 3) := by decide +kernel
theorem dX2_two_12 : decode cX2_two 12 = .ok (.areturn, 1) := by decide +kernel
abbrev cX2_word : ByteArray := prog_4_method_9_code
def yX2_word : MethodName := ⟨RX2, "word", "(Ljava/lang/String;)LVeilMint$Digest;"⟩
theorem dX2_word_0 : decode cX2_word 0 = .ok (.iconst 0, 1) := by decide +kernel
theorem dX2_word_1 : decode cX2_word 1 = .ok (.istore_n 2, 1) := by decide +kernel
theorem dX2_word_2 : decode cX2_word 2 = .ok (.iload_n 2, 1) := by decide +kernel
theorem dX2_word_3 : decode cX2_word 3 = .ok (.aload_n 1, 1) := by decide +kernel
theorem dX2_word_4 : decode cX2_word 4 = .ok (.invokevirtual 34, 3) := by decide +kernel
theorem dX2_word_7 : decode cX2_word 7 = .ok (.if_icmp .ge 19, 3) := by decide +kernel
theorem dX2_word_10 : decode cX2_word 10 = .ok (.aload_n 0, 1) := by decide +kernel
theorem dX2_word_11 : decode cX2_word 11 = .ok (.aload_n 1, 1) := by decide +kernel
theorem dX2_word_12 : decode cX2_word 12 = .ok (.iload_n 2, 1) := by decide +kernel
theorem dX2_word_13 : decode cX2_word 13 = .ok (.invokevirtual 40, 3) := by decide +kernel
theorem dX2_word_16 : decode cX2_word 16 = .ok (.invokevirtual 30, 3) := by decide +kernel
theorem dX2_word_19 : decode cX2_word 19 = .ok (.pop, 1) := by decide +kernel
theorem dX2_word_20 : decode cX2_word 20 = .ok (.iinc 2 1, 3) := by decide +kernel
theorem dX2_word_23 : decode cX2_word 23 = .ok (.goto (-21), 3) := by decide +kernel
theorem dX2_word_26 : decode cX2_word 26 = .ok (.aload_n 0, 1) := by decide +kernel
theorem dX2_word_27 : decode cX2_word 27 = .ok (.areturn, 1) := by decide +kernel
theorem q99 : (Jvm.Cond.initialized "VeilMint$Digest") ∈ lw_all := lw_g (lw_at lw_m1 2 rfl) rfl
theorem q139 : (Jvm.Cond.instanceMethod ({ cls := "VeilMint$Digest", name := "<init>", desc := "(II)V" } : Jvm.MethodName)) ∈ lw_all := lw_g (lw_at lw_m1 42 rfl) rfl
theorem q140 : (Jvm.Cond.code ({ cls := "VeilMint$Digest", name := "<init>", desc := "(II)V" } : Jvm.MethodName) prog_4_method_1_code (3 : Nat) (Option.none : Option Jvm.ClassFile.FieldType)) ∈ lw_all := lw_g (lw_at lw_m1 43 rfl) rfl
theorem q141 : (Jvm.Cond.methodLink "VeilMint$Digest" (1 : Nat) ({ cls := "java/lang/Object", name := "<init>", desc := "()V" } : Jvm.MethodName)) ∈ lw_all := lw_g (lw_at lw_m1 44 rfl) rfl
theorem q144 : (Jvm.Cond.fieldLink "VeilMint$Digest" (7 : Nat) "VeilMint$Digest" "block" "[B") ∈ lw_all := lw_g (lw_at lw_m1 47 rfl) rfl
theorem q149 : (Jvm.Cond.fieldLink "VeilMint$Digest" (13 : Nat) "VeilMint$Digest" "out" "[B") ∈ lw_all := lw_g (lw_at lw_m1 52 rfl) rfl
theorem q154 : (Jvm.Cond.fieldLink "VeilMint$Digest" (16 : Nat) "VeilMint$Digest" "many" "J") ∈ lw_all := lw_g (lw_at lw_m1 57 rfl) rfl
theorem q155 : (Jvm.Cond.fieldLink "VeilMint$Digest" (20 : Nat) "VeilMint$Digest" "at" "I") ∈ lw_all := lw_g (lw_at lw_m1 58 rfl) rfl
theorem q161 : (Jvm.Cond.soleField "VeilMint$Digest" "block") ∈ lw_all := lw_g (lw_at lw_m1 64 rfl) rfl
theorem q163 : (Jvm.Cond.soleField "VeilMint$Digest" "out") ∈ lw_all := lw_g (lw_at lw_m1 66 rfl) rfl
theorem q165 : (Jvm.Cond.soleField "VeilMint$Digest" "many") ∈ lw_all := lw_g (lw_at lw_m1 68 rfl) rfl
theorem q167 : (Jvm.Cond.soleField "VeilMint$Digest" "at") ∈ lw_all := lw_g (lw_at lw_m1 70 rfl) rfl
theorem q816 : (Jvm.Cond.declares ({ cls := "VeilMint$Digest", name := "begin", desc := "()LVeilMint$Digest;" } : Jvm.MethodName)) ∈ lw_tbl := lw_at lw_m3 239 rfl
theorem q818 : (Jvm.Cond.instanceMethod ({ cls := "VeilMint$Digest", name := "begin", desc := "()LVeilMint$Digest;" } : Jvm.MethodName)) ∈ lw_all := lw_g (lw_at lw_m4 1 rfl) rfl
theorem q819 : (Jvm.Cond.code ({ cls := "VeilMint$Digest", name := "begin", desc := "()LVeilMint$Digest;" } : Jvm.MethodName) prog_4_method_5_code (1 : Nat) (Option.some (Jvm.ClassFile.FieldType.object "VeilMint$Digest"))) ∈ lw_all := lw_g (lw_at lw_m4 2 rfl) rfl
theorem q820 : (Jvm.Cond.methodLink "VeilMint$Digest" (24 : Nat) ({ cls := "VeilMint$Digest", name := "start", desc := "()V" } : Jvm.MethodName)) ∈ lw_all := lw_g (lw_at lw_m4 3 rfl) rfl
theorem q821 : (Jvm.Cond.declares ({ cls := "VeilMint$Digest", name := "start", desc := "()V" } : Jvm.MethodName)) ∈ lw_tbl := lw_at lw_m4 4 rfl
theorem q822 : (Jvm.Cond.sameMethod "VeilMint$Digest" "VeilMint$Digest" "start" "()V") ∈ lw_all := lw_g (lw_at lw_m4 5 rfl) rfl
theorem q850 : (Jvm.Cond.instanceMethod ({ cls := "VeilMint$Digest", name := "put", desc := "([BII)LVeilMint$Digest;" } : Jvm.MethodName)) ∈ lw_all := lw_g (lw_at lw_m4 33 rfl) rfl
theorem q851 : (Jvm.Cond.sameMethod "VeilMint$Digest" "VeilMint$Digest" "put" "([BII)LVeilMint$Digest;") ∈ lw_all := lw_g (lw_at lw_m4 34 rfl) rfl
theorem q854 : (Jvm.Cond.code ({ cls := "VeilMint$Digest", name := "put", desc := "([BII)LVeilMint$Digest;" } : Jvm.MethodName) prog_4_method_7_code (5 : Nat) (Option.some (Jvm.ClassFile.FieldType.object "VeilMint$Digest"))) ∈ lw_all := lw_g (lw_at lw_m4 37 rfl) rfl
theorem q855 : (Jvm.Cond.methodLink "VeilMint$Digest" (30 : Nat) ({ cls := "VeilMint$Digest", name := "put", desc := "(I)LVeilMint$Digest;" } : Jvm.MethodName)) ∈ lw_all := lw_g (lw_at lw_m4 38 rfl) rfl
theorem q856 : (Jvm.Cond.instanceMethod ({ cls := "VeilMint$Digest", name := "put", desc := "(I)LVeilMint$Digest;" } : Jvm.MethodName)) ∈ lw_all := lw_g (lw_at lw_m4 39 rfl) rfl
theorem q857 : (Jvm.Cond.sameMethod "VeilMint$Digest" "VeilMint$Digest" "put" "(I)LVeilMint$Digest;") ∈ lw_all := lw_g (lw_at lw_m4 40 rfl) rfl
theorem q860 : (Jvm.Cond.code ({ cls := "VeilMint$Digest", name := "put", desc := "(I)LVeilMint$Digest;" } : Jvm.MethodName) prog_4_method_6_code (2 : Nat) (Option.some (Jvm.ClassFile.FieldType.object "VeilMint$Digest"))) ∈ lw_all := lw_g (lw_at lw_m4 43 rfl) rfl
theorem q861 : (Jvm.Cond.methodLink "VeilMint$Digest" (27 : Nat) ({ cls := "VeilMint$Digest", name := "mix", desc := "()V" } : Jvm.MethodName)) ∈ lw_all := lw_g (lw_at lw_m4 44 rfl) rfl
theorem q862 : (Jvm.Cond.declares ({ cls := "VeilMint$Digest", name := "mix", desc := "()V" } : Jvm.MethodName)) ∈ lw_tbl := lw_at lw_m4 45 rfl
theorem q863 : (Jvm.Cond.sameMethod "VeilMint$Digest" "VeilMint$Digest" "mix" "()V") ∈ lw_all := lw_g (lw_at lw_m4 46 rfl) rfl
theorem q883 : (Jvm.Cond.declares ({ cls := "VeilMint$Digest", name := "put", desc := "(I)LVeilMint$Digest;" } : Jvm.MethodName)) ∈ lw_tbl := lw_at lw_m4 66 rfl
theorem q887 : (Jvm.Cond.declares ({ cls := "VeilMint$Digest", name := "end", desc := "()[B" } : Jvm.MethodName)) ∈ lw_tbl := lw_at lw_m4 70 rfl
theorem q889 : (Jvm.Cond.instanceMethod ({ cls := "VeilMint$Digest", name := "end", desc := "()[B" } : Jvm.MethodName)) ∈ lw_all := lw_g (lw_at lw_m4 72 rfl) rfl
theorem q890 : (Jvm.Cond.code ({ cls := "VeilMint$Digest", name := "end", desc := "()[B" } : Jvm.MethodName) prog_4_method_10_code (5 : Nat) (Option.some (Jvm.ClassFile.FieldType.array Jvm.ClassFile.FieldType.byte))) ∈ lw_all := lw_g (lw_at lw_m4 73 rfl) rfl
theorem q891 : (Jvm.Cond.constantLong "VeilMint$Digest" (44 : Nat) (8 : Int64)) ∈ lw_all := lw_g (lw_at lw_m4 74 rfl) rfl
theorem q892 : (Jvm.Cond.methodLink "VeilMint$Digest" (46 : Nat) ({ cls := "VeilMint$Digest", name := "tell", desc := "()V" } : Jvm.MethodName)) ∈ lw_all := lw_g (lw_at lw_m4 75 rfl) rfl
theorem q893 : (Jvm.Cond.declares ({ cls := "VeilMint$Digest", name := "tell", desc := "()V" } : Jvm.MethodName)) ∈ lw_tbl := lw_at lw_m4 76 rfl
theorem q894 : (Jvm.Cond.sameMethod "VeilMint$Digest" "VeilMint$Digest" "tell" "()V") ∈ lw_all := lw_g (lw_at lw_m4 77 rfl) rfl
theorem q957 : (Jvm.Cond.declares ({ cls := "VeilMint$Digest", name := "two", desc := "(I)LVeilMint$Digest;" } : Jvm.MethodName)) ∈ lw_tbl := lw_at lw_m4 140 rfl
theorem q959 : (Jvm.Cond.instanceMethod ({ cls := "VeilMint$Digest", name := "two", desc := "(I)LVeilMint$Digest;" } : Jvm.MethodName)) ∈ lw_all := lw_g (lw_at lw_m4 142 rfl) rfl
theorem q960 : (Jvm.Cond.code ({ cls := "VeilMint$Digest", name := "two", desc := "(I)LVeilMint$Digest;" } : Jvm.MethodName) prog_4_method_8_code (2 : Nat) (Option.some (Jvm.ClassFile.FieldType.object "VeilMint$Digest"))) ∈ lw_all := lw_g (lw_at lw_m4 143 rfl) rfl
theorem q968 : (Jvm.Cond.declares ({ cls := "VeilMint$Digest", name := "word", desc := "(Ljava/lang/String;)LVeilMint$Digest;" } : Jvm.MethodName)) ∈ lw_tbl := lw_at lw_m4 151 rfl
theorem q970 : (Jvm.Cond.instanceMethod ({ cls := "VeilMint$Digest", name := "word", desc := "(Ljava/lang/String;)LVeilMint$Digest;" } : Jvm.MethodName)) ∈ lw_all := lw_g (lw_at lw_m4 153 rfl) rfl
theorem q971 : (Jvm.Cond.code ({ cls := "VeilMint$Digest", name := "word", desc := "(Ljava/lang/String;)LVeilMint$Digest;" } : Jvm.MethodName) prog_4_method_9_code (3 : Nat) (Option.some (Jvm.ClassFile.FieldType.object "VeilMint$Digest"))) ∈ lw_all := lw_g (lw_at lw_m4 154 rfl) rfl
theorem q972 : (Jvm.Cond.methodLink "VeilMint$Digest" (34 : Nat) ({ cls := "java/lang/String", name := "length", desc := "()I" } : Jvm.MethodName)) ∈ lw_all := lw_g (lw_at lw_m4 155 rfl) rfl
theorem q973 : (Jvm.Cond.methodLink "VeilMint$Digest" (40 : Nat) ({ cls := "java/lang/String", name := "charAt", desc := "(I)C" } : Jvm.MethodName)) ∈ lw_all := lw_g (lw_at lw_m4 156 rfl) rfl
theorem q1044 : (Jvm.Cond.declares ({ cls := "VeilMint$Digest", name := "put", desc := "([BII)LVeilMint$Digest;" } : Jvm.MethodName)) ∈ lw_tbl := lw_at lw_m4 227 rfl
theorem q2132 : (Jvm.Cond.sameMethod "VeilMint$Digest" "VeilMint$Digest" "end" "()[B") ∈ lw_all := lw_g (lw_at lw_m9 115 rfl) rfl
theorem q2135 : (Jvm.Cond.sameMethod "VeilMint$Digest" "VeilMint$Digest" "word" "(Ljava/lang/String;)LVeilMint$Digest;") ∈ lw_all := lw_g (lw_at lw_m9 118 rfl) rfl
theorem q2138 : (Jvm.Cond.sameMethod "VeilMint$Digest" "VeilMint$Digest" "two" "(I)LVeilMint$Digest;") ∈ lw_all := lw_g (lw_at lw_m9 121 rfl) rfl
/-! VeilMint$Point -/
set_option maxRecDepth 100000
def RX7 : String := "VeilMint$Point"
def TX7 : u_T := fun k => match k with
  | 0 => ("VeilMint$Point", "x", "[I", true)
  | 1 => ("VeilMint$Point", "y", "[I", true)
  | _ => ("VeilMint$Point", "z", "[I", true)
def tyX7 : Nat → FieldType := fun k => match k with
  | 0 => .array .int
  | 1 => .array .int
  | _ => .array .int
abbrev wsX70 : List Cond := u_ws RX7 TX7 3
theorem nmX7 : ∀ a, a < 3 → ∀ b, b < 3 → a ≠ b → (TX7 a).2.1 ≠ (TX7 b).2.1 := by decide +kernel
theorem tyX7_ok : ∀ k, k < 3 → parseFieldDescriptor (TX7 k).2.2.1 = some (tyX7 k) := by decide +kernel
abbrev cX7_init : ByteArray := prog_11_method_1_code
def yX7_init : MethodName := ⟨RX7, "<init>", "()V"⟩
theorem dX7_init_0 : decode cX7_init 0 = .ok (.aload_n 0, 1) := by decide +kernel
theorem dX7_init_1 : decode cX7_init 1 = .ok (.invokespecial 3, 3) := by decide +kernel
theorem dX7_init_4 : decode cX7_init 4 = .ok (.aload_n 0, 1) := by decide +kernel
theorem dX7_init_5 : decode cX7_init 5 = .ok (.bipush 12, 2) := by decide +kernel
theorem dX7_init_7 : decode cX7_init 7 = .ok (.newarray .int, 2) := by decide +kernel
theorem dX7_init_9 : decode cX7_init 9 = .ok (.putfield 9, 3) := by decide +kernel
theorem dX7_init_12 : decode cX7_init 12 = .ok (.aload_n 0, 1) := by decide +kernel
theorem dX7_init_13 : decode cX7_init 13 = .ok (.bipush 12, 2) := by decide +kernel
theorem dX7_init_15 : decode cX7_init 15 = .ok (.newarray .int, 2) := by decide +kernel
theorem dX7_init_17 : decode cX7_init 17 = .ok (.putfield 15, 3) := by decide +kernel
theorem dX7_init_20 : decode cX7_init 20 = .ok (.aload_n 0, 1) := by decide +kernel
theorem dX7_init_21 : decode cX7_init 21 = .ok (.bipush 12, 2) := by decide +kernel
theorem dX7_init_23 : decode cX7_init 23 = .ok (.newarray .int, 2) := by decide +kernel
theorem dX7_init_25 : decode cX7_init 25 = .ok (.putfield 18, 3) := by decide +kernel
theorem dX7_init_28 : decode cX7_init 28 = .ok (.return_, 1) := by decide +kernel
abbrev cX7_be : ByteArray := prog_11_method_3_code
def yX7_be : MethodName := ⟨RX7, "be", "(LVeilMint$Point;)V"⟩
theorem dX7_be_0 : decode cX7_be 0 = .ok (.aload_n 1, 1) := by decide +kernel
theorem dX7_be_1 : decode cX7_be 1 = .ok (.getfield 9, 3) := by decide +kernel
theorem dX7_be_4 : decode cX7_be 4 = .ok (.aload_n 0, 1) := by decide +kernel
theorem dX7_be_5 : decode cX7_be 5 = .ok (.getfield 9, 3) := by decide +kernel
theorem dX7_be_8 : decode cX7_be 8 = .ok (.invokestatic 27, 3) := by decide +kernel
theorem dX7_be_11 : decode cX7_be 11 = .ok (.aload_n 1, 1) := by decide +kernel
theorem dX7_be_12 : decode cX7_be 12 = .ok (.getfield 15, 3) := by decide +kernel
theorem dX7_be_15 : decode cX7_be 15 = .ok (.aload_n 0, 1) := by decide +kernel
theorem dX7_be_16 : decode cX7_be 16 = .ok (.getfield 15, 3) := by decide +kernel
theorem dX7_be_19 : decode cX7_be 19 = .ok (.invokestatic 27, 3) := by decide +kernel
theorem dX7_be_22 : decode cX7_be 22 = .ok (.aload_n 1, 1) := by decide +kernel
theorem dX7_be_23 : decode cX7_be 23 = .ok (.getfield 18, 3) := by decide +kernel
theorem dX7_be_26 : decode cX7_be 26 = .ok (.aload_n 0, 1) := by decide +kernel
theorem dX7_be_27 : decode cX7_be 27 = .ok (.getfield 18, 3) := by decide +kernel
theorem dX7_be_30 : decode cX7_be 30 = .ok (.invokestatic 27, 3) := by decide +kernel
theorem dX7_be_33 : decode cX7_be 33 = .ok (.return_, 1) := by decide +kernel
abbrev cX7_vanish : ByteArray := prog_11_method_4_code
def yX7_vanish : MethodName := ⟨RX7, "vanish", "()V"⟩
theorem dX7_vanish_0 : decode cX7_vanish 0 = .ok (.iconst 0, 1) := by decide +kernel
theorem dX7_vanish_1 : decode cX7_vanish 1 = .ok (.istore_n 1, 1) := by decide +kernel
theorem dX7_vanish_2 : decode cX7_vanish 2 = .ok (.iload_n 1, 1) := by decide +kernel
theorem dX7_vanish_3 : decode cX7_vanish 3 = .ok (.bipush 12, 2) := by decide +kernel
theorem dX7_vanish_5 : decode cX7_vanish 5 = .ok (.if_icmp .ge 16, 3) := by decide +kernel
theorem dX7_vanish_8 : decode cX7_vanish 8 = .ok (.aload_n 0, 1) := by decide +kernel
theorem dX7_vanish_9 : decode cX7_vanish 9 = .ok (.getfield 18, 3) := by decide +kernel
theorem dX7_vanish_12 : decode cX7_vanish 12 = .ok (.iload_n 1, 1) := by decide +kernel
theorem dX7_vanish_13 : decode cX7_vanish 13 = .ok (.iconst 0, 1) := by decide +kernel
theorem dX7_vanish_14 : decode cX7_vanish 14 = .ok (.iastore, 1) := by decide +kernel
theorem dX7_vanish_15 : decode cX7_vanish 15 = .ok (.iinc 1 1, 3) := by decide +kernel
theorem dX7_vanish_18 : decode cX7_vanish 18 = .ok (.goto (-16), 3) := by decide +kernel
theorem dX7_vanish_21 : decode cX7_vanish 21 = .ok (.return_, 1) := by decide +kernel
abbrev cX7_isNone : ByteArray := prog_11_method_2_code
def yX7_isNone : MethodName := ⟨RX7, "isNone", "()Z"⟩
theorem dX7_isNone_0 : decode cX7_isNone 0 = .ok (.aload_n 0, 1) := by decide +kernel
theorem dX7_isNone_1 : decode cX7_isNone 1 = .ok (.getfield 18, 3) := by decide +kernel
theorem dX7_isNone_4 : decode cX7_isNone 4 = .ok (.invokestatic 21, 3) := by decide +kernel
theorem dX7_isNone_7 : decode cX7_isNone 7 = .ok (.ireturn, 1) := by decide +kernel
theorem q110 : (Jvm.Cond.initialized "VeilMint$Point") ∈ lw_all := lw_g (lw_at lw_m1 13 rfl) rfl
theorem q319 : (Jvm.Cond.instantiable "VeilMint$Point" (3 : Nat)) ∈ lw_all := lw_g (lw_at lw_m1 222 rfl) rfl
theorem q321 : (Jvm.Cond.instanceMethod ({ cls := "VeilMint$Point", name := "<init>", desc := "()V" } : Jvm.MethodName)) ∈ lw_all := lw_g (lw_at lw_m1 224 rfl) rfl
theorem q322 : (Jvm.Cond.code ({ cls := "VeilMint$Point", name := "<init>", desc := "()V" } : Jvm.MethodName) prog_11_method_1_code (1 : Nat) (Option.none : Option Jvm.ClassFile.FieldType)) ∈ lw_all := lw_g (lw_at lw_m1 225 rfl) rfl
theorem q323 : (Jvm.Cond.methodLink "VeilMint$Point" (3 : Nat) ({ cls := "java/lang/Object", name := "<init>", desc := "()V" } : Jvm.MethodName)) ∈ lw_all := lw_g (lw_at lw_m1 226 rfl) rfl
theorem q324 : (Jvm.Cond.fieldLink "VeilMint$Point" (9 : Nat) "VeilMint$Point" "x" "[I") ∈ lw_all := lw_g (lw_at lw_m1 227 rfl) rfl
theorem q326 : (Jvm.Cond.fieldLink "VeilMint$Point" (15 : Nat) "VeilMint$Point" "y" "[I") ∈ lw_all := lw_g (lw_at lw_m1 229 rfl) rfl
theorem q328 : (Jvm.Cond.fieldLink "VeilMint$Point" (18 : Nat) "VeilMint$Point" "z" "[I") ∈ lw_all := lw_g (lw_at lw_m1 231 rfl) rfl
theorem q330 : (Jvm.Cond.laysFinal "VeilMint$Point" "VeilMint$Point" "x" "[I") ∈ lw_all := lw_g (lw_at lw_m1 233 rfl) rfl
theorem q331 : (Jvm.Cond.soleField "VeilMint$Point" "x") ∈ lw_all := lw_g (lw_at lw_m1 234 rfl) rfl
theorem q332 : (Jvm.Cond.laysFinal "VeilMint$Point" "VeilMint$Point" "y" "[I") ∈ lw_all := lw_g (lw_at lw_m1 235 rfl) rfl
theorem q333 : (Jvm.Cond.soleField "VeilMint$Point" "y") ∈ lw_all := lw_g (lw_at lw_m1 236 rfl) rfl
theorem q334 : (Jvm.Cond.laysFinal "VeilMint$Point" "VeilMint$Point" "z" "[I") ∈ lw_all := lw_g (lw_at lw_m1 237 rfl) rfl
theorem q335 : (Jvm.Cond.soleField "VeilMint$Point" "z") ∈ lw_all := lw_g (lw_at lw_m1 238 rfl) rfl
theorem q336 : (Jvm.Cond.superclass "VeilMint$Point" "java/lang/Object") ∈ lw_all := lw_g (lw_at lw_m1 239 rfl) rfl
theorem q638 : (Jvm.Cond.instanceMethod ({ cls := "VeilMint$Point", name := "be", desc := "(LVeilMint$Point;)V" } : Jvm.MethodName)) ∈ lw_all := lw_g (lw_at lw_m3 61 rfl) rfl
theorem q639 : (Jvm.Cond.selects "VeilMint$Point" ({ cls := "VeilMint$Point", name := "be", desc := "(LVeilMint$Point;)V" } : Jvm.MethodName) ({ cls := "VeilMint$Point", name := "be", desc := "(LVeilMint$Point;)V" } : Jvm.MethodName)) ∈ lw_all := lw_g (lw_at lw_m3 62 rfl) rfl
theorem q640 : (Jvm.Cond.code ({ cls := "VeilMint$Point", name := "be", desc := "(LVeilMint$Point;)V" } : Jvm.MethodName) prog_11_method_3_code (2 : Nat) (Option.none : Option Jvm.ClassFile.FieldType)) ∈ lw_all := lw_g (lw_at lw_m3 63 rfl) rfl
theorem q641 : (Jvm.Cond.methodLink "VeilMint$Point" (27 : Nat) ({ cls := "VeilMint$Modulus", name := "copy", desc := "([I[I)V" } : Jvm.MethodName)) ∈ lw_all := lw_g (lw_at lw_m3 64 rfl) rfl
theorem q643 : (Jvm.Cond.instanceMethod ({ cls := "VeilMint$Point", name := "vanish", desc := "()V" } : Jvm.MethodName)) ∈ lw_all := lw_g (lw_at lw_m3 66 rfl) rfl
theorem q644 : (Jvm.Cond.selects "VeilMint$Point" ({ cls := "VeilMint$Point", name := "vanish", desc := "()V" } : Jvm.MethodName) ({ cls := "VeilMint$Point", name := "vanish", desc := "()V" } : Jvm.MethodName)) ∈ lw_all := lw_g (lw_at lw_m3 67 rfl) rfl
theorem q645 : (Jvm.Cond.code ({ cls := "VeilMint$Point", name := "vanish", desc := "()V" } : Jvm.MethodName) prog_11_method_4_code (2 : Nat) (Option.none : Option Jvm.ClassFile.FieldType)) ∈ lw_all := lw_g (lw_at lw_m3 68 rfl) rfl
theorem q651 : (Jvm.Cond.instanceMethod ({ cls := "VeilMint$Point", name := "isNone", desc := "()Z" } : Jvm.MethodName)) ∈ lw_all := lw_g (lw_at lw_m3 74 rfl) rfl
theorem q652 : (Jvm.Cond.selects "VeilMint$Point" ({ cls := "VeilMint$Point", name := "isNone", desc := "()Z" } : Jvm.MethodName) ({ cls := "VeilMint$Point", name := "isNone", desc := "()Z" } : Jvm.MethodName)) ∈ lw_all := lw_g (lw_at lw_m3 75 rfl) rfl
theorem q653 : (Jvm.Cond.code ({ cls := "VeilMint$Point", name := "isNone", desc := "()Z" } : Jvm.MethodName) prog_11_method_2_code (1 : Nat) (Option.some Jvm.ClassFile.FieldType.boolean)) ∈ lw_all := lw_g (lw_at lw_m3 76 rfl) rfl
theorem q654 : (Jvm.Cond.methodLink "VeilMint$Point" (21 : Nat) ({ cls := "VeilMint$Modulus", name := "isZero", desc := "([I)Z" } : Jvm.MethodName)) ∈ lw_all := lw_g (lw_at lw_m3 77 rfl) rfl
theorem q2147 : (Jvm.Cond.castable "VeilMint$Point" "java/lang/Object") ∈ lw_tbl := lw_at lw_m9 130 rfl
theorem in_X7 : ∀ w ∈ wsX70, w ∈ lw_all := lw_in wsX70 [330, 332, 334] (by decide +kernel) (by decide +kernel)
/-! VeilMint$Refusal -/
set_option maxRecDepth 100000
def RX8 : String := "VeilMint$Refusal"
def TX8 : u_T := fun k => match k with
  | 0 => ("java/lang/Throwable", "cause", "Ljava/lang/Throwable;", false)
  | 1 => ("java/lang/Throwable", "stackTrace", "[Ljava/lang/StackTraceElement;", false)
  | 2 => ("java/lang/Throwable", "suppressedExceptions", "Ljava/util/List;", false)
  | 3 => ("java/lang/Throwable", "detailMessage", "Ljava/lang/String;", false)
  | 4 => ("java/lang/Throwable", "backtrace", "Ljava/lang/Object;", false)
  | 5 => ("java/lang/Throwable", "depth", "I", false)
  | _ => ("VeilMint$Refusal", "why", "I", false)
def tyX8 : Nat → FieldType := fun k => match k with
  | 0 => .object "java/lang/Throwable"
  | 1 => .array (.object "java/lang/StackTraceElement")
  | 2 => .object "java/util/List"
  | 3 => .object "java/lang/String"
  | 4 => .object "java/lang/Object"
  | 5 => .int
  | _ => .int
abbrev wsX80 : List Cond := u_ws RX8 TX8 7
theorem nmX8 : ∀ a, a < 7 → ∀ b, b < 7 → a ≠ b → (TX8 a).2.1 ≠ (TX8 b).2.1 := by decide +kernel
theorem tyX8_ok : ∀ k, k < 7 → parseFieldDescriptor (TX8 k).2.2.1 = some (tyX8 k) := by decide +kernel
abbrev cX8_init : ByteArray := prog_12_method_1_code
def yX8_init : MethodName := ⟨RX8, "<init>", "()V"⟩
theorem dX8_init_0 : decode cX8_init 0 = .ok (.aload_n 0, 1) := by decide +kernel
theorem dX8_init_1 : decode cX8_init 1 = .ok (.aconst_null, 1) := by decide +kernel
theorem dX8_init_2 : decode cX8_init 2 = .ok (.aconst_null, 1) := by decide +kernel
theorem dX8_init_3 : decode cX8_init 3 = .ok (.iconst 0, 1) := by decide +kernel
theorem dX8_init_4 : decode cX8_init 4 = .ok (.iconst 0, 1) := by decide +kernel
theorem dX8_init_5 : decode cX8_init 5 = .ok (.invokespecial 1, 3) := by decide +kernel
theorem dX8_init_8 : decode cX8_init 8 = .ok (.return_, 1) := by decide +kernel
abbrev cX8_as : ByteArray := prog_12_method_2_code
def yX8_as : MethodName := ⟨RX8, "as", "(I)LVeilMint$Refusal;"⟩
theorem dX8_as_0 : decode cX8_as 0 = .ok (.aload_n 0, 1) := by decide +kernel
theorem dX8_as_1 : decode cX8_as 1 = .ok (.iload_n 1, 1) := by decide +kernel
theorem dX8_as_2 : decode cX8_as 2 = .ok (.putfield 7, 3) := by decide +kernel
theorem dX8_as_5 : decode cX8_as 5 = .ok (.aload_n 0, 1) := by decide +kernel
theorem dX8_as_6 : decode cX8_as 6 = .ok (.areturn, 1) := by decide +kernel
theorem q114 : (Jvm.Cond.initialized "VeilMint$Refusal") ∈ lw_all := lw_g (lw_at lw_m1 17 rfl) rfl
theorem q426 : (Jvm.Cond.instantiable "VeilMint$Refusal" (7 : Nat)) ∈ lw_all := lw_g (lw_at lw_m2 89 rfl) rfl
theorem q427 : (Jvm.Cond.castable "VeilMint$Refusal" "VeilMint$Refusal") ∈ lw_tbl := lw_at lw_m2 90 rfl
theorem q434 : (Jvm.Cond.selects "VeilMint$Refusal" ({ cls := "java/lang/Throwable", name := "fillInStackTrace", desc := "(I)Ljava/lang/Throwable;" } : Jvm.MethodName) ({ cls := "java/lang/Throwable", name := "fillInStackTrace", desc := "(I)Ljava/lang/Throwable;" } : Jvm.MethodName)) ∈ lw_all := lw_g (lw_at lw_m2 97 rfl) rfl
theorem q435 : (Jvm.Cond.selects "VeilMint$Refusal" ({ cls := "java/lang/Throwable", name := "fillInStackTrace", desc := "()Ljava/lang/Throwable;" } : Jvm.MethodName) ({ cls := "java/lang/Throwable", name := "fillInStackTrace", desc := "()Ljava/lang/Throwable;" } : Jvm.MethodName)) ∈ lw_all := lw_g (lw_at lw_m2 98 rfl) rfl
theorem q436 : (Jvm.Cond.lays "VeilMint$Refusal" "java/lang/Throwable" "cause" "Ljava/lang/Throwable;") ∈ lw_all := lw_g (lw_at lw_m2 99 rfl) rfl
theorem q438 : (Jvm.Cond.lays "VeilMint$Refusal" "java/lang/Throwable" "stackTrace" "[Ljava/lang/StackTraceElement;") ∈ lw_all := lw_g (lw_at lw_m2 101 rfl) rfl
theorem q440 : (Jvm.Cond.lays "VeilMint$Refusal" "java/lang/Throwable" "suppressedExceptions" "Ljava/util/List;") ∈ lw_all := lw_g (lw_at lw_m2 103 rfl) rfl
theorem q442 : (Jvm.Cond.lays "VeilMint$Refusal" "java/lang/Throwable" "detailMessage" "Ljava/lang/String;") ∈ lw_all := lw_g (lw_at lw_m2 105 rfl) rfl
theorem q444 : (Jvm.Cond.lays "VeilMint$Refusal" "java/lang/Throwable" "backtrace" "Ljava/lang/Object;") ∈ lw_all := lw_g (lw_at lw_m2 107 rfl) rfl
theorem q466 : (Jvm.Cond.instanceMethod ({ cls := "VeilMint$Refusal", name := "<init>", desc := "()V" } : Jvm.MethodName)) ∈ lw_all := lw_g (lw_at lw_m2 129 rfl) rfl
theorem q467 : (Jvm.Cond.code ({ cls := "VeilMint$Refusal", name := "<init>", desc := "()V" } : Jvm.MethodName) prog_12_method_1_code (1 : Nat) (Option.none : Option Jvm.ClassFile.FieldType)) ∈ lw_all := lw_g (lw_at lw_m2 130 rfl) rfl
theorem q468 : (Jvm.Cond.methodLink "VeilMint$Refusal" (1 : Nat) ({ cls := "java/lang/RuntimeException", name := "<init>", desc := "(Ljava/lang/String;Ljava/lang/Throwable;ZZ)V" } : Jvm.MethodName)) ∈ lw_all := lw_g (lw_at lw_m2 131 rfl) rfl
theorem q477 : (Jvm.Cond.fieldLink "VeilMint$Refusal" (7 : Nat) "VeilMint$Refusal" "why" "I") ∈ lw_all := lw_g (lw_at lw_m2 140 rfl) rfl
theorem q484 : (Jvm.Cond.lays "VeilMint$Refusal" "VeilMint$Refusal" "why" "I") ∈ lw_all := lw_g (lw_at lw_m2 147 rfl) rfl
theorem q485 : (Jvm.Cond.soleField "VeilMint$Refusal" "why") ∈ lw_all := lw_g (lw_at lw_m2 148 rfl) rfl
theorem q490 : (Jvm.Cond.lays "VeilMint$Refusal" "java/lang/Throwable" "depth" "I") ∈ lw_all := lw_g (lw_at lw_m2 153 rfl) rfl
theorem q493 : (Jvm.Cond.superclass "VeilMint$Refusal" "java/lang/RuntimeException") ∈ lw_all := lw_g (lw_at lw_m2 156 rfl) rfl
theorem q630 : (Jvm.Cond.instanceMethod ({ cls := "VeilMint$Refusal", name := "as", desc := "(I)LVeilMint$Refusal;" } : Jvm.MethodName)) ∈ lw_all := lw_g (lw_at lw_m3 53 rfl) rfl
theorem q631 : (Jvm.Cond.selects "VeilMint$Refusal" ({ cls := "VeilMint$Refusal", name := "as", desc := "(I)LVeilMint$Refusal;" } : Jvm.MethodName) ({ cls := "VeilMint$Refusal", name := "as", desc := "(I)LVeilMint$Refusal;" } : Jvm.MethodName)) ∈ lw_all := lw_g (lw_at lw_m3 54 rfl) rfl
theorem q632 : (Jvm.Cond.code ({ cls := "VeilMint$Refusal", name := "as", desc := "(I)LVeilMint$Refusal;" } : Jvm.MethodName) prog_12_method_2_code (2 : Nat) (Option.some (Jvm.ClassFile.FieldType.object "VeilMint$Refusal"))) ∈ lw_all := lw_g (lw_at lw_m3 55 rfl) rfl
theorem q2148 : (Jvm.Cond.castable "VeilMint$Refusal" "java/lang/Object") ∈ lw_tbl := lw_at lw_m9 131 rfl
theorem in_X8 : ∀ w ∈ wsX80, w ∈ lw_all := lw_in wsX80 [436, 438, 440, 442, 444, 490, 484] (by decide +kernel) (by decide +kernel)
/-! VeilMint$Disk -/
set_option maxRecDepth 100000
def RX9 : String := "VeilMint$Disk"
def TX9 : u_T := fun k => match k with
  | 0 => ("VeilMint$Disk", "cells", "[B", true)
  | 1 => ("VeilMint$Disk", "block", "[B", true)
  | 2 => ("VeilMint$Disk", "writes", "I", false)
  | 3 => ("VeilMint$Disk", "fuse", "I", false)
  | _ => ("VeilMint$Disk", "down", "Z", false)
def tyX9 : Nat → FieldType := fun k => match k with
  | 0 => .array .byte
  | 1 => .array .byte
  | 2 => .int
  | 3 => .int
  | _ => .boolean
abbrev wsX90 : List Cond := u_ws RX9 TX9 5
theorem nmX9 : ∀ a, a < 5 → ∀ b, b < 5 → a ≠ b → (TX9 a).2.1 ≠ (TX9 b).2.1 := by decide +kernel
theorem tyX9_ok : ∀ k, k < 5 → parseFieldDescriptor (TX9 k).2.2.1 = some (tyX9 k) := by decide +kernel
abbrev cX9_init : ByteArray := prog_7_method_1_code
def yX9_init : MethodName := ⟨RX9, "<init>", "()V"⟩
theorem dX9_init_0 : decode cX9_init 0 = .ok (.aload_n 0, 1) := by decide +kernel
theorem dX9_init_1 : decode cX9_init 1 = .ok (.invokespecial 3, 3) := by decide +kernel
theorem dX9_init_4 : decode cX9_init 4 = .ok (.aload_n 0, 1) := by decide +kernel
theorem dX9_init_5 : decode cX9_init 5 = .ok (.sipush 4096, 3) := by decide +kernel
theorem dX9_init_8 : decode cX9_init 8 = .ok (.newarray .byte, 2) := by decide +kernel
theorem dX9_init_10 : decode cX9_init 10 = .ok (.putfield 11, 3) := by decide +kernel
theorem dX9_init_13 : decode cX9_init 13 = .ok (.aload_n 0, 1) := by decide +kernel
theorem dX9_init_14 : decode cX9_init 14 = .ok (.sipush 512, 3) := by decide +kernel
theorem dX9_init_17 : decode cX9_init 17 = .ok (.newarray .byte, 2) := by decide +kernel
theorem dX9_init_19 : decode cX9_init 19 = .ok (.putfield 15, 3) := by decide +kernel
theorem dX9_init_22 : decode cX9_init 22 = .ok (.aload_n 0, 1) := by decide +kernel
theorem dX9_init_23 : decode cX9_init 23 = .ok (.iconst (-1), 1) := by decide +kernel
theorem dX9_init_24 : decode cX9_init 24 = .ok (.putfield 18, 3) := by decide +kernel
theorem dX9_init_27 : decode cX9_init 27 = .ok (.return_, 1) := by decide +kernel
abbrev cX9_spend : ByteArray := prog_7_method_6_code
def yX9_spend : MethodName := ⟨RX9, "spend", "([BI)I"⟩
theorem dX9_spend_0 : decode cX9_spend 0 = .ok (.lconst 0, 1) := by decide +kernel
theorem dX9_spend_1 : decode cX9_spend 1 = .ok (.lstore_n 3, 1) := by decide +kernel
theorem dX9_spend_2 : decode cX9_spend 2 = .ok (.iconst 0, 1) := by decide +kernel
theorem dX9_spend_3 : decode cX9_spend 3 = .ok (.istore 5, 2) := by decide +kernel
theorem dX9_spend_5 : decode cX9_spend 5 = .ok (.iload 5, 2) := by decide +kernel
theorem dX9_spend_7 : decode cX9_spend 7 = .ok (.iconst 4, 1) := by decide +kernel
theorem dX9_spend_8 : decode cX9_spend 8 = .ok (.if_icmp .ge 26, 3) := by decide +kernel
theorem dX9_spend_11 : decode cX9_spend 11 = .ok (.lload_n 3, 1) := by decide +kernel
theorem dX9_spend_12 : decode cX9_spend 12 = .ok (.bipush 8, 2) := by decide +kernel
theorem dX9_spend_14 : decode cX9_spend 14 = .ok (.lshl, 1) := by decide +kernel
theorem dX9_spend_15 : decode cX9_spend 15 = .ok (.aload_n 1, 1) := by decide +kernel
theorem dX9_spend_16 : decode cX9_spend 16 = .ok (.iload_n 2, 1) := by decide +kernel
theorem dX9_spend_17 : decode cX9_spend 17 = .ok (.iload 5, 2) := by decide +kernel
theorem dX9_spend_19 : decode cX9_spend 19 = .ok (.iadd, 1) := by decide +kernel
theorem dX9_spend_20 : decode cX9_spend 20 = .ok (.baload, 1) := by decide +kernel
theorem dX9_spend_21 : decode cX9_spend 21 = .ok (.sipush 255, 3) := by decide +kernel
theorem dX9_spend_24 : decode cX9_spend 24 = .ok (.iand, 1) := by decide +kernel
theorem dX9_spend_25 : decode cX9_spend 25 = .ok (.i2l, 1) := by decide +kernel
theorem dX9_spend_26 : decode cX9_spend 26 = .ok (.lor, 1) := by decide +kernel
theorem dX9_spend_27 : decode cX9_spend 27 = .ok (.lstore_n 3, 1) := by decide +kernel
theorem dX9_spend_28 : decode cX9_spend 28 = .ok (.iinc 5 1, 3) := by decide +kernel
theorem dX9_spend_31 : decode cX9_spend 31 = .ok (.goto (-26), 3) := by decide +kernel
theorem dX9_spend_34 : decode cX9_spend 34 = .ok (.lload_n 3, 1) := by decide +kernel
theorem dX9_spend_35 : decode cX9_spend 35 = .ok (.ldc2_w 30, 3) := by decide +kernel
theorem dX9_spend_38 : decode cX9_spend 38 = .ok (.lrem, 1) := by decide +kernel
theorem dX9_spend_39 : decode cX9_spend 39 = .ok (.l2i, 1) := by decide +kernel
theorem dX9_spend_40 : decode cX9_spend 40 = .ok (.istore 5, 2) := by decide +kernel
theorem dX9_spend_42 : decode cX9_spend 42 = .ok (.iconst 0, 1) := by decide +kernel
theorem dX9_spend_43 : decode cX9_spend 43 = .ok (.istore 6, 2) := by decide +kernel
theorem dX9_spend_45 : decode cX9_spend 45 = .ok (.iload 6, 2) := by decide +kernel
theorem dX9_spend_47 : decode cX9_spend 47 = .ok (.bipush 112, 2) := by decide +kernel
theorem dX9_spend_49 : decode cX9_spend 49 = .ok (.if_icmp .ge 58, 3) := by decide +kernel
theorem dX9_spend_52 : decode cX9_spend 52 = .ok (.aload_n 0, 1) := by decide +kernel
theorem dX9_spend_53 : decode cX9_spend 53 = .ok (.iload 5, 2) := by decide +kernel
theorem dX9_spend_55 : decode cX9_spend 55 = .ok (.invokevirtual 26, 3) := by decide +kernel
theorem dX9_spend_58 : decode cX9_spend 58 = .ok (.ifCond .eq 12, 3) := by decide +kernel
theorem dX9_spend_61 : decode cX9_spend 61 = .ok (.aload_n 0, 1) := by decide +kernel
theorem dX9_spend_62 : decode cX9_spend 62 = .ok (.iload 5, 2) := by decide +kernel
theorem dX9_spend_64 : decode cX9_spend 64 = .ok (.aload_n 1, 1) := by decide +kernel
theorem dX9_spend_65 : decode cX9_spend 65 = .ok (.iload_n 2, 1) := by decide +kernel
theorem dX9_spend_66 : decode cX9_spend 66 = .ok (.invokevirtual 32, 3) := by decide +kernel
theorem dX9_spend_69 : decode cX9_spend 69 = .ok (.ireturn, 1) := by decide +kernel
theorem dX9_spend_70 : decode cX9_spend 70 = .ok (.aload_n 0, 1) := by decide +kernel
theorem dX9_spend_71 : decode cX9_spend 71 = .ok (.iload 5, 2) := by decide +kernel
theorem dX9_spend_73 : decode cX9_spend 73 = .ok (.aload_n 1, 1) := by decide +kernel
theorem dX9_spend_74 : decode cX9_spend 74 = .ok (.iload_n 2, 1) := by decide +kernel
theorem dX9_spend_75 : decode cX9_spend 75 = .ok (.invokevirtual 36, 3) := by decide +kernel
theorem dX9_spend_78 : decode cX9_spend 78 = .ok (.ifCond .eq 6, 3) := by decide +kernel
theorem dX9_spend_81 : decode cX9_spend 81 = .ok (.bipush (-5), 2) := by decide +kernel
theorem dX9_spend_83 : decode cX9_spend 83 = .ok (.ireturn, 1) := by decide +kernel
theorem dX9_spend_84 : decode cX9_spend 84 = .ok (.iload 5, 2) := by decide +kernel
theorem dX9_spend_86 : decode cX9_spend 86 = .ok (.bipush 111, 2) := by decide +kernel
theorem dX9_spend_88 : decode cX9_spend 88 = .ok (.if_icmp .ne 7, 3) := by decide +kernel
theorem dX9_spend_91 : decode cX9_spend 91 = .ok (.iconst 0, 1) := by decide +kernel
theorem dX9_spend_92 : decode cX9_spend 92 = .ok (.goto 7, 3) := by decide +kernel
theorem dX9_spend_95 : decode cX9_spend 95 = .ok (.iload 5, 2) := by decide +kernel
theorem dX9_spend_97 : decode cX9_spend 97 = .ok (.iconst 1, 1) := by decide +kernel
theorem dX9_spend_98 : decode cX9_spend 98 = .ok (.iadd, 1) := by decide +kernel
theorem dX9_spend_99 : decode cX9_spend 99 = .ok (.istore 5, 2) := by decide +kernel
theorem dX9_spend_101 : decode cX9_spend 101 = .ok (.iinc 6 1, 3) := by decide +kernel
theorem dX9_spend_104 : decode cX9_spend 104 = .ok (.goto (-59), 3) := by decide +kernel
theorem dX9_spend_107 : decode cX9_spend 107 = .ok (.bipush (-6), 2) := by decide +kernel
theorem dX9_spend_109 : decode cX9_spend 109 = .ok (.ireturn, 1) := by decide +kernel
abbrev cX9_isFree : ByteArray := prog_7_method_3_code
def yX9_isFree : MethodName := ⟨RX9, "isFree", "(I)Z"⟩
theorem dX9_isFree_0 : decode cX9_isFree 0 = .ok (.iload_n 1, 1) := by decide +kernel
theorem dX9_isFree_1 : decode cX9_isFree 1 = .ok (.invokestatic 22, 3) := by decide +kernel
theorem dX9_isFree_4 : decode cX9_isFree 4 = .ok (.istore_n 2, 1) := by decide +kernel
theorem dX9_isFree_5 : decode cX9_isFree 5 = .ok (.aload_n 0, 1) := by decide +kernel
theorem dX9_isFree_6 : decode cX9_isFree 6 = .ok (.getfield 11, 3) := by decide +kernel
theorem dX9_isFree_9 : decode cX9_isFree 9 = .ok (.iload_n 2, 1) := by decide +kernel
theorem dX9_isFree_10 : decode cX9_isFree 10 = .ok (.baload, 1) := by decide +kernel
theorem dX9_isFree_11 : decode cX9_isFree 11 = .ok (.aload_n 0, 1) := by decide +kernel
theorem dX9_isFree_12 : decode cX9_isFree 12 = .ok (.getfield 11, 3) := by decide +kernel
theorem dX9_isFree_15 : decode cX9_isFree 15 = .ok (.iload_n 2, 1) := by decide +kernel
theorem dX9_isFree_16 : decode cX9_isFree 16 = .ok (.iconst 1, 1) := by decide +kernel
theorem dX9_isFree_17 : decode cX9_isFree 17 = .ok (.iadd, 1) := by decide +kernel
theorem dX9_isFree_18 : decode cX9_isFree 18 = .ok (.baload, 1) := by decide +kernel
theorem dX9_isFree_19 : decode cX9_isFree 19 = .ok (.ior, 1) := by decide +kernel
theorem dX9_isFree_20 : decode cX9_isFree 20 = .ok (.aload_n 0, 1) := by decide +kernel
theorem dX9_isFree_21 : decode cX9_isFree 21 = .ok (.getfield 11, 3) := by decide +kernel
theorem dX9_isFree_24 : decode cX9_isFree 24 = .ok (.iload_n 2, 1) := by decide +kernel
theorem dX9_isFree_25 : decode cX9_isFree 25 = .ok (.iconst 2, 1) := by decide +kernel
theorem dX9_isFree_26 : decode cX9_isFree 26 = .ok (.iadd, 1) := by decide +kernel
theorem dX9_isFree_27 : decode cX9_isFree 27 = .ok (.baload, 1) := by decide +kernel
theorem dX9_isFree_28 : decode cX9_isFree 28 = .ok (.ior, 1) := by decide +kernel
theorem dX9_isFree_29 : decode cX9_isFree 29 = .ok (.aload_n 0, 1) := by decide +kernel
theorem dX9_isFree_30 : decode cX9_isFree 30 = .ok (.getfield 11, 3) := by decide +kernel
theorem dX9_isFree_33 : decode cX9_isFree 33 = .ok (.iload_n 2, 1) := by decide +kernel
theorem dX9_isFree_34 : decode cX9_isFree 34 = .ok (.iconst 3, 1) := by decide +kernel
theorem dX9_isFree_35 : decode cX9_isFree 35 = .ok (.iadd, 1) := by decide +kernel
theorem dX9_isFree_36 : decode cX9_isFree 36 = .ok (.baload, 1) := by decide +kernel
theorem dX9_isFree_37 : decode cX9_isFree 37 = .ok (.ior, 1) := by decide +kernel
theorem dX9_isFree_38 : decode cX9_isFree 38 = .ok (.ifCond .ne 7, 3) := by decide +kernel
theorem dX9_isFree_41 : decode cX9_isFree 41 = .ok (.iconst 1, 1) := by decide +kernel
theorem dX9_isFree_42 : decode cX9_isFree 42 = .ok (.goto 4, 3) := by decide +kernel
theorem dX9_isFree_45 : decode cX9_isFree 45 = .ok (.iconst 0, 1) := by decide +kernel
theorem dX9_isFree_46 : decode cX9_isFree 46 = .ok (.ireturn, 1) := by decide +kernel
abbrev cX9_place : ByteArray := prog_7_method_2_code
def yX9_place : MethodName := ⟨RX9, "place", "(I)I"⟩
theorem dX9_place_0 : decode cX9_place 0 = .ok (.sipush 512, 3) := by decide +kernel
theorem dX9_place_3 : decode cX9_place 3 = .ok (.iload_n 0, 1) := by decide +kernel
theorem dX9_place_4 : decode cX9_place 4 = .ok (.bipush 14, 2) := by decide +kernel
theorem dX9_place_6 : decode cX9_place 6 = .ok (.idiv, 1) := by decide +kernel
theorem dX9_place_7 : decode cX9_place 7 = .ok (.imul, 1) := by decide +kernel
theorem dX9_place_8 : decode cX9_place 8 = .ok (.bipush 36, 2) := by decide +kernel
theorem dX9_place_10 : decode cX9_place 10 = .ok (.iload_n 0, 1) := by decide +kernel
theorem dX9_place_11 : decode cX9_place 11 = .ok (.bipush 14, 2) := by decide +kernel
theorem dX9_place_13 : decode cX9_place 13 = .ok (.irem, 1) := by decide +kernel
theorem dX9_place_14 : decode cX9_place 14 = .ok (.imul, 1) := by decide +kernel
theorem dX9_place_15 : decode cX9_place 15 = .ok (.iadd, 1) := by decide +kernel
theorem dX9_place_16 : decode cX9_place 16 = .ok (.ireturn, 1) := by decide +kernel
abbrev cX9_write : ByteArray := prog_7_method_7_code
def yX9_write : MethodName := ⟨RX9, "write", "(I[BI)I"⟩
theorem dX9_write_0 : decode cX9_write 0 = .ok (.sipush 512, 3) := by decide +kernel
theorem dX9_write_3 : decode cX9_write 3 = .ok (.iload_n 1, 1) := by decide +kernel
theorem dX9_write_4 : decode cX9_write 4 = .ok (.bipush 14, 2) := by decide +kernel
theorem dX9_write_6 : decode cX9_write 6 = .ok (.idiv, 1) := by decide +kernel
theorem dX9_write_7 : decode cX9_write 7 = .ok (.imul, 1) := by decide +kernel
theorem dX9_write_8 : decode cX9_write 8 = .ok (.istore 4, 2) := by decide +kernel
theorem dX9_write_10 : decode cX9_write 10 = .ok (.aload_n 0, 1) := by decide +kernel
theorem dX9_write_11 : decode cX9_write 11 = .ok (.getfield 11, 3) := by decide +kernel
theorem dX9_write_14 : decode cX9_write 14 = .ok (.iload 4, 2) := by decide +kernel
theorem dX9_write_16 : decode cX9_write 16 = .ok (.aload_n 0, 1) := by decide +kernel
theorem dX9_write_17 : decode cX9_write 17 = .ok (.getfield 15, 3) := by decide +kernel
theorem dX9_write_20 : decode cX9_write 20 = .ok (.iconst 0, 1) := by decide +kernel
theorem dX9_write_21 : decode cX9_write 21 = .ok (.sipush 512, 3) := by decide +kernel
theorem dX9_write_24 : decode cX9_write 24 = .ok (.invokestatic 40, 3) := by decide +kernel
theorem dX9_write_27 : decode cX9_write 27 = .ok (.iload_n 1, 1) := by decide +kernel
theorem dX9_write_28 : decode cX9_write 28 = .ok (.invokestatic 22, 3) := by decide +kernel
theorem dX9_write_31 : decode cX9_write 31 = .ok (.iload 4, 2) := by decide +kernel
theorem dX9_write_33 : decode cX9_write 33 = .ok (.isub, 1) := by decide +kernel
theorem dX9_write_34 : decode cX9_write 34 = .ok (.istore 5, 2) := by decide +kernel
theorem dX9_write_36 : decode cX9_write 36 = .ok (.aload_n 0, 1) := by decide +kernel
theorem dX9_write_37 : decode cX9_write 37 = .ok (.getfield 15, 3) := by decide +kernel
theorem dX9_write_40 : decode cX9_write 40 = .ok (.iload 5, 2) := by decide +kernel
theorem dX9_write_42 : decode cX9_write 42 = .ok (.iconst 3, 1) := by decide +kernel
theorem dX9_write_43 : decode cX9_write 43 = .ok (.iadd, 1) := by decide +kernel
theorem dX9_write_44 : decode cX9_write 44 = .ok (.iconst 1, 1) := by decide +kernel
theorem dX9_write_45 : decode cX9_write 45 = .ok (.bastore, 1) := by decide +kernel
theorem dX9_write_46 : decode cX9_write 46 = .ok (.aload_n 2, 1) := by decide +kernel
theorem dX9_write_47 : decode cX9_write 47 = .ok (.iload_n 3, 1) := by decide +kernel
theorem dX9_write_48 : decode cX9_write 48 = .ok (.aload_n 0, 1) := by decide +kernel
theorem dX9_write_49 : decode cX9_write 49 = .ok (.getfield 15, 3) := by decide +kernel
theorem dX9_write_52 : decode cX9_write 52 = .ok (.iload 5, 2) := by decide +kernel
theorem dX9_write_54 : decode cX9_write 54 = .ok (.iconst 4, 1) := by decide +kernel
theorem dX9_write_55 : decode cX9_write 55 = .ok (.iadd, 1) := by decide +kernel
theorem dX9_write_56 : decode cX9_write 56 = .ok (.bipush 32, 2) := by decide +kernel
theorem dX9_write_58 : decode cX9_write 58 = .ok (.invokestatic 40, 3) := by decide +kernel
theorem dX9_write_61 : decode cX9_write 61 = .ok (.aload_n 0, 1) := by decide +kernel
theorem dX9_write_62 : decode cX9_write 62 = .ok (.getfield 18, 3) := by decide +kernel
theorem dX9_write_65 : decode cX9_write 65 = .ok (.ifCond .ne 11, 3) := by decide +kernel
theorem dX9_write_68 : decode cX9_write 68 = .ok (.aload_n 0, 1) := by decide +kernel
theorem dX9_write_69 : decode cX9_write 69 = .ok (.iconst 1, 1) := by decide +kernel
theorem dX9_write_70 : decode cX9_write 70 = .ok (.putfield 46, 3) := by decide +kernel
theorem dX9_write_73 : decode cX9_write 73 = .ok (.bipush (-9), 2) := by decide +kernel
theorem dX9_write_75 : decode cX9_write 75 = .ok (.ireturn, 1) := by decide +kernel
theorem dX9_write_76 : decode cX9_write 76 = .ok (.aload_n 0, 1) := by decide +kernel
theorem dX9_write_77 : decode cX9_write 77 = .ok (.getfield 18, 3) := by decide +kernel
theorem dX9_write_80 : decode cX9_write 80 = .ok (.ifCond .le 13, 3) := by decide +kernel
theorem dX9_write_83 : decode cX9_write 83 = .ok (.aload_n 0, 1) := by decide +kernel
theorem dX9_write_84 : decode cX9_write 84 = .ok (.dup, 1) := by decide +kernel
theorem dX9_write_85 : decode cX9_write 85 = .ok (.getfield 18, 3) := by decide +kernel
theorem dX9_write_88 : decode cX9_write 88 = .ok (.iconst 1, 1) := by decide +kernel
theorem dX9_write_89 : decode cX9_write 89 = .ok (.isub, 1) := by decide +kernel
theorem dX9_write_90 : decode cX9_write 90 = .ok (.putfield 18, 3) := by decide +kernel
theorem dX9_write_93 : decode cX9_write 93 = .ok (.aload_n 0, 1) := by decide +kernel
theorem dX9_write_94 : decode cX9_write 94 = .ok (.dup, 1) := by decide +kernel
theorem dX9_write_95 : decode cX9_write 95 = .ok (.getfield 50, 3) := by decide +kernel
theorem dX9_write_98 : decode cX9_write 98 = .ok (.iconst 1, 1) := by decide +kernel
theorem dX9_write_99 : decode cX9_write 99 = .ok (.iadd, 1) := by decide +kernel
theorem dX9_write_100 : decode cX9_write 100 = .ok (.putfield 50, 3) := by decide +kernel
theorem dX9_write_103 : decode cX9_write 103 = .ok (.aload_n 0, 1) := by decide +kernel
theorem dX9_write_104 : decode cX9_write 104 = .ok (.getfield 15, 3) := by decide +kernel
theorem dX9_write_107 : decode cX9_write 107 = .ok (.iconst 0, 1) := by decide +kernel
theorem dX9_write_108 : decode cX9_write 108 = .ok (.aload_n 0, 1) := by decide +kernel
theorem dX9_write_109 : decode cX9_write 109 = .ok (.getfield 11, 3) := by decide +kernel
theorem dX9_write_112 : decode cX9_write 112 = .ok (.iload 4, 2) := by decide +kernel
theorem dX9_write_114 : decode cX9_write 114 = .ok (.sipush 512, 3) := by decide +kernel
theorem dX9_write_117 : decode cX9_write 117 = .ok (.invokestatic 40, 3) := by decide +kernel
theorem dX9_write_120 : decode cX9_write 120 = .ok (.iconst 0, 1) := by decide +kernel
theorem dX9_write_121 : decode cX9_write 121 = .ok (.ireturn, 1) := by decide +kernel
abbrev cX9_has : ByteArray := prog_7_method_4_code
def yX9_has : MethodName := ⟨RX9, "has", "(I[BI)Z"⟩
theorem dX9_has_0 : decode cX9_has 0 = .ok (.iconst 1, 1) := by decide +kernel
theorem dX9_has_1 : decode cX9_has 1 = .ok (.istore 4, 2) := by decide +kernel
theorem dX9_has_3 : decode cX9_has 3 = .ok (.iconst 0, 1) := by decide +kernel
theorem dX9_has_4 : decode cX9_has 4 = .ok (.istore 5, 2) := by decide +kernel
theorem dX9_has_6 : decode cX9_has 6 = .ok (.iload 5, 2) := by decide +kernel
theorem dX9_has_8 : decode cX9_has 8 = .ok (.bipush 32, 2) := by decide +kernel
theorem dX9_has_10 : decode cX9_has 10 = .ok (.if_icmp .ge 44, 3) := by decide +kernel
theorem dX9_has_13 : decode cX9_has 13 = .ok (.iload 4, 2) := by decide +kernel
theorem dX9_has_15 : decode cX9_has 15 = .ok (.ifCond .eq 30, 3) := by decide +kernel
theorem dX9_has_18 : decode cX9_has 18 = .ok (.aload_n 0, 1) := by decide +kernel
theorem dX9_has_19 : decode cX9_has 19 = .ok (.getfield 11, 3) := by decide +kernel
theorem dX9_has_22 : decode cX9_has 22 = .ok (.iload_n 1, 1) := by decide +kernel
theorem dX9_has_23 : decode cX9_has 23 = .ok (.invokestatic 22, 3) := by decide +kernel
theorem dX9_has_26 : decode cX9_has 26 = .ok (.iconst 4, 1) := by decide +kernel
theorem dX9_has_27 : decode cX9_has 27 = .ok (.iadd, 1) := by decide +kernel
theorem dX9_has_28 : decode cX9_has 28 = .ok (.iload 5, 2) := by decide +kernel
theorem dX9_has_30 : decode cX9_has 30 = .ok (.iadd, 1) := by decide +kernel
theorem dX9_has_31 : decode cX9_has 31 = .ok (.baload, 1) := by decide +kernel
theorem dX9_has_32 : decode cX9_has 32 = .ok (.aload_n 2, 1) := by decide +kernel
theorem dX9_has_33 : decode cX9_has 33 = .ok (.iload_n 3, 1) := by decide +kernel
theorem dX9_has_34 : decode cX9_has 34 = .ok (.iload 5, 2) := by decide +kernel
theorem dX9_has_36 : decode cX9_has 36 = .ok (.iadd, 1) := by decide +kernel
theorem dX9_has_37 : decode cX9_has 37 = .ok (.baload, 1) := by decide +kernel
theorem dX9_has_38 : decode cX9_has 38 = .ok (.if_icmp .ne 7, 3) := by decide +kernel
theorem dX9_has_41 : decode cX9_has 41 = .ok (.iconst 1, 1) := by decide +kernel
theorem dX9_has_42 : decode cX9_has 42 = .ok (.goto 4, 3) := by decide +kernel
theorem dX9_has_45 : decode cX9_has 45 = .ok (.iconst 0, 1) := by decide +kernel
theorem dX9_has_46 : decode cX9_has 46 = .ok (.istore 4, 2) := by decide +kernel
theorem dX9_has_48 : decode cX9_has 48 = .ok (.iinc 5 1, 3) := by decide +kernel
theorem dX9_has_51 : decode cX9_has 51 = .ok (.goto (-45), 3) := by decide +kernel
theorem dX9_has_54 : decode cX9_has 54 = .ok (.iload 4, 2) := by decide +kernel
theorem dX9_has_56 : decode cX9_has 56 = .ok (.ireturn, 1) := by decide +kernel
abbrev cX9_many : ByteArray := prog_7_method_5_code
def yX9_many : MethodName := ⟨RX9, "many", "()I"⟩
theorem dX9_many_0 : decode cX9_many 0 = .ok (.iconst 0, 1) := by decide +kernel
theorem dX9_many_1 : decode cX9_many 1 = .ok (.istore_n 1, 1) := by decide +kernel
theorem dX9_many_2 : decode cX9_many 2 = .ok (.iconst 0, 1) := by decide +kernel
theorem dX9_many_3 : decode cX9_many 3 = .ok (.istore_n 2, 1) := by decide +kernel
theorem dX9_many_4 : decode cX9_many 4 = .ok (.iload_n 2, 1) := by decide +kernel
theorem dX9_many_5 : decode cX9_many 5 = .ok (.bipush 112, 2) := by decide +kernel
theorem dX9_many_7 : decode cX9_many 7 = .ok (.if_icmp .ge 25, 3) := by decide +kernel
theorem dX9_many_10 : decode cX9_many 10 = .ok (.iload_n 1, 1) := by decide +kernel
theorem dX9_many_11 : decode cX9_many 11 = .ok (.aload_n 0, 1) := by decide +kernel
theorem dX9_many_12 : decode cX9_many 12 = .ok (.iload_n 2, 1) := by decide +kernel
theorem dX9_many_13 : decode cX9_many 13 = .ok (.invokevirtual 26, 3) := by decide +kernel
theorem dX9_many_16 : decode cX9_many 16 = .ok (.ifCond .eq 7, 3) := by decide +kernel
theorem dX9_many_19 : decode cX9_many 19 = .ok (.iconst 0, 1) := by decide +kernel
theorem dX9_many_20 : decode cX9_many 20 = .ok (.goto 4, 3) := by decide +kernel
theorem dX9_many_23 : decode cX9_many 23 = .ok (.iconst 1, 1) := by decide +kernel
theorem dX9_many_24 : decode cX9_many 24 = .ok (.iadd, 1) := by decide +kernel
theorem dX9_many_25 : decode cX9_many 25 = .ok (.istore_n 1, 1) := by decide +kernel
theorem dX9_many_26 : decode cX9_many 26 = .ok (.iinc 2 1, 3) := by decide +kernel
theorem dX9_many_29 : decode cX9_many 29 = .ok (.goto (-25), 3) := by decide +kernel
theorem dX9_many_32 : decode cX9_many 32 = .ok (.iload_n 1, 1) := by decide +kernel
theorem dX9_many_33 : decode cX9_many 33 = .ok (.ireturn, 1) := by decide +kernel
theorem q115 : (Jvm.Cond.initialized "VeilMint$Disk") ∈ lw_all := lw_g (lw_at lw_m1 18 rfl) rfl
theorem q495 : (Jvm.Cond.instantiable "VeilMint$Disk" (5 : Nat)) ∈ lw_all := lw_g (lw_at lw_m2 158 rfl) rfl
theorem q497 : (Jvm.Cond.instanceMethod ({ cls := "VeilMint$Disk", name := "<init>", desc := "()V" } : Jvm.MethodName)) ∈ lw_all := lw_g (lw_at lw_m2 160 rfl) rfl
theorem q498 : (Jvm.Cond.code ({ cls := "VeilMint$Disk", name := "<init>", desc := "()V" } : Jvm.MethodName) prog_7_method_1_code (1 : Nat) (Option.none : Option Jvm.ClassFile.FieldType)) ∈ lw_all := lw_g (lw_at lw_m2 161 rfl) rfl
theorem q499 : (Jvm.Cond.methodLink "VeilMint$Disk" (3 : Nat) ({ cls := "java/lang/Object", name := "<init>", desc := "()V" } : Jvm.MethodName)) ∈ lw_all := lw_g (lw_at lw_m2 162 rfl) rfl
theorem q500 : (Jvm.Cond.fieldLink "VeilMint$Disk" (11 : Nat) "VeilMint$Disk" "cells" "[B") ∈ lw_all := lw_g (lw_at lw_m2 163 rfl) rfl
theorem q502 : (Jvm.Cond.fieldLink "VeilMint$Disk" (15 : Nat) "VeilMint$Disk" "block" "[B") ∈ lw_all := lw_g (lw_at lw_m2 165 rfl) rfl
theorem q503 : (Jvm.Cond.fieldLink "VeilMint$Disk" (50 : Nat) "VeilMint$Disk" "writes" "I") ∈ lw_all := lw_g (lw_at lw_m2 166 rfl) rfl
theorem q505 : (Jvm.Cond.fieldLink "VeilMint$Disk" (18 : Nat) "VeilMint$Disk" "fuse" "I") ∈ lw_all := lw_g (lw_at lw_m2 168 rfl) rfl
theorem q507 : (Jvm.Cond.fieldLink "VeilMint$Disk" (46 : Nat) "VeilMint$Disk" "down" "Z") ∈ lw_all := lw_g (lw_at lw_m2 170 rfl) rfl
theorem q509 : (Jvm.Cond.laysFinal "VeilMint$Disk" "VeilMint$Disk" "cells" "[B") ∈ lw_all := lw_g (lw_at lw_m2 172 rfl) rfl
theorem q510 : (Jvm.Cond.soleField "VeilMint$Disk" "cells") ∈ lw_all := lw_g (lw_at lw_m2 173 rfl) rfl
theorem q511 : (Jvm.Cond.laysFinal "VeilMint$Disk" "VeilMint$Disk" "block" "[B") ∈ lw_all := lw_g (lw_at lw_m2 174 rfl) rfl
theorem q512 : (Jvm.Cond.soleField "VeilMint$Disk" "block") ∈ lw_all := lw_g (lw_at lw_m2 175 rfl) rfl
theorem q513 : (Jvm.Cond.lays "VeilMint$Disk" "VeilMint$Disk" "writes" "I") ∈ lw_all := lw_g (lw_at lw_m2 176 rfl) rfl
theorem q514 : (Jvm.Cond.soleField "VeilMint$Disk" "writes") ∈ lw_all := lw_g (lw_at lw_m2 177 rfl) rfl
theorem q515 : (Jvm.Cond.lays "VeilMint$Disk" "VeilMint$Disk" "fuse" "I") ∈ lw_all := lw_g (lw_at lw_m2 178 rfl) rfl
theorem q516 : (Jvm.Cond.soleField "VeilMint$Disk" "fuse") ∈ lw_all := lw_g (lw_at lw_m2 179 rfl) rfl
theorem q517 : (Jvm.Cond.lays "VeilMint$Disk" "VeilMint$Disk" "down" "Z") ∈ lw_all := lw_g (lw_at lw_m2 180 rfl) rfl
theorem q518 : (Jvm.Cond.soleField "VeilMint$Disk" "down") ∈ lw_all := lw_g (lw_at lw_m2 181 rfl) rfl
theorem q519 : (Jvm.Cond.superclass "VeilMint$Disk" "java/lang/Object") ∈ lw_all := lw_g (lw_at lw_m2 182 rfl) rfl
theorem q1206 : (Jvm.Cond.instanceMethod ({ cls := "VeilMint$Disk", name := "spend", desc := "([BI)I" } : Jvm.MethodName)) ∈ lw_all := lw_g (lw_at lw_m5 149 rfl) rfl
theorem q1207 : (Jvm.Cond.selects "VeilMint$Disk" ({ cls := "VeilMint$Disk", name := "spend", desc := "([BI)I" } : Jvm.MethodName) ({ cls := "VeilMint$Disk", name := "spend", desc := "([BI)I" } : Jvm.MethodName)) ∈ lw_all := lw_g (lw_at lw_m5 150 rfl) rfl
theorem q1208 : (Jvm.Cond.code ({ cls := "VeilMint$Disk", name := "spend", desc := "([BI)I" } : Jvm.MethodName) prog_7_method_6_code (7 : Nat) (Option.some Jvm.ClassFile.FieldType.int)) ∈ lw_all := lw_g (lw_at lw_m5 151 rfl) rfl
theorem q1209 : (Jvm.Cond.constantLong "VeilMint$Disk" (30 : Nat) (112 : Int64)) ∈ lw_all := lw_g (lw_at lw_m5 152 rfl) rfl
theorem q1210 : (Jvm.Cond.methodLink "VeilMint$Disk" (26 : Nat) ({ cls := "VeilMint$Disk", name := "isFree", desc := "(I)Z" } : Jvm.MethodName)) ∈ lw_all := lw_g (lw_at lw_m5 153 rfl) rfl
theorem q1211 : (Jvm.Cond.privateMethod ({ cls := "VeilMint$Disk", name := "isFree", desc := "(I)Z" } : Jvm.MethodName)) ∈ lw_tbl := lw_at lw_m5 154 rfl
theorem q1212 : (Jvm.Cond.instanceMethod ({ cls := "VeilMint$Disk", name := "isFree", desc := "(I)Z" } : Jvm.MethodName)) ∈ lw_all := lw_g (lw_at lw_m5 155 rfl) rfl
theorem q1213 : (Jvm.Cond.code ({ cls := "VeilMint$Disk", name := "isFree", desc := "(I)Z" } : Jvm.MethodName) prog_7_method_3_code (3 : Nat) (Option.some Jvm.ClassFile.FieldType.boolean)) ∈ lw_all := lw_g (lw_at lw_m5 156 rfl) rfl
theorem q1214 : (Jvm.Cond.methodLink "VeilMint$Disk" (22 : Nat) ({ cls := "VeilMint$Disk", name := "place", desc := "(I)I" } : Jvm.MethodName)) ∈ lw_all := lw_g (lw_at lw_m5 157 rfl) rfl
theorem q1215 : (Jvm.Cond.static ({ cls := "VeilMint$Disk", name := "place", desc := "(I)I" } : Jvm.MethodName)) ∈ lw_all := lw_g (lw_at lw_m5 158 rfl) rfl
theorem q1216 : (Jvm.Cond.code ({ cls := "VeilMint$Disk", name := "place", desc := "(I)I" } : Jvm.MethodName) prog_7_method_2_code (1 : Nat) (Option.some Jvm.ClassFile.FieldType.int)) ∈ lw_all := lw_g (lw_at lw_m5 159 rfl) rfl
theorem q1217 : (Jvm.Cond.methodLink "VeilMint$Disk" (32 : Nat) ({ cls := "VeilMint$Disk", name := "write", desc := "(I[BI)I" } : Jvm.MethodName)) ∈ lw_all := lw_g (lw_at lw_m5 160 rfl) rfl
theorem q1218 : (Jvm.Cond.privateMethod ({ cls := "VeilMint$Disk", name := "write", desc := "(I[BI)I" } : Jvm.MethodName)) ∈ lw_tbl := lw_at lw_m5 161 rfl
theorem q1219 : (Jvm.Cond.instanceMethod ({ cls := "VeilMint$Disk", name := "write", desc := "(I[BI)I" } : Jvm.MethodName)) ∈ lw_all := lw_g (lw_at lw_m5 162 rfl) rfl
theorem q1220 : (Jvm.Cond.code ({ cls := "VeilMint$Disk", name := "write", desc := "(I[BI)I" } : Jvm.MethodName) prog_7_method_7_code (6 : Nat) (Option.some Jvm.ClassFile.FieldType.int)) ∈ lw_all := lw_g (lw_at lw_m5 163 rfl) rfl
theorem q1221 : (Jvm.Cond.methodLink "VeilMint$Disk" (40 : Nat) ({ cls := "java/lang/System", name := "arraycopy", desc := "(Ljava/lang/Object;ILjava/lang/Object;II)V" } : Jvm.MethodName)) ∈ lw_all := lw_g (lw_at lw_m5 164 rfl) rfl
theorem q1222 : (Jvm.Cond.methodLink "VeilMint$Disk" (36 : Nat) ({ cls := "VeilMint$Disk", name := "has", desc := "(I[BI)Z" } : Jvm.MethodName)) ∈ lw_all := lw_g (lw_at lw_m5 165 rfl) rfl
theorem q1223 : (Jvm.Cond.privateMethod ({ cls := "VeilMint$Disk", name := "has", desc := "(I[BI)Z" } : Jvm.MethodName)) ∈ lw_tbl := lw_at lw_m5 166 rfl
theorem q1224 : (Jvm.Cond.instanceMethod ({ cls := "VeilMint$Disk", name := "has", desc := "(I[BI)Z" } : Jvm.MethodName)) ∈ lw_all := lw_g (lw_at lw_m5 167 rfl) rfl
theorem q1225 : (Jvm.Cond.code ({ cls := "VeilMint$Disk", name := "has", desc := "(I[BI)Z" } : Jvm.MethodName) prog_7_method_4_code (6 : Nat) (Option.some Jvm.ClassFile.FieldType.boolean)) ∈ lw_all := lw_g (lw_at lw_m5 168 rfl) rfl
theorem q1235 : (Jvm.Cond.instanceMethod ({ cls := "VeilMint$Disk", name := "many", desc := "()I" } : Jvm.MethodName)) ∈ lw_all := lw_g (lw_at lw_m5 178 rfl) rfl
theorem q1236 : (Jvm.Cond.selects "VeilMint$Disk" ({ cls := "VeilMint$Disk", name := "many", desc := "()I" } : Jvm.MethodName) ({ cls := "VeilMint$Disk", name := "many", desc := "()I" } : Jvm.MethodName)) ∈ lw_all := lw_g (lw_at lw_m5 179 rfl) rfl
theorem q1237 : (Jvm.Cond.code ({ cls := "VeilMint$Disk", name := "many", desc := "()I" } : Jvm.MethodName) prog_7_method_5_code (3 : Nat) (Option.some Jvm.ClassFile.FieldType.int)) ∈ lw_all := lw_g (lw_at lw_m5 180 rfl) rfl
theorem q2149 : (Jvm.Cond.castable "VeilMint$Disk" "java/lang/Object") ∈ lw_tbl := lw_at lw_m9 132 rfl
theorem in_X9 : ∀ w ∈ wsX90, w ∈ lw_all := lw_in wsX90 [509, 511, 513, 515, 517] (by decide +kernel) (by decide +kernel)
/-! VeilMintModel$Mod -/
set_option maxRecDepth 100000
def RX11 : String := "VeilMintModel$Mod"
def TX11 : u_T := fun k => match k with
  | 0 => ("VeilMintModel$Mod", "m", "[I", true)
  | 1 => ("VeilMintModel$Mod", "high", "[I", true)
  | 2 => ("VeilMintModel$Mod", "n", "I", false)
  | _ => ("VeilMintModel$Mod", "shift", "I", false)
def tyX11 : Nat → FieldType := fun k => match k with
  | 0 => .array .int
  | 1 => .array .int
  | 2 => .int
  | _ => .int
abbrev wsX110 : List Cond := u_ws RX11 TX11 4
theorem nmX11 : ∀ a, a < 4 → ∀ b, b < 4 → a ≠ b → (TX11 a).2.1 ≠ (TX11 b).2.1 := by decide +kernel
theorem tyX11_ok : ∀ k, k < 4 → parseFieldDescriptor (TX11 k).2.2.1 = some (tyX11 k) := by decide +kernel
abbrev cX11_init : ByteArray := prog_16_method_1_code
def yX11_init : MethodName := ⟨RX11, "<init>", "()V"⟩
theorem dX11_init_0 : decode cX11_init 0 = .ok (.aload_n 0, 1) := by decide +kernel
theorem dX11_init_1 : decode cX11_init 1 = .ok (.invokespecial 3, 3) := by decide +kernel
theorem dX11_init_4 : decode cX11_init 4 = .ok (.aload_n 0, 1) := by decide +kernel
theorem dX11_init_5 : decode cX11_init 5 = .ok (.bipush 64, 2) := by decide +kernel
theorem dX11_init_7 : decode cX11_init 7 = .ok (.newarray .int, 2) := by decide +kernel
theorem dX11_init_9 : decode cX11_init 9 = .ok (.putfield 9, 3) := by decide +kernel
theorem dX11_init_12 : decode cX11_init 12 = .ok (.aload_n 0, 1) := by decide +kernel
theorem dX11_init_13 : decode cX11_init 13 = .ok (.bipush 64, 2) := by decide +kernel
theorem dX11_init_15 : decode cX11_init 15 = .ok (.newarray .int, 2) := by decide +kernel
theorem dX11_init_17 : decode cX11_init 17 = .ok (.putfield 15, 3) := by decide +kernel
theorem dX11_init_20 : decode cX11_init 20 = .ok (.return_, 1) := by decide +kernel
abbrev cX11_is : ByteArray := prog_16_method_2_code
def yX11_is : MethodName := ⟨RX11, "is", "([II)V"⟩
theorem dX11_is_0 : decode cX11_is 0 = .ok (.aload_n 0, 1) := by decide +kernel
theorem dX11_is_1 : decode cX11_is 1 = .ok (.iload_n 2, 1) := by decide +kernel
theorem dX11_is_2 : decode cX11_is 2 = .ok (.putfield 18, 3) := by decide +kernel
theorem dX11_is_5 : decode cX11_is 5 = .ok (.iconst 0, 1) := by decide +kernel
theorem dX11_is_6 : decode cX11_is 6 = .ok (.istore_n 3, 1) := by decide +kernel
theorem dX11_is_7 : decode cX11_is 7 = .ok (.iload_n 3, 1) := by decide +kernel
theorem dX11_is_8 : decode cX11_is 8 = .ok (.aload_n 0, 1) := by decide +kernel
theorem dX11_is_9 : decode cX11_is 9 = .ok (.getfield 18, 3) := by decide +kernel
theorem dX11_is_12 : decode cX11_is 12 = .ok (.if_icmp .ge 18, 3) := by decide +kernel
theorem dX11_is_15 : decode cX11_is 15 = .ok (.aload_n 0, 1) := by decide +kernel
theorem dX11_is_16 : decode cX11_is 16 = .ok (.getfield 9, 3) := by decide +kernel
theorem dX11_is_19 : decode cX11_is 19 = .ok (.iload_n 3, 1) := by decide +kernel
theorem dX11_is_20 : decode cX11_is 20 = .ok (.aload_n 1, 1) := by decide +kernel
theorem dX11_is_21 : decode cX11_is 21 = .ok (.iload_n 3, 1) := by decide +kernel
theorem dX11_is_22 : decode cX11_is 22 = .ok (.iaload, 1) := by decide +kernel
theorem dX11_is_23 : decode cX11_is 23 = .ok (.iastore, 1) := by decide +kernel
theorem dX11_is_24 : decode cX11_is 24 = .ok (.iinc 3 1, 3) := by decide +kernel
theorem dX11_is_27 : decode cX11_is 27 = .ok (.goto (-20), 3) := by decide +kernel
theorem dX11_is_30 : decode cX11_is 30 = .ok (.aload_n 0, 1) := by decide +kernel
theorem dX11_is_31 : decode cX11_is 31 = .ok (.aload_n 0, 1) := by decide +kernel
theorem dX11_is_32 : decode cX11_is 32 = .ok (.getfield 9, 3) := by decide +kernel
theorem dX11_is_35 : decode cX11_is 35 = .ok (.aload_n 0, 1) := by decide +kernel
theorem dX11_is_36 : decode cX11_is 36 = .ok (.getfield 18, 3) := by decide +kernel
theorem dX11_is_39 : decode cX11_is 39 = .ok (.iconst 1, 1) := by decide +kernel
theorem dX11_is_40 : decode cX11_is 40 = .ok (.isub, 1) := by decide +kernel
theorem dX11_is_41 : decode cX11_is 41 = .ok (.iaload, 1) := by decide +kernel
theorem dX11_is_42 : decode cX11_is 42 = .ok (.invokestatic 22, 3) := by decide +kernel
theorem dX11_is_45 : decode cX11_is 45 = .ok (.putfield 28, 3) := by decide +kernel
theorem dX11_is_48 : decode cX11_is 48 = .ok (.aload_n 0, 1) := by decide +kernel
theorem dX11_is_49 : decode cX11_is 49 = .ok (.getfield 18, 3) := by decide +kernel
theorem dX11_is_52 : decode cX11_is 52 = .ok (.iconst 1, 1) := by decide +kernel
theorem dX11_is_53 : decode cX11_is 53 = .ok (.isub, 1) := by decide +kernel
theorem dX11_is_54 : decode cX11_is 54 = .ok (.istore_n 3, 1) := by decide +kernel
theorem dX11_is_55 : decode cX11_is 55 = .ok (.iload_n 3, 1) := by decide +kernel
theorem dX11_is_56 : decode cX11_is 56 = .ok (.ifCond .lt 58, 3) := by decide +kernel
theorem dX11_is_59 : decode cX11_is 59 = .ok (.aload_n 0, 1) := by decide +kernel
theorem dX11_is_60 : decode cX11_is 60 = .ok (.getfield 15, 3) := by decide +kernel
theorem dX11_is_63 : decode cX11_is 63 = .ok (.iload_n 3, 1) := by decide +kernel
theorem dX11_is_64 : decode cX11_is 64 = .ok (.aload_n 0, 1) := by decide +kernel
theorem dX11_is_65 : decode cX11_is 65 = .ok (.getfield 9, 3) := by decide +kernel
theorem dX11_is_68 : decode cX11_is 68 = .ok (.iload_n 3, 1) := by decide +kernel
theorem dX11_is_69 : decode cX11_is 69 = .ok (.iaload, 1) := by decide +kernel
theorem dX11_is_70 : decode cX11_is 70 = .ok (.aload_n 0, 1) := by decide +kernel
theorem dX11_is_71 : decode cX11_is 71 = .ok (.getfield 28, 3) := by decide +kernel
theorem dX11_is_74 : decode cX11_is 74 = .ok (.ishl, 1) := by decide +kernel
theorem dX11_is_75 : decode cX11_is 75 = .ok (.aload_n 0, 1) := by decide +kernel
theorem dX11_is_76 : decode cX11_is 76 = .ok (.getfield 28, 3) := by decide +kernel
theorem dX11_is_79 : decode cX11_is 79 = .ok (.ifCond .le 26, 3) := by decide +kernel
theorem dX11_is_82 : decode cX11_is 82 = .ok (.iload_n 3, 1) := by decide +kernel
theorem dX11_is_83 : decode cX11_is 83 = .ok (.ifCond .le 22, 3) := by decide +kernel
theorem dX11_is_86 : decode cX11_is 86 = .ok (.aload_n 0, 1) := by decide +kernel
theorem dX11_is_87 : decode cX11_is 87 = .ok (.getfield 9, 3) := by decide +kernel
theorem dX11_is_90 : decode cX11_is 90 = .ok (.iload_n 3, 1) := by decide +kernel
theorem dX11_is_91 : decode cX11_is 91 = .ok (.iconst 1, 1) := by decide +kernel
theorem dX11_is_92 : decode cX11_is 92 = .ok (.isub, 1) := by decide +kernel
theorem dX11_is_93 : decode cX11_is 93 = .ok (.iaload, 1) := by decide +kernel
theorem dX11_is_94 : decode cX11_is 94 = .ok (.bipush 32, 2) := by decide +kernel
theorem dX11_is_96 : decode cX11_is 96 = .ok (.aload_n 0, 1) := by decide +kernel
theorem dX11_is_97 : decode cX11_is 97 = .ok (.getfield 28, 3) := by decide +kernel
theorem dX11_is_100 : decode cX11_is 100 = .ok (.isub, 1) := by decide +kernel
theorem dX11_is_101 : decode cX11_is 101 = .ok (.iushr, 1) := by decide +kernel
theorem dX11_is_102 : decode cX11_is 102 = .ok (.goto 4, 3) := by decide +kernel
theorem dX11_is_105 : decode cX11_is 105 = .ok (.iconst 0, 1) := by decide +kernel
theorem dX11_is_106 : decode cX11_is 106 = .ok (.ior, 1) := by decide +kernel
theorem dX11_is_107 : decode cX11_is 107 = .ok (.iastore, 1) := by decide +kernel
theorem dX11_is_108 : decode cX11_is 108 = .ok (.iinc 3 (-1), 3) := by decide +kernel
theorem dX11_is_111 : decode cX11_is 111 = .ok (.goto (-56), 3) := by decide +kernel
theorem dX11_is_114 : decode cX11_is 114 = .ok (.return_, 1) := by decide +kernel
abbrev cX11_bits : ByteArray := prog_16_method_3_code
def yX11_bits : MethodName := ⟨RX11, "bits", "()I"⟩
theorem dX11_bits_0 : decode cX11_bits 0 = .ok (.bipush 32, 2) := by decide +kernel
theorem dX11_bits_2 : decode cX11_bits 2 = .ok (.aload_n 0, 1) := by decide +kernel
theorem dX11_bits_3 : decode cX11_bits 3 = .ok (.getfield 18, 3) := by decide +kernel
theorem dX11_bits_6 : decode cX11_bits 6 = .ok (.imul, 1) := by decide +kernel
theorem dX11_bits_7 : decode cX11_bits 7 = .ok (.aload_n 0, 1) := by decide +kernel
theorem dX11_bits_8 : decode cX11_bits 8 = .ok (.getfield 28, 3) := by decide +kernel
theorem dX11_bits_11 : decode cX11_bits 11 = .ok (.isub, 1) := by decide +kernel
theorem dX11_bits_12 : decode cX11_bits 12 = .ok (.ireturn, 1) := by decide +kernel
theorem q117 : (Jvm.Cond.initialized "VeilMintModel$Mod") ∈ lw_all := lw_g (lw_at lw_m1 20 rfl) rfl
theorem q1332 : (Jvm.Cond.instantiable "VeilMintModel$Mod" (4 : Nat)) ∈ lw_all := lw_g (lw_at lw_m6 35 rfl) rfl
theorem q1334 : (Jvm.Cond.instanceMethod ({ cls := "VeilMintModel$Mod", name := "<init>", desc := "()V" } : Jvm.MethodName)) ∈ lw_all := lw_g (lw_at lw_m6 37 rfl) rfl
theorem q1335 : (Jvm.Cond.code ({ cls := "VeilMintModel$Mod", name := "<init>", desc := "()V" } : Jvm.MethodName) prog_16_method_1_code (1 : Nat) (Option.none : Option Jvm.ClassFile.FieldType)) ∈ lw_all := lw_g (lw_at lw_m6 38 rfl) rfl
theorem q1336 : (Jvm.Cond.methodLink "VeilMintModel$Mod" (3 : Nat) ({ cls := "java/lang/Object", name := "<init>", desc := "()V" } : Jvm.MethodName)) ∈ lw_all := lw_g (lw_at lw_m6 39 rfl) rfl
theorem q1337 : (Jvm.Cond.fieldLink "VeilMintModel$Mod" (9 : Nat) "VeilMintModel$Mod" "m" "[I") ∈ lw_all := lw_g (lw_at lw_m6 40 rfl) rfl
theorem q1339 : (Jvm.Cond.fieldLink "VeilMintModel$Mod" (15 : Nat) "VeilMintModel$Mod" "high" "[I") ∈ lw_all := lw_g (lw_at lw_m6 42 rfl) rfl
theorem q1341 : (Jvm.Cond.fieldLink "VeilMintModel$Mod" (18 : Nat) "VeilMintModel$Mod" "n" "I") ∈ lw_all := lw_g (lw_at lw_m6 44 rfl) rfl
theorem q1343 : (Jvm.Cond.fieldLink "VeilMintModel$Mod" (28 : Nat) "VeilMintModel$Mod" "shift" "I") ∈ lw_all := lw_g (lw_at lw_m6 46 rfl) rfl
theorem q1345 : (Jvm.Cond.laysFinal "VeilMintModel$Mod" "VeilMintModel$Mod" "m" "[I") ∈ lw_all := lw_g (lw_at lw_m6 48 rfl) rfl
theorem q1346 : (Jvm.Cond.soleField "VeilMintModel$Mod" "m") ∈ lw_all := lw_g (lw_at lw_m6 49 rfl) rfl
theorem q1347 : (Jvm.Cond.laysFinal "VeilMintModel$Mod" "VeilMintModel$Mod" "high" "[I") ∈ lw_all := lw_g (lw_at lw_m6 50 rfl) rfl
theorem q1348 : (Jvm.Cond.soleField "VeilMintModel$Mod" "high") ∈ lw_all := lw_g (lw_at lw_m6 51 rfl) rfl
theorem q1349 : (Jvm.Cond.lays "VeilMintModel$Mod" "VeilMintModel$Mod" "n" "I") ∈ lw_all := lw_g (lw_at lw_m6 52 rfl) rfl
theorem q1350 : (Jvm.Cond.soleField "VeilMintModel$Mod" "n") ∈ lw_all := lw_g (lw_at lw_m6 53 rfl) rfl
theorem q1351 : (Jvm.Cond.lays "VeilMintModel$Mod" "VeilMintModel$Mod" "shift" "I") ∈ lw_all := lw_g (lw_at lw_m6 54 rfl) rfl
theorem q1352 : (Jvm.Cond.soleField "VeilMintModel$Mod" "shift") ∈ lw_all := lw_g (lw_at lw_m6 55 rfl) rfl
theorem q1353 : (Jvm.Cond.superclass "VeilMintModel$Mod" "java/lang/Object") ∈ lw_all := lw_g (lw_at lw_m6 56 rfl) rfl
theorem q1380 : (Jvm.Cond.instanceMethod ({ cls := "VeilMintModel$Mod", name := "is", desc := "([II)V" } : Jvm.MethodName)) ∈ lw_all := lw_g (lw_at lw_m6 83 rfl) rfl
theorem q1381 : (Jvm.Cond.selects "VeilMintModel$Mod" ({ cls := "VeilMintModel$Mod", name := "is", desc := "([II)V" } : Jvm.MethodName) ({ cls := "VeilMintModel$Mod", name := "is", desc := "([II)V" } : Jvm.MethodName)) ∈ lw_all := lw_g (lw_at lw_m6 84 rfl) rfl
theorem q1382 : (Jvm.Cond.code ({ cls := "VeilMintModel$Mod", name := "is", desc := "([II)V" } : Jvm.MethodName) prog_16_method_2_code (4 : Nat) (Option.none : Option Jvm.ClassFile.FieldType)) ∈ lw_all := lw_g (lw_at lw_m6 85 rfl) rfl
theorem q1383 : (Jvm.Cond.methodLink "VeilMintModel$Mod" (22 : Nat) ({ cls := "java/lang/Integer", name := "numberOfLeadingZeros", desc := "(I)I" } : Jvm.MethodName)) ∈ lw_all := lw_g (lw_at lw_m6 86 rfl) rfl
theorem q1980 : (Jvm.Cond.instanceMethod ({ cls := "VeilMintModel$Mod", name := "bits", desc := "()I" } : Jvm.MethodName)) ∈ lw_all := lw_g (lw_at lw_m8 203 rfl) rfl
theorem q1981 : (Jvm.Cond.selects "VeilMintModel$Mod" ({ cls := "VeilMintModel$Mod", name := "bits", desc := "()I" } : Jvm.MethodName) ({ cls := "VeilMintModel$Mod", name := "bits", desc := "()I" } : Jvm.MethodName)) ∈ lw_all := lw_g (lw_at lw_m8 204 rfl) rfl
theorem q1982 : (Jvm.Cond.code ({ cls := "VeilMintModel$Mod", name := "bits", desc := "()I" } : Jvm.MethodName) prog_16_method_3_code (1 : Nat) (Option.some Jvm.ClassFile.FieldType.int)) ∈ lw_all := lw_g (lw_at lw_m8 205 rfl) rfl
theorem q2151 : (Jvm.Cond.castable "VeilMintModel$Mod" "java/lang/Object") ∈ lw_tbl := lw_at lw_m9 134 rfl
theorem in_X11 : ∀ w ∈ wsX110, w ∈ lw_all := lw_in wsX110 [1345, 1347, 1349, 1351] (by decide +kernel) (by decide +kernel)
/-! VeilMintModel$Spot -/
set_option maxRecDepth 100000
def RX12 : String := "VeilMintModel$Spot"
def TX12 : u_T := fun k => match k with
  | 0 => ("VeilMintModel$Spot", "x", "[I", true)
  | 1 => ("VeilMintModel$Spot", "y", "[I", true)
  | _ => ("VeilMintModel$Spot", "none", "Z", false)
def tyX12 : Nat → FieldType := fun k => match k with
  | 0 => .array .int
  | 1 => .array .int
  | _ => .boolean
abbrev wsX120 : List Cond := u_ws RX12 TX12 3
theorem nmX12 : ∀ a, a < 3 → ∀ b, b < 3 → a ≠ b → (TX12 a).2.1 ≠ (TX12 b).2.1 := by decide +kernel
theorem tyX12_ok : ∀ k, k < 3 → parseFieldDescriptor (TX12 k).2.2.1 = some (tyX12 k) := by decide +kernel
abbrev cX12_init : ByteArray := prog_17_method_1_code
def yX12_init : MethodName := ⟨RX12, "<init>", "()V"⟩
theorem dX12_init_0 : decode cX12_init 0 = .ok (.aload_n 0, 1) := by decide +kernel
theorem dX12_init_1 : decode cX12_init 1 = .ok (.invokespecial 3, 3) := by decide +kernel
theorem dX12_init_4 : decode cX12_init 4 = .ok (.aload_n 0, 1) := by decide +kernel
theorem dX12_init_5 : decode cX12_init 5 = .ok (.bipush 12, 2) := by decide +kernel
theorem dX12_init_7 : decode cX12_init 7 = .ok (.newarray .int, 2) := by decide +kernel
theorem dX12_init_9 : decode cX12_init 9 = .ok (.putfield 9, 3) := by decide +kernel
theorem dX12_init_12 : decode cX12_init 12 = .ok (.aload_n 0, 1) := by decide +kernel
theorem dX12_init_13 : decode cX12_init 13 = .ok (.bipush 12, 2) := by decide +kernel
theorem dX12_init_15 : decode cX12_init 15 = .ok (.newarray .int, 2) := by decide +kernel
theorem dX12_init_17 : decode cX12_init 17 = .ok (.putfield 15, 3) := by decide +kernel
theorem dX12_init_20 : decode cX12_init 20 = .ok (.return_, 1) := by decide +kernel
abbrev cX12_is : ByteArray := prog_17_method_2_code
def yX12_is : MethodName := ⟨RX12, "is", "(LVeilMintModel$Spot;)V"⟩
theorem dX12_is_0 : decode cX12_is 0 = .ok (.aload_n 1, 1) := by decide +kernel
theorem dX12_is_1 : decode cX12_is 1 = .ok (.getfield 9, 3) := by decide +kernel
theorem dX12_is_4 : decode cX12_is 4 = .ok (.aload_n 0, 1) := by decide +kernel
theorem dX12_is_5 : decode cX12_is 5 = .ok (.getfield 9, 3) := by decide +kernel
theorem dX12_is_8 : decode cX12_is 8 = .ok (.bipush 12, 2) := by decide +kernel
theorem dX12_is_10 : decode cX12_is 10 = .ok (.invokestatic 18, 3) := by decide +kernel
theorem dX12_is_13 : decode cX12_is 13 = .ok (.aload_n 1, 1) := by decide +kernel
theorem dX12_is_14 : decode cX12_is 14 = .ok (.getfield 15, 3) := by decide +kernel
theorem dX12_is_17 : decode cX12_is 17 = .ok (.aload_n 0, 1) := by decide +kernel
theorem dX12_is_18 : decode cX12_is 18 = .ok (.getfield 15, 3) := by decide +kernel
theorem dX12_is_21 : decode cX12_is 21 = .ok (.bipush 12, 2) := by decide +kernel
theorem dX12_is_23 : decode cX12_is 23 = .ok (.invokestatic 18, 3) := by decide +kernel
theorem dX12_is_26 : decode cX12_is 26 = .ok (.aload_n 0, 1) := by decide +kernel
theorem dX12_is_27 : decode cX12_is 27 = .ok (.aload_n 1, 1) := by decide +kernel
theorem dX12_is_28 : decode cX12_is 28 = .ok (.getfield 22, 3) := by decide +kernel
theorem dX12_is_31 : decode cX12_is 31 = .ok (.putfield 22, 3) := by decide +kernel
theorem dX12_is_34 : decode cX12_is 34 = .ok (.return_, 1) := by decide +kernel
theorem q118 : (Jvm.Cond.initialized "VeilMintModel$Spot") ∈ lw_all := lw_g (lw_at lw_m1 21 rfl) rfl
theorem q1355 : (Jvm.Cond.instantiable "VeilMintModel$Spot" (3 : Nat)) ∈ lw_all := lw_g (lw_at lw_m6 58 rfl) rfl
theorem q1357 : (Jvm.Cond.instanceMethod ({ cls := "VeilMintModel$Spot", name := "<init>", desc := "()V" } : Jvm.MethodName)) ∈ lw_all := lw_g (lw_at lw_m6 60 rfl) rfl
theorem q1358 : (Jvm.Cond.code ({ cls := "VeilMintModel$Spot", name := "<init>", desc := "()V" } : Jvm.MethodName) prog_17_method_1_code (1 : Nat) (Option.none : Option Jvm.ClassFile.FieldType)) ∈ lw_all := lw_g (lw_at lw_m6 61 rfl) rfl
theorem q1359 : (Jvm.Cond.methodLink "VeilMintModel$Spot" (3 : Nat) ({ cls := "java/lang/Object", name := "<init>", desc := "()V" } : Jvm.MethodName)) ∈ lw_all := lw_g (lw_at lw_m6 62 rfl) rfl
theorem q1360 : (Jvm.Cond.fieldLink "VeilMintModel$Spot" (9 : Nat) "VeilMintModel$Spot" "x" "[I") ∈ lw_all := lw_g (lw_at lw_m6 63 rfl) rfl
theorem q1362 : (Jvm.Cond.fieldLink "VeilMintModel$Spot" (15 : Nat) "VeilMintModel$Spot" "y" "[I") ∈ lw_all := lw_g (lw_at lw_m6 65 rfl) rfl
theorem q1364 : (Jvm.Cond.fieldLink "VeilMintModel$Spot" (22 : Nat) "VeilMintModel$Spot" "none" "Z") ∈ lw_all := lw_g (lw_at lw_m6 67 rfl) rfl
theorem q1366 : (Jvm.Cond.laysFinal "VeilMintModel$Spot" "VeilMintModel$Spot" "x" "[I") ∈ lw_all := lw_g (lw_at lw_m6 69 rfl) rfl
theorem q1367 : (Jvm.Cond.soleField "VeilMintModel$Spot" "x") ∈ lw_all := lw_g (lw_at lw_m6 70 rfl) rfl
theorem q1368 : (Jvm.Cond.laysFinal "VeilMintModel$Spot" "VeilMintModel$Spot" "y" "[I") ∈ lw_all := lw_g (lw_at lw_m6 71 rfl) rfl
theorem q1369 : (Jvm.Cond.soleField "VeilMintModel$Spot" "y") ∈ lw_all := lw_g (lw_at lw_m6 72 rfl) rfl
theorem q1370 : (Jvm.Cond.lays "VeilMintModel$Spot" "VeilMintModel$Spot" "none" "Z") ∈ lw_all := lw_g (lw_at lw_m6 73 rfl) rfl
theorem q1371 : (Jvm.Cond.soleField "VeilMintModel$Spot" "none") ∈ lw_all := lw_g (lw_at lw_m6 74 rfl) rfl
theorem q1372 : (Jvm.Cond.superclass "VeilMintModel$Spot" "java/lang/Object") ∈ lw_all := lw_g (lw_at lw_m6 75 rfl) rfl
theorem q1748 : (Jvm.Cond.instanceMethod ({ cls := "VeilMintModel$Spot", name := "is", desc := "(LVeilMintModel$Spot;)V" } : Jvm.MethodName)) ∈ lw_all := lw_g (lw_at lw_m7 211 rfl) rfl
theorem q1749 : (Jvm.Cond.selects "VeilMintModel$Spot" ({ cls := "VeilMintModel$Spot", name := "is", desc := "(LVeilMintModel$Spot;)V" } : Jvm.MethodName) ({ cls := "VeilMintModel$Spot", name := "is", desc := "(LVeilMintModel$Spot;)V" } : Jvm.MethodName)) ∈ lw_all := lw_g (lw_at lw_m7 212 rfl) rfl
theorem q1750 : (Jvm.Cond.code ({ cls := "VeilMintModel$Spot", name := "is", desc := "(LVeilMintModel$Spot;)V" } : Jvm.MethodName) prog_17_method_2_code (2 : Nat) (Option.none : Option Jvm.ClassFile.FieldType)) ∈ lw_all := lw_g (lw_at lw_m7 213 rfl) rfl
theorem q1751 : (Jvm.Cond.methodLinkNest "VeilMintModel$Spot" (18 : Nat) ({ cls := "VeilMintModel", name := "copy", desc := "([I[II)V" } : Jvm.MethodName) "VeilMintModel") ∈ lw_tbl := lw_at lw_m7 214 rfl
theorem q2152 : (Jvm.Cond.castable "VeilMintModel$Spot" "java/lang/Object") ∈ lw_tbl := lw_at lw_m9 135 rfl
theorem in_X12 : ∀ w ∈ wsX120, w ∈ lw_all := lw_in wsX120 [1366, 1368, 1370] (by decide +kernel) (by decide +kernel)
/-! VeilMint$Key -/
set_option maxRecDepth 100000
def RX13 : String := "VeilMint$Key"
abbrev cX13_init : ByteArray := prog_8_method_1_code
def yX13_init : MethodName := ⟨RX13, "<init>", "(I)V"⟩
theorem dX13_init_0 : decode cX13_init 0 = .ok (.aload_n 0, 1) := by decide +kernel
theorem dX13_init_1 : decode cX13_init 1 = .ok (.invokespecial 1, 3) := by decide +kernel
theorem dX13_init_4 : decode cX13_init 4 = .ok (.aload_n 0, 1) := by decide +kernel
theorem dX13_init_5 : decode cX13_init 5 = .ok (.bipush 32, 2) := by decide +kernel
theorem dX13_init_7 : decode cX13_init 7 = .ok (.newarray .byte, 2) := by decide +kernel
theorem dX13_init_9 : decode cX13_init 9 = .ok (.putfield 7, 3) := by decide +kernel
theorem dX13_init_12 : decode cX13_init 12 = .ok (.aload_n 0, 1) := by decide +kernel
theorem dX13_init_13 : decode cX13_init 13 = .ok (.iconst 1, 1) := by decide +kernel
theorem dX13_init_14 : decode cX13_init 14 = .ok (.putfield 13, 3) := by decide +kernel
theorem dX13_init_17 : decode cX13_init 17 = .ok (.aload_n 0, 1) := by decide +kernel
theorem dX13_init_18 : decode cX13_init 18 = .ok (.iload_n 1, 1) := by decide +kernel
theorem dX13_init_19 : decode cX13_init 19 = .ok (.putfield 17, 3) := by decide +kernel
theorem dX13_init_22 : decode cX13_init 22 = .ok (.return_, 1) := by decide +kernel
theorem q119 : (Jvm.Cond.initialized "VeilMint$Key") ∈ lw_all := lw_g (lw_at lw_m1 22 rfl) rfl
theorem q609 : (Jvm.Cond.instanceMethod ({ cls := "VeilMint$Key", name := "<init>", desc := "(I)V" } : Jvm.MethodName)) ∈ lw_all := lw_g (lw_at lw_m3 32 rfl) rfl
theorem q610 : (Jvm.Cond.code ({ cls := "VeilMint$Key", name := "<init>", desc := "(I)V" } : Jvm.MethodName) prog_8_method_1_code (2 : Nat) (Option.none : Option Jvm.ClassFile.FieldType)) ∈ lw_all := lw_g (lw_at lw_m3 33 rfl) rfl
theorem q611 : (Jvm.Cond.methodLink "VeilMint$Key" (1 : Nat) ({ cls := "java/lang/Object", name := "<init>", desc := "()V" } : Jvm.MethodName)) ∈ lw_all := lw_g (lw_at lw_m3 34 rfl) rfl
theorem q698 : (Jvm.Cond.fieldLink "VeilMint$Key" (7 : Nat) "VeilMint$Key" "id" "[B") ∈ lw_all := lw_g (lw_at lw_m3 121 rfl) rfl
theorem q700 : (Jvm.Cond.fieldLink "VeilMint$Key" (17 : Nat) "VeilMint$Key" "type" "I") ∈ lw_all := lw_g (lw_at lw_m3 123 rfl) rfl
theorem q702 : (Jvm.Cond.fieldLink "VeilMint$Key" (13 : Nat) "VeilMint$Key" "live" "Z") ∈ lw_all := lw_g (lw_at lw_m3 125 rfl) rfl
theorem q735 : (Jvm.Cond.soleField "VeilMint$Key" "id") ∈ lw_all := lw_g (lw_at lw_m3 158 rfl) rfl
theorem q737 : (Jvm.Cond.soleField "VeilMint$Key" "type") ∈ lw_all := lw_g (lw_at lw_m3 160 rfl) rfl
theorem q739 : (Jvm.Cond.soleField "VeilMint$Key" "live") ∈ lw_all := lw_g (lw_at lw_m3 162 rfl) rfl
theorem q805 : (Jvm.Cond.declares ({ cls := "VeilMint$Key", name := "publish", desc := "([B)V" } : Jvm.MethodName)) ∈ lw_tbl := lw_at lw_m3 228 rfl
theorem q806 : (Jvm.Cond.sameMethod "VeilMint$Key" "VeilMint$Key" "publish" "([B)V") ∈ lw_all := lw_g (lw_at lw_m3 229 rfl) rfl
theorem q841 : (Jvm.Cond.declares ({ cls := "VeilMint$Key", name := "publics", desc := "()I" } : Jvm.MethodName)) ∈ lw_tbl := lw_at lw_m4 24 rfl
theorem q842 : (Jvm.Cond.sameMethod "VeilMint$Key" "VeilMint$Key" "publics" "()I") ∈ lw_all := lw_g (lw_at lw_m4 25 rfl) rfl
theorem q915 : (Jvm.Cond.declares ({ cls := "VeilMint$Key", name := "blind", desc := "()I" } : Jvm.MethodName)) ∈ lw_tbl := lw_at lw_m4 98 rfl
theorem q916 : (Jvm.Cond.sameMethod "VeilMint$Key" "VeilMint$Key" "blind" "()I") ∈ lw_all := lw_g (lw_at lw_m4 99 rfl) rfl
theorem q925 : (Jvm.Cond.declares ({ cls := "VeilMint$Key", name := "blinds", desc := "([B[BI[BI)[I" } : Jvm.MethodName)) ∈ lw_tbl := lw_at lw_m4 108 rfl
theorem q926 : (Jvm.Cond.sameMethod "VeilMint$Key" "VeilMint$Key" "blinds" "([B[BI[BI)[I") ∈ lw_all := lw_g (lw_at lw_m4 109 rfl) rfl
theorem q1080 : (Jvm.Cond.declares ({ cls := "VeilMint$Key", name := "blinded", desc := "()I" } : Jvm.MethodName)) ∈ lw_tbl := lw_at lw_m5 23 rfl
theorem q1081 : (Jvm.Cond.sameMethod "VeilMint$Key" "VeilMint$Key" "blinded" "()I") ∈ lw_all := lw_g (lw_at lw_m5 24 rfl) rfl
theorem q1101 : (Jvm.Cond.declares ({ cls := "VeilMint$Key", name := "chance", desc := "()I" } : Jvm.MethodName)) ∈ lw_tbl := lw_at lw_m5 44 rfl
theorem q1102 : (Jvm.Cond.sameMethod "VeilMint$Key" "VeilMint$Key" "chance" "()I") ∈ lw_all := lw_g (lw_at lw_m5 45 rfl) rfl
theorem q1110 : (Jvm.Cond.declares ({ cls := "VeilMint$Key", name := "issues", desc := "([BII[B)V" } : Jvm.MethodName)) ∈ lw_tbl := lw_at lw_m5 53 rfl
theorem q1111 : (Jvm.Cond.sameMethod "VeilMint$Key" "VeilMint$Key" "issues" "([BII[B)V") ∈ lw_all := lw_g (lw_at lw_m5 54 rfl) rfl
theorem q1158 : (Jvm.Cond.declares ({ cls := "VeilMint$Key", name := "answers", desc := "(I)I" } : Jvm.MethodName)) ∈ lw_tbl := lw_at lw_m5 101 rfl
theorem q1159 : (Jvm.Cond.sameMethod "VeilMint$Key" "VeilMint$Key" "answers" "(I)I") ∈ lw_all := lw_g (lw_at lw_m5 102 rfl) rfl
theorem q1179 : (Jvm.Cond.declares ({ cls := "VeilMint$Key", name := "proved", desc := "()I" } : Jvm.MethodName)) ∈ lw_tbl := lw_at lw_m5 122 rfl
theorem q1180 : (Jvm.Cond.sameMethod "VeilMint$Key" "VeilMint$Key" "proved" "()I") ∈ lw_all := lw_g (lw_at lw_m5 123 rfl) rfl
theorem q1188 : (Jvm.Cond.declares ({ cls := "VeilMint$Key", name := "isRight", desc := "([BI[BI)Z" } : Jvm.MethodName)) ∈ lw_tbl := lw_at lw_m5 131 rfl
theorem q1189 : (Jvm.Cond.sameMethod "VeilMint$Key" "VeilMint$Key" "isRight" "([BI[BI)Z") ∈ lw_all := lw_g (lw_at lw_m5 132 rfl) rfl
theorem q1302 : (Jvm.Cond.declares ({ cls := "VeilMint$Key", name := "finishes", desc := "([LVeilMint$Asking;II[B[B)V" } : Jvm.MethodName)) ∈ lw_tbl := lw_at lw_m6 5 rfl
theorem q1303 : (Jvm.Cond.sameMethod "VeilMint$Key" "VeilMint$Key" "finishes" "([LVeilMint$Asking;II[B[B)V") ∈ lw_all := lw_g (lw_at lw_m6 6 rfl) rfl
/-! VeilMint$Asking -/
set_option maxRecDepth 100000
def RX16 : String := "VeilMint$Asking"
def TX16 : u_T := fun k => match k with
  | 0 => ("VeilMint$Asking", "key", "LVeilMint$Key;", true)
  | 1 => ("VeilMint$Asking", "input", "[B", true)
  | 2 => ("VeilMint$Asking", "kept", "[I", true)
  | _ => ("VeilMint$Asking", "open", "Z", false)
def tyX16 : Nat → FieldType := fun k => match k with
  | 0 => .object "VeilMint$Key"
  | 1 => .array .byte
  | 2 => .array .int
  | _ => .boolean
abbrev wsX160 : List Cond := u_ws RX16 TX16 4
theorem nmX16 : ∀ a, a < 4 → ∀ b, b < 4 → a ≠ b → (TX16 a).2.1 ≠ (TX16 b).2.1 := by decide +kernel
theorem tyX16_ok : ∀ k, k < 4 → parseFieldDescriptor (TX16 k).2.2.1 = some (tyX16 k) := by decide +kernel
abbrev cX16_init : ByteArray := prog_2_method_1_code
def yX16_init : MethodName := ⟨RX16, "<init>", "(LVeilMint$Key;[B[I)V"⟩
theorem dX16_init_0 : decode cX16_init 0 = .ok (.aload_n 0, 1) := by decide +kernel
theorem dX16_init_1 : decode cX16_init 1 = .ok (.invokespecial 1, 3) := by decide +kernel
theorem dX16_init_4 : decode cX16_init 4 = .ok (.aload_n 0, 1) := by decide +kernel
theorem dX16_init_5 : decode cX16_init 5 = .ok (.iconst 1, 1) := by decide +kernel
theorem dX16_init_6 : decode cX16_init 6 = .ok (.putfield 7, 3) := by decide +kernel
theorem dX16_init_9 : decode cX16_init 9 = .ok (.aload_n 0, 1) := by decide +kernel
theorem dX16_init_10 : decode cX16_init 10 = .ok (.aload_n 1, 1) := by decide +kernel
theorem dX16_init_11 : decode cX16_init 11 = .ok (.putfield 13, 3) := by decide +kernel
theorem dX16_init_14 : decode cX16_init 14 = .ok (.aload_n 0, 1) := by decide +kernel
theorem dX16_init_15 : decode cX16_init 15 = .ok (.aload_n 2, 1) := by decide +kernel
theorem dX16_init_16 : decode cX16_init 16 = .ok (.putfield 17, 3) := by decide +kernel
theorem dX16_init_19 : decode cX16_init 19 = .ok (.aload_n 0, 1) := by decide +kernel
theorem dX16_init_20 : decode cX16_init 20 = .ok (.aload_n 3, 1) := by decide +kernel
theorem dX16_init_21 : decode cX16_init 21 = .ok (.putfield 21, 3) := by decide +kernel
theorem dX16_init_24 : decode cX16_init 24 = .ok (.return_, 1) := by decide +kernel
theorem q124 : (Jvm.Cond.initialized "VeilMint$Asking") ∈ lw_all := lw_g (lw_at lw_m1 27 rfl) rfl
theorem q923 : (Jvm.Cond.instantiable "VeilMint$Asking" (4 : Nat)) ∈ lw_all := lw_g (lw_at lw_m4 106 rfl) rfl
theorem q1057 : (Jvm.Cond.instanceMethod ({ cls := "VeilMint$Asking", name := "<init>", desc := "(LVeilMint$Key;[B[I)V" } : Jvm.MethodName)) ∈ lw_all := lw_g (lw_at lw_m5 0 rfl) rfl
theorem q1058 : (Jvm.Cond.code ({ cls := "VeilMint$Asking", name := "<init>", desc := "(LVeilMint$Key;[B[I)V" } : Jvm.MethodName) prog_2_method_1_code (4 : Nat) (Option.none : Option Jvm.ClassFile.FieldType)) ∈ lw_all := lw_g (lw_at lw_m5 1 rfl) rfl
theorem q1059 : (Jvm.Cond.methodLink "VeilMint$Asking" (1 : Nat) ({ cls := "java/lang/Object", name := "<init>", desc := "()V" } : Jvm.MethodName)) ∈ lw_all := lw_g (lw_at lw_m5 2 rfl) rfl
theorem q1060 : (Jvm.Cond.fieldLink "VeilMint$Asking" (13 : Nat) "VeilMint$Asking" "key" "LVeilMint$Key;") ∈ lw_all := lw_g (lw_at lw_m5 3 rfl) rfl
theorem q1062 : (Jvm.Cond.fieldLink "VeilMint$Asking" (17 : Nat) "VeilMint$Asking" "input" "[B") ∈ lw_all := lw_g (lw_at lw_m5 5 rfl) rfl
theorem q1065 : (Jvm.Cond.fieldLink "VeilMint$Asking" (21 : Nat) "VeilMint$Asking" "kept" "[I") ∈ lw_all := lw_g (lw_at lw_m5 8 rfl) rfl
theorem q1068 : (Jvm.Cond.fieldLink "VeilMint$Asking" (7 : Nat) "VeilMint$Asking" "open" "Z") ∈ lw_all := lw_g (lw_at lw_m5 11 rfl) rfl
theorem q1070 : (Jvm.Cond.laysFinal "VeilMint$Asking" "VeilMint$Asking" "key" "LVeilMint$Key;") ∈ lw_all := lw_g (lw_at lw_m5 13 rfl) rfl
theorem q1071 : (Jvm.Cond.soleField "VeilMint$Asking" "key") ∈ lw_all := lw_g (lw_at lw_m5 14 rfl) rfl
theorem q1072 : (Jvm.Cond.laysFinal "VeilMint$Asking" "VeilMint$Asking" "input" "[B") ∈ lw_all := lw_g (lw_at lw_m5 15 rfl) rfl
theorem q1073 : (Jvm.Cond.soleField "VeilMint$Asking" "input") ∈ lw_all := lw_g (lw_at lw_m5 16 rfl) rfl
theorem q1074 : (Jvm.Cond.laysFinal "VeilMint$Asking" "VeilMint$Asking" "kept" "[I") ∈ lw_all := lw_g (lw_at lw_m5 17 rfl) rfl
theorem q1075 : (Jvm.Cond.soleField "VeilMint$Asking" "kept") ∈ lw_all := lw_g (lw_at lw_m5 18 rfl) rfl
theorem q1076 : (Jvm.Cond.lays "VeilMint$Asking" "VeilMint$Asking" "open" "Z") ∈ lw_all := lw_g (lw_at lw_m5 19 rfl) rfl
theorem q1077 : (Jvm.Cond.soleField "VeilMint$Asking" "open") ∈ lw_all := lw_g (lw_at lw_m5 20 rfl) rfl
theorem q1078 : (Jvm.Cond.superclass "VeilMint$Asking" "java/lang/Object") ∈ lw_all := lw_g (lw_at lw_m5 21 rfl) rfl
theorem q2156 : (Jvm.Cond.castable "VeilMint$Asking" "java/lang/Object") ∈ lw_tbl := lw_at lw_m9 139 rfl
theorem in_X16 : ∀ w ∈ wsX160, w ∈ lw_all := lw_in wsX160 [1070, 1072, 1074, 1076] (by decide +kernel) (by decide +kernel)
/-! the law's own entry -/
set_option maxRecDepth 100000
abbrev cL_law : ByteArray := code
theorem dL_law_0 : decode cL_law 0 = .ok (.new 8, 3) := by decide +kernel
theorem dL_law_3 : decode cL_law 3 = .ok (.dup, 1) := by decide +kernel
theorem dL_law_4 : decode cL_law 4 = .ok (.invokespecial 26, 3) := by decide +kernel
theorem dL_law_7 : decode cL_law 7 = .ok (.astore_n 1, 1) := by decide +kernel
theorem dL_law_8 : decode cL_law 8 = .ok (.new 27, 3) := by decide +kernel
theorem dL_law_11 : decode cL_law 11 = .ok (.dup, 1) := by decide +kernel
theorem dL_law_12 : decode cL_law 12 = .ok (.invokespecial 29, 3) := by decide +kernel
theorem dL_law_15 : decode cL_law 15 = .ok (.astore_n 2, 1) := by decide +kernel
theorem dL_law_16 : decode cL_law 16 = .ok (.iconst 1, 1) := by decide +kernel
theorem dL_law_17 : decode cL_law 17 = .ok (.newarray .long, 2) := by decide +kernel
theorem dL_law_19 : decode cL_law 19 = .ok (.astore_n 3, 1) := by decide +kernel
theorem dL_law_20 : decode cL_law 20 = .ok (.iconst 0, 1) := by decide +kernel
theorem dL_law_21 : decode cL_law 21 = .ok (.istore 4, 2) := by decide +kernel
theorem dL_law_23 : decode cL_law 23 = .ok (.iload 4, 2) := by decide +kernel
theorem dL_law_25 : decode cL_law 25 = .ok (.aload_n 0, 1) := by decide +kernel
theorem dL_law_26 : decode cL_law 26 = .ok (.arraylength, 1) := by decide +kernel
theorem dL_law_27 : decode cL_law 27 = .ok (.bipush 6, 2) := by decide +kernel
theorem dL_law_29 : decode cL_law 29 = .ok (.isub, 1) := by decide +kernel
theorem dL_law_30 : decode cL_law 30 = .ok (.if_icmp .gt 738, 3) := by decide +kernel
theorem dL_law_33 : decode cL_law 33 = .ok (.aload_n 0, 1) := by decide +kernel
theorem dL_law_34 : decode cL_law 34 = .ok (.iload 4, 2) := by decide +kernel
theorem dL_law_36 : decode cL_law 36 = .ok (.iaload, 1) := by decide +kernel
theorem dL_law_37 : decode cL_law 37 = .ok (.bipush 31, 2) := by decide +kernel
theorem dL_law_39 : decode cL_law 39 = .ok (.iand, 1) := by decide +kernel
theorem dL_law_40 : decode cL_law 40 = .ok (.tableswitch 722 0 18 #[92, 165, 190, 227, 252, 265, 290, 353, 421, 434, 459, 472, 497, 553, 621, 634, 659, 672, 697], 92) := by decide +kernel
theorem dL_law_132 : decode cL_law 132 = .ok (.aload_n 1, 1) := by decide +kernel
theorem dL_law_133 : decode cL_law 133 = .ok (.aload_n 0, 1) := by decide +kernel
theorem dL_law_134 : decode cL_law 134 = .ok (.iload 4, 2) := by decide +kernel
theorem dL_law_136 : decode cL_law 136 = .ok (.iconst 1, 1) := by decide +kernel
theorem dL_law_137 : decode cL_law 137 = .ok (.iadd, 1) := by decide +kernel
theorem dL_law_138 : decode cL_law 138 = .ok (.iaload, 1) := by decide +kernel
theorem dL_law_139 : decode cL_law 139 = .ok (.aload_n 0, 1) := by decide +kernel
theorem dL_law_140 : decode cL_law 140 = .ok (.iload 4, 2) := by decide +kernel
theorem dL_law_142 : decode cL_law 142 = .ok (.iconst 2, 1) := by decide +kernel
theorem dL_law_143 : decode cL_law 143 = .ok (.iadd, 1) := by decide +kernel
theorem dL_law_144 : decode cL_law 144 = .ok (.iaload, 1) := by decide +kernel
theorem dL_law_145 : decode cL_law 145 = .ok (.aload_n 0, 1) := by decide +kernel
theorem dL_law_146 : decode cL_law 146 = .ok (.iload 4, 2) := by decide +kernel
theorem dL_law_148 : decode cL_law 148 = .ok (.iconst 3, 1) := by decide +kernel
theorem dL_law_149 : decode cL_law 149 = .ok (.iadd, 1) := by decide +kernel
theorem dL_law_150 : decode cL_law 150 = .ok (.iaload, 1) := by decide +kernel
theorem dL_law_151 : decode cL_law 151 = .ok (.aload_n 0, 1) := by decide +kernel
theorem dL_law_152 : decode cL_law 152 = .ok (.iload 4, 2) := by decide +kernel
theorem dL_law_154 : decode cL_law 154 = .ok (.iconst 4, 1) := by decide +kernel
theorem dL_law_155 : decode cL_law 155 = .ok (.iadd, 1) := by decide +kernel
theorem dL_law_156 : decode cL_law 156 = .ok (.iaload, 1) := by decide +kernel
theorem dL_law_157 : decode cL_law 157 = .ok (.aload_n 0, 1) := by decide +kernel
theorem dL_law_158 : decode cL_law 158 = .ok (.iload 4, 2) := by decide +kernel
theorem dL_law_160 : decode cL_law 160 = .ok (.iconst 5, 1) := by decide +kernel
theorem dL_law_161 : decode cL_law 161 = .ok (.iadd, 1) := by decide +kernel
theorem dL_law_162 : decode cL_law 162 = .ok (.iaload, 1) := by decide +kernel
theorem dL_law_163 : decode cL_law 163 = .ok (.invokevirtual 30, 3) := by decide +kernel
theorem dL_law_166 : decode cL_law 166 = .ok (.aload_n 2, 1) := by decide +kernel
theorem dL_law_167 : decode cL_law 167 = .ok (.aload_n 0, 1) := by decide +kernel
theorem dL_law_168 : decode cL_law 168 = .ok (.iload 4, 2) := by decide +kernel
theorem dL_law_170 : decode cL_law 170 = .ok (.iconst 1, 1) := by decide +kernel
theorem dL_law_171 : decode cL_law 171 = .ok (.iadd, 1) := by decide +kernel
theorem dL_law_172 : decode cL_law 172 = .ok (.iaload, 1) := by decide +kernel
theorem dL_law_173 : decode cL_law 173 = .ok (.aload_n 0, 1) := by decide +kernel
theorem dL_law_174 : decode cL_law 174 = .ok (.iload 4, 2) := by decide +kernel
theorem dL_law_176 : decode cL_law 176 = .ok (.iconst 2, 1) := by decide +kernel
theorem dL_law_177 : decode cL_law 177 = .ok (.iadd, 1) := by decide +kernel
theorem dL_law_178 : decode cL_law 178 = .ok (.iaload, 1) := by decide +kernel
theorem dL_law_179 : decode cL_law 179 = .ok (.aload_n 0, 1) := by decide +kernel
theorem dL_law_180 : decode cL_law 180 = .ok (.iload 4, 2) := by decide +kernel
theorem dL_law_182 : decode cL_law 182 = .ok (.iconst 3, 1) := by decide +kernel
theorem dL_law_183 : decode cL_law 183 = .ok (.iadd, 1) := by decide +kernel
theorem dL_law_184 : decode cL_law 184 = .ok (.iaload, 1) := by decide +kernel
theorem dL_law_185 : decode cL_law 185 = .ok (.aload_n 0, 1) := by decide +kernel
theorem dL_law_186 : decode cL_law 186 = .ok (.iload 4, 2) := by decide +kernel
theorem dL_law_188 : decode cL_law 188 = .ok (.iconst 4, 1) := by decide +kernel
theorem dL_law_189 : decode cL_law 189 = .ok (.iadd, 1) := by decide +kernel
theorem dL_law_190 : decode cL_law 190 = .ok (.iaload, 1) := by decide +kernel
theorem dL_law_191 : decode cL_law 191 = .ok (.aload_n 0, 1) := by decide +kernel
theorem dL_law_192 : decode cL_law 192 = .ok (.iload 4, 2) := by decide +kernel
theorem dL_law_194 : decode cL_law 194 = .ok (.iconst 5, 1) := by decide +kernel
theorem dL_law_195 : decode cL_law 195 = .ok (.iadd, 1) := by decide +kernel
theorem dL_law_196 : decode cL_law 196 = .ok (.iaload, 1) := by decide +kernel
theorem dL_law_197 : decode cL_law 197 = .ok (.invokevirtual 34, 3) := by decide +kernel
theorem dL_law_200 : decode cL_law 200 = .ok (.if_icmp .eq 562, 3) := by decide +kernel
theorem dL_law_203 : decode cL_law 203 = .ok (.iconst 0, 1) := by decide +kernel
theorem dL_law_204 : decode cL_law 204 = .ok (.ireturn, 1) := by decide +kernel
theorem dL_law_205 : decode cL_law 205 = .ok (.aload_n 1, 1) := by decide +kernel
theorem dL_law_206 : decode cL_law 206 = .ok (.aload_n 0, 1) := by decide +kernel
theorem dL_law_207 : decode cL_law 207 = .ok (.iload 4, 2) := by decide +kernel
theorem dL_law_209 : decode cL_law 209 = .ok (.iconst 1, 1) := by decide +kernel
theorem dL_law_210 : decode cL_law 210 = .ok (.iadd, 1) := by decide +kernel
theorem dL_law_211 : decode cL_law 211 = .ok (.iaload, 1) := by decide +kernel
theorem dL_law_212 : decode cL_law 212 = .ok (.invokevirtual 35, 3) := by decide +kernel
theorem dL_law_215 : decode cL_law 215 = .ok (.aload_n 2, 1) := by decide +kernel
theorem dL_law_216 : decode cL_law 216 = .ok (.aload_n 0, 1) := by decide +kernel
theorem dL_law_217 : decode cL_law 217 = .ok (.iload 4, 2) := by decide +kernel
theorem dL_law_219 : decode cL_law 219 = .ok (.iconst 1, 1) := by decide +kernel
theorem dL_law_220 : decode cL_law 220 = .ok (.iadd, 1) := by decide +kernel
theorem dL_law_221 : decode cL_law 221 = .ok (.iaload, 1) := by decide +kernel
theorem dL_law_222 : decode cL_law 222 = .ok (.invokevirtual 38, 3) := by decide +kernel
theorem dL_law_225 : decode cL_law 225 = .ok (.if_icmp .eq 537, 3) := by decide +kernel
theorem dL_law_228 : decode cL_law 228 = .ok (.iconst 0, 1) := by decide +kernel
theorem dL_law_229 : decode cL_law 229 = .ok (.ireturn, 1) := by decide +kernel
theorem dL_law_230 : decode cL_law 230 = .ok (.aload_n 1, 1) := by decide +kernel
theorem dL_law_231 : decode cL_law 231 = .ok (.aload_n 0, 1) := by decide +kernel
theorem dL_law_232 : decode cL_law 232 = .ok (.iload 4, 2) := by decide +kernel
theorem dL_law_234 : decode cL_law 234 = .ok (.iconst 1, 1) := by decide +kernel
theorem dL_law_235 : decode cL_law 235 = .ok (.iadd, 1) := by decide +kernel
theorem dL_law_236 : decode cL_law 236 = .ok (.iaload, 1) := by decide +kernel
theorem dL_law_237 : decode cL_law 237 = .ok (.aload_n 0, 1) := by decide +kernel
theorem dL_law_238 : decode cL_law 238 = .ok (.iload 4, 2) := by decide +kernel
theorem dL_law_240 : decode cL_law 240 = .ok (.iconst 2, 1) := by decide +kernel
theorem dL_law_241 : decode cL_law 241 = .ok (.iadd, 1) := by decide +kernel
theorem dL_law_242 : decode cL_law 242 = .ok (.iaload, 1) := by decide +kernel
theorem dL_law_243 : decode cL_law 243 = .ok (.invokevirtual 39, 3) := by decide +kernel
theorem dL_law_246 : decode cL_law 246 = .ok (.aload_n 2, 1) := by decide +kernel
theorem dL_law_247 : decode cL_law 247 = .ok (.aload_n 0, 1) := by decide +kernel
theorem dL_law_248 : decode cL_law 248 = .ok (.iload 4, 2) := by decide +kernel
theorem dL_law_250 : decode cL_law 250 = .ok (.iconst 1, 1) := by decide +kernel
theorem dL_law_251 : decode cL_law 251 = .ok (.iadd, 1) := by decide +kernel
theorem dL_law_252 : decode cL_law 252 = .ok (.iaload, 1) := by decide +kernel
theorem dL_law_253 : decode cL_law 253 = .ok (.aload_n 0, 1) := by decide +kernel
theorem dL_law_254 : decode cL_law 254 = .ok (.iload 4, 2) := by decide +kernel
theorem dL_law_256 : decode cL_law 256 = .ok (.iconst 2, 1) := by decide +kernel
theorem dL_law_257 : decode cL_law 257 = .ok (.iadd, 1) := by decide +kernel
theorem dL_law_258 : decode cL_law 258 = .ok (.iaload, 1) := by decide +kernel
theorem dL_law_259 : decode cL_law 259 = .ok (.invokevirtual 42, 3) := by decide +kernel
theorem dL_law_262 : decode cL_law 262 = .ok (.if_icmp .eq 500, 3) := by decide +kernel
theorem dL_law_265 : decode cL_law 265 = .ok (.iconst 0, 1) := by decide +kernel
theorem dL_law_266 : decode cL_law 266 = .ok (.ireturn, 1) := by decide +kernel
theorem dL_law_267 : decode cL_law 267 = .ok (.aload_n 1, 1) := by decide +kernel
theorem dL_law_268 : decode cL_law 268 = .ok (.aload_n 0, 1) := by decide +kernel
theorem dL_law_269 : decode cL_law 269 = .ok (.iload 4, 2) := by decide +kernel
theorem dL_law_271 : decode cL_law 271 = .ok (.iconst 1, 1) := by decide +kernel
theorem dL_law_272 : decode cL_law 272 = .ok (.iadd, 1) := by decide +kernel
theorem dL_law_273 : decode cL_law 273 = .ok (.iaload, 1) := by decide +kernel
theorem dL_law_274 : decode cL_law 274 = .ok (.invokevirtual 43, 3) := by decide +kernel
theorem dL_law_277 : decode cL_law 277 = .ok (.aload_n 2, 1) := by decide +kernel
theorem dL_law_278 : decode cL_law 278 = .ok (.aload_n 0, 1) := by decide +kernel
theorem dL_law_279 : decode cL_law 279 = .ok (.iload 4, 2) := by decide +kernel
theorem dL_law_281 : decode cL_law 281 = .ok (.iconst 1, 1) := by decide +kernel
theorem dL_law_282 : decode cL_law 282 = .ok (.iadd, 1) := by decide +kernel
theorem dL_law_283 : decode cL_law 283 = .ok (.iaload, 1) := by decide +kernel
theorem dL_law_284 : decode cL_law 284 = .ok (.invokevirtual 46, 3) := by decide +kernel
theorem dL_law_287 : decode cL_law 287 = .ok (.if_icmp .eq 475, 3) := by decide +kernel
theorem dL_law_290 : decode cL_law 290 = .ok (.iconst 0, 1) := by decide +kernel
theorem dL_law_291 : decode cL_law 291 = .ok (.ireturn, 1) := by decide +kernel
theorem dL_law_292 : decode cL_law 292 = .ok (.aload_n 1, 1) := by decide +kernel
theorem dL_law_293 : decode cL_law 293 = .ok (.invokevirtual 47, 3) := by decide +kernel
theorem dL_law_296 : decode cL_law 296 = .ok (.aload_n 2, 1) := by decide +kernel
theorem dL_law_297 : decode cL_law 297 = .ok (.invokevirtual 51, 3) := by decide +kernel
theorem dL_law_300 : decode cL_law 300 = .ok (.if_icmp .eq 462, 3) := by decide +kernel
theorem dL_law_303 : decode cL_law 303 = .ok (.iconst 0, 1) := by decide +kernel
theorem dL_law_304 : decode cL_law 304 = .ok (.ireturn, 1) := by decide +kernel
theorem dL_law_305 : decode cL_law 305 = .ok (.aload_n 1, 1) := by decide +kernel
theorem dL_law_306 : decode cL_law 306 = .ok (.aload_n 0, 1) := by decide +kernel
theorem dL_law_307 : decode cL_law 307 = .ok (.iload 4, 2) := by decide +kernel
theorem dL_law_309 : decode cL_law 309 = .ok (.iconst 1, 1) := by decide +kernel
theorem dL_law_310 : decode cL_law 310 = .ok (.iadd, 1) := by decide +kernel
theorem dL_law_311 : decode cL_law 311 = .ok (.iaload, 1) := by decide +kernel
theorem dL_law_312 : decode cL_law 312 = .ok (.invokevirtual 52, 3) := by decide +kernel
theorem dL_law_315 : decode cL_law 315 = .ok (.aload_n 2, 1) := by decide +kernel
theorem dL_law_316 : decode cL_law 316 = .ok (.aload_n 0, 1) := by decide +kernel
theorem dL_law_317 : decode cL_law 317 = .ok (.iload 4, 2) := by decide +kernel
theorem dL_law_319 : decode cL_law 319 = .ok (.iconst 1, 1) := by decide +kernel
theorem dL_law_320 : decode cL_law 320 = .ok (.iadd, 1) := by decide +kernel
theorem dL_law_321 : decode cL_law 321 = .ok (.iaload, 1) := by decide +kernel
theorem dL_law_322 : decode cL_law 322 = .ok (.invokevirtual 55, 3) := by decide +kernel
theorem dL_law_325 : decode cL_law 325 = .ok (.if_icmp .eq 437, 3) := by decide +kernel
theorem dL_law_328 : decode cL_law 328 = .ok (.iconst 0, 1) := by decide +kernel
theorem dL_law_329 : decode cL_law 329 = .ok (.ireturn, 1) := by decide +kernel
theorem dL_law_330 : decode cL_law 330 = .ok (.aload_n 1, 1) := by decide +kernel
theorem dL_law_331 : decode cL_law 331 = .ok (.aload_n 0, 1) := by decide +kernel
theorem dL_law_332 : decode cL_law 332 = .ok (.iload 4, 2) := by decide +kernel
theorem dL_law_334 : decode cL_law 334 = .ok (.iconst 1, 1) := by decide +kernel
theorem dL_law_335 : decode cL_law 335 = .ok (.iadd, 1) := by decide +kernel
theorem dL_law_336 : decode cL_law 336 = .ok (.iaload, 1) := by decide +kernel
theorem dL_law_337 : decode cL_law 337 = .ok (.aload_n 3, 1) := by decide +kernel
theorem dL_law_338 : decode cL_law 338 = .ok (.invokestatic 56, 3) := by decide +kernel
theorem dL_law_341 : decode cL_law 341 = .ok (.istore 5, 2) := by decide +kernel
theorem dL_law_343 : decode cL_law 343 = .ok (.aload_n 2, 1) := by decide +kernel
theorem dL_law_344 : decode cL_law 344 = .ok (.aload_n 0, 1) := by decide +kernel
theorem dL_law_345 : decode cL_law 345 = .ok (.iload 4, 2) := by decide +kernel
theorem dL_law_347 : decode cL_law 347 = .ok (.iconst 1, 1) := by decide +kernel
theorem dL_law_348 : decode cL_law 348 = .ok (.iadd, 1) := by decide +kernel
theorem dL_law_349 : decode cL_law 349 = .ok (.iaload, 1) := by decide +kernel
theorem dL_law_350 : decode cL_law 350 = .ok (.invokevirtual 61, 3) := by decide +kernel
theorem dL_law_353 : decode cL_law 353 = .ok (.istore 6, 2) := by decide +kernel
theorem dL_law_355 : decode cL_law 355 = .ok (.aload_n 2, 1) := by decide +kernel
theorem dL_law_356 : decode cL_law 356 = .ok (.invokevirtual 62, 3) := by decide +kernel
theorem dL_law_359 : decode cL_law 359 = .ok (.iload 5, 2) := by decide +kernel
theorem dL_law_361 : decode cL_law 361 = .ok (.if_icmp .eq 5, 3) := by decide +kernel
theorem dL_law_364 : decode cL_law 364 = .ok (.iconst 0, 1) := by decide +kernel
theorem dL_law_365 : decode cL_law 365 = .ok (.ireturn, 1) := by decide +kernel
theorem dL_law_366 : decode cL_law 366 = .ok (.iload 5, 2) := by decide +kernel
theorem dL_law_368 : decode cL_law 368 = .ok (.ifCond .ne 22, 3) := by decide +kernel
theorem dL_law_371 : decode cL_law 371 = .ok (.aload_n 3, 1) := by decide +kernel
theorem dL_law_372 : decode cL_law 372 = .ok (.iconst 0, 1) := by decide +kernel
theorem dL_law_373 : decode cL_law 373 = .ok (.laload, 1) := by decide +kernel
theorem dL_law_374 : decode cL_law 374 = .ok (.iload 6, 2) := by decide +kernel
theorem dL_law_376 : decode cL_law 376 = .ok (.ifCond .eq 7, 3) := by decide +kernel
theorem dL_law_379 : decode cL_law 379 = .ok (.lconst 1, 1) := by decide +kernel
theorem dL_law_380 : decode cL_law 380 = .ok (.goto 4, 3) := by decide +kernel
theorem dL_law_383 : decode cL_law 383 = .ok (.lconst 0, 1) := by decide +kernel
theorem dL_law_384 : decode cL_law 384 = .ok (.lcmp, 1) := by decide +kernel
theorem dL_law_385 : decode cL_law 385 = .ok (.ifCond .eq 5, 3) := by decide +kernel
theorem dL_law_388 : decode cL_law 388 = .ok (.iconst 0, 1) := by decide +kernel
theorem dL_law_389 : decode cL_law 389 = .ok (.ireturn, 1) := by decide +kernel
theorem dL_law_390 : decode cL_law 390 = .ok (.goto 372, 3) := by decide +kernel
theorem dL_law_393 : decode cL_law 393 = .ok (.aload_n 1, 1) := by decide +kernel
theorem dL_law_394 : decode cL_law 394 = .ok (.aload_n 0, 1) := by decide +kernel
theorem dL_law_395 : decode cL_law 395 = .ok (.iload 4, 2) := by decide +kernel
theorem dL_law_397 : decode cL_law 397 = .ok (.iconst 1, 1) := by decide +kernel
theorem dL_law_398 : decode cL_law 398 = .ok (.iadd, 1) := by decide +kernel
theorem dL_law_399 : decode cL_law 399 = .ok (.iaload, 1) := by decide +kernel
theorem dL_law_400 : decode cL_law 400 = .ok (.aload_n 0, 1) := by decide +kernel
theorem dL_law_401 : decode cL_law 401 = .ok (.iload 4, 2) := by decide +kernel
theorem dL_law_403 : decode cL_law 403 = .ok (.iconst 2, 1) := by decide +kernel
theorem dL_law_404 : decode cL_law 404 = .ok (.iadd, 1) := by decide +kernel
theorem dL_law_405 : decode cL_law 405 = .ok (.iaload, 1) := by decide +kernel
theorem dL_law_406 : decode cL_law 406 = .ok (.aload_n 3, 1) := by decide +kernel
theorem dL_law_407 : decode cL_law 407 = .ok (.invokestatic 65, 3) := by decide +kernel
theorem dL_law_410 : decode cL_law 410 = .ok (.istore 5, 2) := by decide +kernel
theorem dL_law_412 : decode cL_law 412 = .ok (.aload_n 2, 1) := by decide +kernel
theorem dL_law_413 : decode cL_law 413 = .ok (.aload_n 0, 1) := by decide +kernel
theorem dL_law_414 : decode cL_law 414 = .ok (.iload 4, 2) := by decide +kernel
theorem dL_law_416 : decode cL_law 416 = .ok (.iconst 1, 1) := by decide +kernel
theorem dL_law_417 : decode cL_law 417 = .ok (.iadd, 1) := by decide +kernel
theorem dL_law_418 : decode cL_law 418 = .ok (.iaload, 1) := by decide +kernel
theorem dL_law_419 : decode cL_law 419 = .ok (.aload_n 0, 1) := by decide +kernel
theorem dL_law_420 : decode cL_law 420 = .ok (.iload 4, 2) := by decide +kernel
theorem dL_law_422 : decode cL_law 422 = .ok (.iconst 2, 1) := by decide +kernel
theorem dL_law_423 : decode cL_law 423 = .ok (.iadd, 1) := by decide +kernel
theorem dL_law_424 : decode cL_law 424 = .ok (.iaload, 1) := by decide +kernel
theorem dL_law_425 : decode cL_law 425 = .ok (.invokevirtual 68, 3) := by decide +kernel
theorem dL_law_428 : decode cL_law 428 = .ok (.istore 6, 2) := by decide +kernel
theorem dL_law_430 : decode cL_law 430 = .ok (.aload_n 2, 1) := by decide +kernel
theorem dL_law_431 : decode cL_law 431 = .ok (.invokevirtual 62, 3) := by decide +kernel
theorem dL_law_434 : decode cL_law 434 = .ok (.iload 5, 2) := by decide +kernel
theorem dL_law_436 : decode cL_law 436 = .ok (.if_icmp .eq 5, 3) := by decide +kernel
theorem dL_law_439 : decode cL_law 439 = .ok (.iconst 0, 1) := by decide +kernel
theorem dL_law_440 : decode cL_law 440 = .ok (.ireturn, 1) := by decide +kernel
theorem dL_law_441 : decode cL_law 441 = .ok (.iload 5, 2) := by decide +kernel
theorem dL_law_443 : decode cL_law 443 = .ok (.ifCond .ne 15, 3) := by decide +kernel
theorem dL_law_446 : decode cL_law 446 = .ok (.aload_n 3, 1) := by decide +kernel
theorem dL_law_447 : decode cL_law 447 = .ok (.iconst 0, 1) := by decide +kernel
theorem dL_law_448 : decode cL_law 448 = .ok (.laload, 1) := by decide +kernel
theorem dL_law_449 : decode cL_law 449 = .ok (.iload 6, 2) := by decide +kernel
theorem dL_law_451 : decode cL_law 451 = .ok (.i2l, 1) := by decide +kernel
theorem dL_law_452 : decode cL_law 452 = .ok (.lcmp, 1) := by decide +kernel
theorem dL_law_453 : decode cL_law 453 = .ok (.ifCond .eq 5, 3) := by decide +kernel
theorem dL_law_456 : decode cL_law 456 = .ok (.iconst 0, 1) := by decide +kernel
theorem dL_law_457 : decode cL_law 457 = .ok (.ireturn, 1) := by decide +kernel
theorem dL_law_458 : decode cL_law 458 = .ok (.goto 304, 3) := by decide +kernel
theorem dL_law_461 : decode cL_law 461 = .ok (.aload_n 1, 1) := by decide +kernel
theorem dL_law_462 : decode cL_law 462 = .ok (.invokevirtual 69, 3) := by decide +kernel
theorem dL_law_465 : decode cL_law 465 = .ok (.aload_n 2, 1) := by decide +kernel
theorem dL_law_466 : decode cL_law 466 = .ok (.invokevirtual 72, 3) := by decide +kernel
theorem dL_law_469 : decode cL_law 469 = .ok (.if_icmp .eq 293, 3) := by decide +kernel
theorem dL_law_472 : decode cL_law 472 = .ok (.iconst 0, 1) := by decide +kernel
theorem dL_law_473 : decode cL_law 473 = .ok (.ireturn, 1) := by decide +kernel
theorem dL_law_474 : decode cL_law 474 = .ok (.aload_n 1, 1) := by decide +kernel
theorem dL_law_475 : decode cL_law 475 = .ok (.aload_n 0, 1) := by decide +kernel
theorem dL_law_476 : decode cL_law 476 = .ok (.iload 4, 2) := by decide +kernel
theorem dL_law_478 : decode cL_law 478 = .ok (.iconst 1, 1) := by decide +kernel
theorem dL_law_479 : decode cL_law 479 = .ok (.iadd, 1) := by decide +kernel
theorem dL_law_480 : decode cL_law 480 = .ok (.iaload, 1) := by decide +kernel
theorem dL_law_481 : decode cL_law 481 = .ok (.invokevirtual 73, 3) := by decide +kernel
theorem dL_law_484 : decode cL_law 484 = .ok (.aload_n 2, 1) := by decide +kernel
theorem dL_law_485 : decode cL_law 485 = .ok (.aload_n 0, 1) := by decide +kernel
theorem dL_law_486 : decode cL_law 486 = .ok (.iload 4, 2) := by decide +kernel
theorem dL_law_488 : decode cL_law 488 = .ok (.iconst 1, 1) := by decide +kernel
theorem dL_law_489 : decode cL_law 489 = .ok (.iadd, 1) := by decide +kernel
theorem dL_law_490 : decode cL_law 490 = .ok (.iaload, 1) := by decide +kernel
theorem dL_law_491 : decode cL_law 491 = .ok (.invokevirtual 76, 3) := by decide +kernel
theorem dL_law_494 : decode cL_law 494 = .ok (.if_icmp .eq 268, 3) := by decide +kernel
theorem dL_law_497 : decode cL_law 497 = .ok (.iconst 0, 1) := by decide +kernel
theorem dL_law_498 : decode cL_law 498 = .ok (.ireturn, 1) := by decide +kernel
theorem dL_law_499 : decode cL_law 499 = .ok (.aload_n 1, 1) := by decide +kernel
theorem dL_law_500 : decode cL_law 500 = .ok (.invokevirtual 77, 3) := by decide +kernel
theorem dL_law_503 : decode cL_law 503 = .ok (.aload_n 2, 1) := by decide +kernel
theorem dL_law_504 : decode cL_law 504 = .ok (.invokevirtual 80, 3) := by decide +kernel
theorem dL_law_507 : decode cL_law 507 = .ok (.if_icmp .eq 255, 3) := by decide +kernel
theorem dL_law_510 : decode cL_law 510 = .ok (.iconst 0, 1) := by decide +kernel
theorem dL_law_511 : decode cL_law 511 = .ok (.ireturn, 1) := by decide +kernel
theorem dL_law_512 : decode cL_law 512 = .ok (.aload_n 1, 1) := by decide +kernel
theorem dL_law_513 : decode cL_law 513 = .ok (.aload_n 0, 1) := by decide +kernel
theorem dL_law_514 : decode cL_law 514 = .ok (.iload 4, 2) := by decide +kernel
theorem dL_law_516 : decode cL_law 516 = .ok (.iconst 1, 1) := by decide +kernel
theorem dL_law_517 : decode cL_law 517 = .ok (.iadd, 1) := by decide +kernel
theorem dL_law_518 : decode cL_law 518 = .ok (.iaload, 1) := by decide +kernel
theorem dL_law_519 : decode cL_law 519 = .ok (.invokevirtual 81, 3) := by decide +kernel
theorem dL_law_522 : decode cL_law 522 = .ok (.aload_n 2, 1) := by decide +kernel
theorem dL_law_523 : decode cL_law 523 = .ok (.aload_n 0, 1) := by decide +kernel
theorem dL_law_524 : decode cL_law 524 = .ok (.iload 4, 2) := by decide +kernel
theorem dL_law_526 : decode cL_law 526 = .ok (.iconst 1, 1) := by decide +kernel
theorem dL_law_527 : decode cL_law 527 = .ok (.iadd, 1) := by decide +kernel
theorem dL_law_528 : decode cL_law 528 = .ok (.iaload, 1) := by decide +kernel
theorem dL_law_529 : decode cL_law 529 = .ok (.invokevirtual 84, 3) := by decide +kernel
theorem dL_law_532 : decode cL_law 532 = .ok (.if_icmp .eq 230, 3) := by decide +kernel
theorem dL_law_535 : decode cL_law 535 = .ok (.iconst 0, 1) := by decide +kernel
theorem dL_law_536 : decode cL_law 536 = .ok (.ireturn, 1) := by decide +kernel
theorem dL_law_537 : decode cL_law 537 = .ok (.aload_n 1, 1) := by decide +kernel
theorem dL_law_538 : decode cL_law 538 = .ok (.aload_n 0, 1) := by decide +kernel
theorem dL_law_539 : decode cL_law 539 = .ok (.iload 4, 2) := by decide +kernel
theorem dL_law_541 : decode cL_law 541 = .ok (.iconst 1, 1) := by decide +kernel
theorem dL_law_542 : decode cL_law 542 = .ok (.iadd, 1) := by decide +kernel
theorem dL_law_543 : decode cL_law 543 = .ok (.iaload, 1) := by decide +kernel
theorem dL_law_544 : decode cL_law 544 = .ok (.aload_n 3, 1) := by decide +kernel
theorem dL_law_545 : decode cL_law 545 = .ok (.invokestatic 85, 3) := by decide +kernel
theorem dL_law_548 : decode cL_law 548 = .ok (.istore 5, 2) := by decide +kernel
theorem dL_law_550 : decode cL_law 550 = .ok (.aload_n 2, 1) := by decide +kernel
theorem dL_law_551 : decode cL_law 551 = .ok (.aload_n 0, 1) := by decide +kernel
theorem dL_law_552 : decode cL_law 552 = .ok (.iload 4, 2) := by decide +kernel
theorem dL_law_554 : decode cL_law 554 = .ok (.iconst 1, 1) := by decide +kernel
theorem dL_law_555 : decode cL_law 555 = .ok (.iadd, 1) := by decide +kernel
theorem dL_law_556 : decode cL_law 556 = .ok (.iaload, 1) := by decide +kernel
theorem dL_law_557 : decode cL_law 557 = .ok (.invokevirtual 87, 3) := by decide +kernel
theorem dL_law_560 : decode cL_law 560 = .ok (.istore 6, 2) := by decide +kernel
theorem dL_law_562 : decode cL_law 562 = .ok (.aload_n 2, 1) := by decide +kernel
theorem dL_law_563 : decode cL_law 563 = .ok (.invokevirtual 62, 3) := by decide +kernel
theorem dL_law_566 : decode cL_law 566 = .ok (.iload 5, 2) := by decide +kernel
theorem dL_law_568 : decode cL_law 568 = .ok (.if_icmp .eq 5, 3) := by decide +kernel
theorem dL_law_571 : decode cL_law 571 = .ok (.iconst 0, 1) := by decide +kernel
theorem dL_law_572 : decode cL_law 572 = .ok (.ireturn, 1) := by decide +kernel
theorem dL_law_573 : decode cL_law 573 = .ok (.iload 5, 2) := by decide +kernel
theorem dL_law_575 : decode cL_law 575 = .ok (.ifCond .ne 15, 3) := by decide +kernel
theorem dL_law_578 : decode cL_law 578 = .ok (.aload_n 3, 1) := by decide +kernel
theorem dL_law_579 : decode cL_law 579 = .ok (.iconst 0, 1) := by decide +kernel
theorem dL_law_580 : decode cL_law 580 = .ok (.laload, 1) := by decide +kernel
theorem dL_law_581 : decode cL_law 581 = .ok (.iload 6, 2) := by decide +kernel
theorem dL_law_583 : decode cL_law 583 = .ok (.i2l, 1) := by decide +kernel
theorem dL_law_584 : decode cL_law 584 = .ok (.lcmp, 1) := by decide +kernel
theorem dL_law_585 : decode cL_law 585 = .ok (.ifCond .eq 5, 3) := by decide +kernel
theorem dL_law_588 : decode cL_law 588 = .ok (.iconst 0, 1) := by decide +kernel
theorem dL_law_589 : decode cL_law 589 = .ok (.ireturn, 1) := by decide +kernel
theorem dL_law_590 : decode cL_law 590 = .ok (.goto 172, 3) := by decide +kernel
theorem dL_law_593 : decode cL_law 593 = .ok (.aload_n 1, 1) := by decide +kernel
theorem dL_law_594 : decode cL_law 594 = .ok (.aload_n 0, 1) := by decide +kernel
theorem dL_law_595 : decode cL_law 595 = .ok (.iload 4, 2) := by decide +kernel
theorem dL_law_597 : decode cL_law 597 = .ok (.iconst 1, 1) := by decide +kernel
theorem dL_law_598 : decode cL_law 598 = .ok (.iadd, 1) := by decide +kernel
theorem dL_law_599 : decode cL_law 599 = .ok (.iaload, 1) := by decide +kernel
theorem dL_law_600 : decode cL_law 600 = .ok (.aload_n 0, 1) := by decide +kernel
theorem dL_law_601 : decode cL_law 601 = .ok (.iload 4, 2) := by decide +kernel
theorem dL_law_603 : decode cL_law 603 = .ok (.iconst 2, 1) := by decide +kernel
theorem dL_law_604 : decode cL_law 604 = .ok (.iadd, 1) := by decide +kernel
theorem dL_law_605 : decode cL_law 605 = .ok (.iaload, 1) := by decide +kernel
theorem dL_law_606 : decode cL_law 606 = .ok (.aload_n 3, 1) := by decide +kernel
theorem dL_law_607 : decode cL_law 607 = .ok (.invokestatic 88, 3) := by decide +kernel
theorem dL_law_610 : decode cL_law 610 = .ok (.istore 5, 2) := by decide +kernel
theorem dL_law_612 : decode cL_law 612 = .ok (.aload_n 2, 1) := by decide +kernel
theorem dL_law_613 : decode cL_law 613 = .ok (.aload_n 0, 1) := by decide +kernel
theorem dL_law_614 : decode cL_law 614 = .ok (.iload 4, 2) := by decide +kernel
theorem dL_law_616 : decode cL_law 616 = .ok (.iconst 1, 1) := by decide +kernel
theorem dL_law_617 : decode cL_law 617 = .ok (.iadd, 1) := by decide +kernel
theorem dL_law_618 : decode cL_law 618 = .ok (.iaload, 1) := by decide +kernel
theorem dL_law_619 : decode cL_law 619 = .ok (.aload_n 0, 1) := by decide +kernel
theorem dL_law_620 : decode cL_law 620 = .ok (.iload 4, 2) := by decide +kernel
theorem dL_law_622 : decode cL_law 622 = .ok (.iconst 2, 1) := by decide +kernel
theorem dL_law_623 : decode cL_law 623 = .ok (.iadd, 1) := by decide +kernel
theorem dL_law_624 : decode cL_law 624 = .ok (.iaload, 1) := by decide +kernel
theorem dL_law_625 : decode cL_law 625 = .ok (.invokevirtual 90, 3) := by decide +kernel
theorem dL_law_628 : decode cL_law 628 = .ok (.istore 6, 2) := by decide +kernel
theorem dL_law_630 : decode cL_law 630 = .ok (.aload_n 2, 1) := by decide +kernel
theorem dL_law_631 : decode cL_law 631 = .ok (.invokevirtual 62, 3) := by decide +kernel
theorem dL_law_634 : decode cL_law 634 = .ok (.iload 5, 2) := by decide +kernel
theorem dL_law_636 : decode cL_law 636 = .ok (.if_icmp .eq 5, 3) := by decide +kernel
theorem dL_law_639 : decode cL_law 639 = .ok (.iconst 0, 1) := by decide +kernel
theorem dL_law_640 : decode cL_law 640 = .ok (.ireturn, 1) := by decide +kernel
theorem dL_law_641 : decode cL_law 641 = .ok (.iload 5, 2) := by decide +kernel
theorem dL_law_643 : decode cL_law 643 = .ok (.ifCond .ne 15, 3) := by decide +kernel
theorem dL_law_646 : decode cL_law 646 = .ok (.aload_n 3, 1) := by decide +kernel
theorem dL_law_647 : decode cL_law 647 = .ok (.iconst 0, 1) := by decide +kernel
theorem dL_law_648 : decode cL_law 648 = .ok (.laload, 1) := by decide +kernel
theorem dL_law_649 : decode cL_law 649 = .ok (.iload 6, 2) := by decide +kernel
theorem dL_law_651 : decode cL_law 651 = .ok (.i2l, 1) := by decide +kernel
theorem dL_law_652 : decode cL_law 652 = .ok (.lcmp, 1) := by decide +kernel
theorem dL_law_653 : decode cL_law 653 = .ok (.ifCond .eq 5, 3) := by decide +kernel
theorem dL_law_656 : decode cL_law 656 = .ok (.iconst 0, 1) := by decide +kernel
theorem dL_law_657 : decode cL_law 657 = .ok (.ireturn, 1) := by decide +kernel
theorem dL_law_658 : decode cL_law 658 = .ok (.goto 104, 3) := by decide +kernel
theorem dL_law_661 : decode cL_law 661 = .ok (.aload_n 1, 1) := by decide +kernel
theorem dL_law_662 : decode cL_law 662 = .ok (.invokevirtual 91, 3) := by decide +kernel
theorem dL_law_665 : decode cL_law 665 = .ok (.aload_n 2, 1) := by decide +kernel
theorem dL_law_666 : decode cL_law 666 = .ok (.invokevirtual 94, 3) := by decide +kernel
theorem dL_law_669 : decode cL_law 669 = .ok (.if_icmp .eq 93, 3) := by decide +kernel
theorem dL_law_672 : decode cL_law 672 = .ok (.iconst 0, 1) := by decide +kernel
theorem dL_law_673 : decode cL_law 673 = .ok (.ireturn, 1) := by decide +kernel
theorem dL_law_674 : decode cL_law 674 = .ok (.aload_n 1, 1) := by decide +kernel
theorem dL_law_675 : decode cL_law 675 = .ok (.aload_n 0, 1) := by decide +kernel
theorem dL_law_676 : decode cL_law 676 = .ok (.iload 4, 2) := by decide +kernel
theorem dL_law_678 : decode cL_law 678 = .ok (.iconst 1, 1) := by decide +kernel
theorem dL_law_679 : decode cL_law 679 = .ok (.iadd, 1) := by decide +kernel
theorem dL_law_680 : decode cL_law 680 = .ok (.iaload, 1) := by decide +kernel
theorem dL_law_681 : decode cL_law 681 = .ok (.invokevirtual 95, 3) := by decide +kernel
theorem dL_law_684 : decode cL_law 684 = .ok (.aload_n 2, 1) := by decide +kernel
theorem dL_law_685 : decode cL_law 685 = .ok (.aload_n 0, 1) := by decide +kernel
theorem dL_law_686 : decode cL_law 686 = .ok (.iload 4, 2) := by decide +kernel
theorem dL_law_688 : decode cL_law 688 = .ok (.iconst 1, 1) := by decide +kernel
theorem dL_law_689 : decode cL_law 689 = .ok (.iadd, 1) := by decide +kernel
theorem dL_law_690 : decode cL_law 690 = .ok (.iaload, 1) := by decide +kernel
theorem dL_law_691 : decode cL_law 691 = .ok (.invokevirtual 98, 3) := by decide +kernel
theorem dL_law_694 : decode cL_law 694 = .ok (.if_icmp .eq 68, 3) := by decide +kernel
theorem dL_law_697 : decode cL_law 697 = .ok (.iconst 0, 1) := by decide +kernel
theorem dL_law_698 : decode cL_law 698 = .ok (.ireturn, 1) := by decide +kernel
theorem dL_law_699 : decode cL_law 699 = .ok (.aload_n 1, 1) := by decide +kernel
theorem dL_law_700 : decode cL_law 700 = .ok (.invokevirtual 99, 3) := by decide +kernel
theorem dL_law_703 : decode cL_law 703 = .ok (.aload_n 2, 1) := by decide +kernel
theorem dL_law_704 : decode cL_law 704 = .ok (.invokevirtual 102, 3) := by decide +kernel
theorem dL_law_707 : decode cL_law 707 = .ok (.if_icmp .eq 55, 3) := by decide +kernel
theorem dL_law_710 : decode cL_law 710 = .ok (.iconst 0, 1) := by decide +kernel
theorem dL_law_711 : decode cL_law 711 = .ok (.ireturn, 1) := by decide +kernel
theorem dL_law_712 : decode cL_law 712 = .ok (.aload_n 1, 1) := by decide +kernel
theorem dL_law_713 : decode cL_law 713 = .ok (.aload_n 0, 1) := by decide +kernel
theorem dL_law_714 : decode cL_law 714 = .ok (.iload 4, 2) := by decide +kernel
theorem dL_law_716 : decode cL_law 716 = .ok (.iconst 1, 1) := by decide +kernel
theorem dL_law_717 : decode cL_law 717 = .ok (.iadd, 1) := by decide +kernel
theorem dL_law_718 : decode cL_law 718 = .ok (.iaload, 1) := by decide +kernel
theorem dL_law_719 : decode cL_law 719 = .ok (.invokevirtual 103, 3) := by decide +kernel
theorem dL_law_722 : decode cL_law 722 = .ok (.aload_n 2, 1) := by decide +kernel
theorem dL_law_723 : decode cL_law 723 = .ok (.aload_n 0, 1) := by decide +kernel
theorem dL_law_724 : decode cL_law 724 = .ok (.iload 4, 2) := by decide +kernel
theorem dL_law_726 : decode cL_law 726 = .ok (.iconst 1, 1) := by decide +kernel
theorem dL_law_727 : decode cL_law 727 = .ok (.iadd, 1) := by decide +kernel
theorem dL_law_728 : decode cL_law 728 = .ok (.iaload, 1) := by decide +kernel
theorem dL_law_729 : decode cL_law 729 = .ok (.invokevirtual 106, 3) := by decide +kernel
theorem dL_law_732 : decode cL_law 732 = .ok (.if_icmp .eq 30, 3) := by decide +kernel
theorem dL_law_735 : decode cL_law 735 = .ok (.iconst 0, 1) := by decide +kernel
theorem dL_law_736 : decode cL_law 736 = .ok (.ireturn, 1) := by decide +kernel
theorem dL_law_737 : decode cL_law 737 = .ok (.aload_n 1, 1) := by decide +kernel
theorem dL_law_738 : decode cL_law 738 = .ok (.aload_n 0, 1) := by decide +kernel
theorem dL_law_739 : decode cL_law 739 = .ok (.iload 4, 2) := by decide +kernel
theorem dL_law_741 : decode cL_law 741 = .ok (.iconst 1, 1) := by decide +kernel
theorem dL_law_742 : decode cL_law 742 = .ok (.iadd, 1) := by decide +kernel
theorem dL_law_743 : decode cL_law 743 = .ok (.iaload, 1) := by decide +kernel
theorem dL_law_744 : decode cL_law 744 = .ok (.invokevirtual 107, 3) := by decide +kernel
theorem dL_law_747 : decode cL_law 747 = .ok (.aload_n 2, 1) := by decide +kernel
theorem dL_law_748 : decode cL_law 748 = .ok (.aload_n 0, 1) := by decide +kernel
theorem dL_law_749 : decode cL_law 749 = .ok (.iload 4, 2) := by decide +kernel
theorem dL_law_751 : decode cL_law 751 = .ok (.iconst 1, 1) := by decide +kernel
theorem dL_law_752 : decode cL_law 752 = .ok (.iadd, 1) := by decide +kernel
theorem dL_law_753 : decode cL_law 753 = .ok (.iaload, 1) := by decide +kernel
theorem dL_law_754 : decode cL_law 754 = .ok (.invokevirtual 110, 3) := by decide +kernel
theorem dL_law_757 : decode cL_law 757 = .ok (.if_icmp .eq 5, 3) := by decide +kernel
theorem dL_law_760 : decode cL_law 760 = .ok (.iconst 0, 1) := by decide +kernel
theorem dL_law_761 : decode cL_law 761 = .ok (.ireturn, 1) := by decide +kernel
theorem dL_law_762 : decode cL_law 762 = .ok (.iinc 4 6, 3) := by decide +kernel
theorem dL_law_765 : decode cL_law 765 = .ok (.goto (-742), 3) := by decide +kernel
theorem dL_law_768 : decode cL_law 768 = .ok (.iconst 1, 1) := by decide +kernel
theorem dL_law_769 : decode cL_law 769 = .ok (.ireturn, 1) := by decide +kernel
