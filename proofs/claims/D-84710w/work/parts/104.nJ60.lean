/-! names: J6_length J6_coder J6_charAt J6_isLatin1 J6_checkIndex J7_charAt (tools/chunk.py) -/
set_option maxRecDepth 100000
theorem q3770 : (Jvm.Cond.fieldLink "java/lang/String" (9 : Nat) "java/lang/String" "value" "[B") ∈ lw_all := lw_g (lw_at lw_m15 214 rfl) rfl
theorem q1010 : (Jvm.Cond.methodLink "java/lang/String" (335 : Nat) ({ cls := "java/lang/String", name := "coder", desc := "()B" } : Jvm.MethodName)) ∈ lw_all := lw_g (lw_at lw_m4 94 rfl) rfl
abbrev cJ6_coder : ByteArray := prog_51_method_152_code
def yJ6_coder : MethodName := ⟨RJ6, "coder", "()B"⟩
theorem q1013 : (Jvm.Cond.code ({ cls := "java/lang/String", name := "coder", desc := "()B" } : Jvm.MethodName) prog_51_method_152_code (1 : Nat) (Option.some Jvm.ClassFile.FieldType.byte)) ∈ lw_all := lw_g (lw_at lw_m4 97 rfl) rfl
def kJ6_coder : xK := (yJ6_coder, cJ6_coder, 1, some .byte, [])
theorem me_J6_coder : xMe kJ6_coder 0 := ⟨q1013, q217, by decide, by decide, by decide +kernel⟩
theorem q1011 : (Jvm.Cond.instanceMethod ({ cls := "java/lang/String", name := "coder", desc := "()B" } : Jvm.MethodName)) ∈ lw_all := lw_g (lw_at lw_m4 95 rfl) rfl
theorem is_J6_coder : Cond.instanceMethod kJ6_coder.y ∈ lw_all := q1011
theorem se_J6_coder : Cond.selects RJ6 kJ6_coder.y kJ6_coder.y ∈ lw_all := q1012
theorem lk_J6_335 : xLk RJ6 335 yJ6_coder := Or.inl q1010
theorem q1014 : (Jvm.Cond.fieldLink "java/lang/String" (38 : Nat) "java/lang/String" "COMPACT_STRINGS" "Z") ∈ lw_all := lw_g (lw_at lw_m4 98 rfl) rfl
theorem q3771 : (Jvm.Cond.fieldLink "java/lang/String" (15 : Nat) "java/lang/String" "coder" "B") ∈ lw_all := lw_g (lw_at lw_m15 215 rfl) rfl
theorem q1020 : (Jvm.Cond.methodLink "java/lang/String" (492 : Nat) ({ cls := "java/lang/String", name := "isLatin1", desc := "()Z" } : Jvm.MethodName)) ∈ lw_all := lw_g (lw_at lw_m4 104 rfl) rfl
abbrev cJ6_isLatin1 : ByteArray := prog_51_method_154_code
def yJ6_isLatin1 : MethodName := ⟨RJ6, "isLatin1", "()Z"⟩
theorem q1023 : (Jvm.Cond.code ({ cls := "java/lang/String", name := "isLatin1", desc := "()Z" } : Jvm.MethodName) prog_51_method_154_code (1 : Nat) (Option.some Jvm.ClassFile.FieldType.boolean)) ∈ lw_all := lw_g (lw_at lw_m4 107 rfl) rfl
def kJ6_isLatin1 : xK := (yJ6_isLatin1, cJ6_isLatin1, 1, some .boolean, [])
theorem me_J6_isLatin1 : xMe kJ6_isLatin1 0 := ⟨q1023, q217, by decide, by decide, by decide +kernel⟩
theorem q1021 : (Jvm.Cond.instanceMethod ({ cls := "java/lang/String", name := "isLatin1", desc := "()Z" } : Jvm.MethodName)) ∈ lw_all := lw_g (lw_at lw_m4 105 rfl) rfl
theorem is_J6_isLatin1 : Cond.instanceMethod kJ6_isLatin1.y ∈ lw_all := q1021
theorem se_J6_isLatin1 : Cond.selects RJ6 kJ6_isLatin1.y kJ6_isLatin1.y ∈ lw_all := q1022
theorem lk_J6_492 : xLk RJ6 492 yJ6_isLatin1 := Or.inl q1020
theorem q1024 : (Jvm.Cond.methodLink "java/lang/String" (495 : Nat) ({ cls := "java/lang/StringLatin1", name := "charAt", desc := "([BI)C" } : Jvm.MethodName)) ∈ lw_all := lw_g (lw_at lw_m4 108 rfl) rfl
abbrev cJ7_charAt : ByteArray := prog_52_method_2_code
def yJ7_charAt : MethodName := ⟨RJ7, "charAt", "([BI)C"⟩
theorem q1026 : (Jvm.Cond.code ({ cls := "java/lang/StringLatin1", name := "charAt", desc := "([BI)C" } : Jvm.MethodName) prog_52_method_2_code (2 : Nat) (Option.some Jvm.ClassFile.FieldType.char)) ∈ lw_all := lw_g (lw_at lw_m4 110 rfl) rfl
theorem q218 : (Jvm.Cond.initialized "java/lang/StringLatin1") ∈ lw_all := lw_g (lw_at lw_m1 22 rfl) rfl
def kJ7_charAt : xK := (yJ7_charAt, cJ7_charAt, 2, some .char, [])
theorem me_J7_charAt : xMe kJ7_charAt 2 := ⟨q1026, q218, by decide, by decide, by decide +kernel⟩
theorem q1025 : (Jvm.Cond.static ({ cls := "java/lang/StringLatin1", name := "charAt", desc := "([BI)C" } : Jvm.MethodName)) ∈ lw_all := lw_g (lw_at lw_m4 109 rfl) rfl
theorem st_J7_charAt : Cond.static kJ7_charAt.y ∈ lw_all := q1025
theorem lk_J6_495 : xLk RJ6 495 yJ7_charAt := Or.inl q1024
theorem q1035 : (Jvm.Cond.methodLink "java/lang/String" (498 : Nat) ({ cls := "java/lang/StringUTF16", name := "charAt", desc := "([BI)C" } : Jvm.MethodName)) ∈ lw_all := lw_g (lw_at lw_m4 119 rfl) rfl
abbrev cJ9_charAt : ByteArray := prog_53_method_83_code
def yJ9_charAt : MethodName := ⟨RJ9, "charAt", "([BI)C"⟩
theorem q1037 : (Jvm.Cond.code ({ cls := "java/lang/StringUTF16", name := "charAt", desc := "([BI)C" } : Jvm.MethodName) prog_53_method_83_code (2 : Nat) (Option.some Jvm.ClassFile.FieldType.char)) ∈ lw_all := lw_g (lw_at lw_m4 121 rfl) rfl
theorem q220 : (Jvm.Cond.initialized "java/lang/StringUTF16") ∈ lw_all := lw_g (lw_at lw_m1 24 rfl) rfl
def kJ9_charAt : xK := (yJ9_charAt, cJ9_charAt, 2, some .char, [])
theorem me_J9_charAt : xMe kJ9_charAt 2 := ⟨q1037, q220, by decide, by decide, by decide +kernel⟩
theorem q1036 : (Jvm.Cond.static ({ cls := "java/lang/StringUTF16", name := "charAt", desc := "([BI)C" } : Jvm.MethodName)) ∈ lw_all := lw_g (lw_at lw_m4 120 rfl) rfl
theorem st_J9_charAt : Cond.static kJ9_charAt.y ∈ lw_all := q1036
theorem lk_J6_498 : xLk RJ6 498 yJ9_charAt := Or.inl q1035
abbrev cJ6_checkIndex : ByteArray := prog_51_method_155_code
def yJ6_checkIndex : MethodName := ⟨RJ6, "checkIndex", "(II)V"⟩
theorem q1029 : (Jvm.Cond.code ({ cls := "java/lang/String", name := "checkIndex", desc := "(II)V" } : Jvm.MethodName) prog_51_method_155_code (2 : Nat) (Option.none : Option Jvm.ClassFile.FieldType)) ∈ lw_all := lw_g (lw_at lw_m4 113 rfl) rfl
def kJ6_checkIndex : xK := (yJ6_checkIndex, cJ6_checkIndex, 2, none, [])
theorem me_J6_checkIndex : xMe kJ6_checkIndex 2 := ⟨q1029, q217, by decide, by decide, by decide +kernel⟩
theorem q1028 : (Jvm.Cond.static ({ cls := "java/lang/String", name := "checkIndex", desc := "(II)V" } : Jvm.MethodName)) ∈ lw_all := lw_g (lw_at lw_m4 112 rfl) rfl
theorem st_J6_checkIndex : Cond.static kJ6_checkIndex.y ∈ lw_all := q1028
theorem q1030 : (Jvm.Cond.fieldLink "java/lang/String" (1053 : Nat) "jdk/internal/util/Preconditions" "SIOOBE_FORMATTER" "Ljava/util/function/BiFunction;") ∈ lw_all := lw_g (lw_at lw_m4 114 rfl) rfl
theorem q1032 : (Jvm.Cond.methodLink "java/lang/String" (1059 : Nat) ({ cls := "jdk/internal/util/Preconditions", name := "checkIndex", desc := "(IILjava/util/function/BiFunction;)I" } : Jvm.MethodName)) ∈ lw_all := lw_g (lw_at lw_m4 116 rfl) rfl
theorem lk_J6_1059 : xLk RJ6 1059 yJ8_checkIndex := Or.inl q1032
theorem q1027 : (Jvm.Cond.methodLink "java/lang/StringLatin1" (9 : Nat) ({ cls := "java/lang/String", name := "checkIndex", desc := "(II)V" } : Jvm.MethodName)) ∈ lw_all := lw_g (lw_at lw_m4 111 rfl) rfl
theorem lk_J7_9 : xLk RJ7 9 yJ6_checkIndex := Or.inl q1027
theorem dJ6_length_0 : decode cJ6_length 0 = .ok (.aload_n 0, 1) := by decide +kernel
theorem dJ6_length_1 : decode cJ6_length 1 = .ok (.getfield 9, 3) := by decide +kernel
theorem dJ6_length_4 : decode cJ6_length 4 = .ok (.arraylength, 1) := by decide +kernel
theorem dJ6_length_5 : decode cJ6_length 5 = .ok (.aload_n 0, 1) := by decide +kernel
theorem dJ6_length_6 : decode cJ6_length 6 = .ok (.invokevirtual 335, 3) := by decide +kernel
theorem dJ6_length_9 : decode cJ6_length 9 = .ok (.ishr, 1) := by decide +kernel
theorem dJ6_length_10 : decode cJ6_length 10 = .ok (.ireturn, 1) := by decide +kernel
theorem dJ6_coder_0 : decode cJ6_coder 0 = .ok (.getstatic 38, 3) := by decide +kernel
theorem dJ6_coder_3 : decode cJ6_coder 3 = .ok (.ifCond .eq 10, 3) := by decide +kernel
theorem dJ6_coder_6 : decode cJ6_coder 6 = .ok (.aload_n 0, 1) := by decide +kernel
theorem dJ6_coder_7 : decode cJ6_coder 7 = .ok (.getfield 15, 3) := by decide +kernel
theorem dJ6_coder_10 : decode cJ6_coder 10 = .ok (.goto 4, 3) := by decide +kernel
theorem dJ6_coder_13 : decode cJ6_coder 13 = .ok (.iconst 1, 1) := by decide +kernel
theorem dJ6_coder_14 : decode cJ6_coder 14 = .ok (.ireturn, 1) := by decide +kernel
theorem dJ6_charAt_0 : decode cJ6_charAt 0 = .ok (.aload_n 0, 1) := by decide +kernel
theorem dJ6_charAt_1 : decode cJ6_charAt 1 = .ok (.invokevirtual 492, 3) := by decide +kernel
theorem dJ6_charAt_4 : decode cJ6_charAt 4 = .ok (.ifCond .eq 12, 3) := by decide +kernel
theorem dJ6_charAt_7 : decode cJ6_charAt 7 = .ok (.aload_n 0, 1) := by decide +kernel
theorem dJ6_charAt_8 : decode cJ6_charAt 8 = .ok (.getfield 9, 3) := by decide +kernel
theorem dJ6_charAt_11 : decode cJ6_charAt 11 = .ok (.iload_n 1, 1) := by decide +kernel
theorem dJ6_charAt_12 : decode cJ6_charAt 12 = .ok (.invokestatic 495, 3) := by decide +kernel
theorem dJ6_charAt_15 : decode cJ6_charAt 15 = .ok (.ireturn, 1) := by decide +kernel
theorem dJ6_charAt_16 : decode cJ6_charAt 16 = .ok (.aload_n 0, 1) := by decide +kernel
theorem dJ6_charAt_17 : decode cJ6_charAt 17 = .ok (.getfield 9, 3) := by decide +kernel
theorem dJ6_charAt_20 : decode cJ6_charAt 20 = .ok (.iload_n 1, 1) := by decide +kernel
theorem dJ6_charAt_21 : decode cJ6_charAt 21 = .ok (.invokestatic 498, 3) := by decide +kernel
theorem dJ6_charAt_24 : decode cJ6_charAt 24 = .ok (.ireturn, 1) := by decide +kernel
theorem dJ6_isLatin1_0 : decode cJ6_isLatin1 0 = .ok (.getstatic 38, 3) := by decide +kernel
theorem dJ6_isLatin1_3 : decode cJ6_isLatin1 3 = .ok (.ifCond .eq 14, 3) := by decide +kernel
theorem dJ6_isLatin1_6 : decode cJ6_isLatin1 6 = .ok (.aload_n 0, 1) := by decide +kernel
theorem dJ6_isLatin1_7 : decode cJ6_isLatin1 7 = .ok (.getfield 15, 3) := by decide +kernel
theorem dJ6_isLatin1_10 : decode cJ6_isLatin1 10 = .ok (.ifCond .ne 7, 3) := by decide +kernel
theorem dJ6_isLatin1_13 : decode cJ6_isLatin1 13 = .ok (.iconst 1, 1) := by decide +kernel
theorem dJ6_isLatin1_14 : decode cJ6_isLatin1 14 = .ok (.goto 4, 3) := by decide +kernel
theorem dJ6_isLatin1_17 : decode cJ6_isLatin1 17 = .ok (.iconst 0, 1) := by decide +kernel
theorem dJ6_isLatin1_18 : decode cJ6_isLatin1 18 = .ok (.ireturn, 1) := by decide +kernel
theorem dJ6_checkIndex_0 : decode cJ6_checkIndex 0 = .ok (.iload_n 0, 1) := by decide +kernel
theorem dJ6_checkIndex_1 : decode cJ6_checkIndex 1 = .ok (.iload_n 1, 1) := by decide +kernel
theorem dJ6_checkIndex_2 : decode cJ6_checkIndex 2 = .ok (.getstatic 1053, 3) := by decide +kernel
theorem dJ6_checkIndex_5 : decode cJ6_checkIndex 5 = .ok (.invokestatic 1059, 3) := by decide +kernel
theorem dJ6_checkIndex_8 : decode cJ6_checkIndex 8 = .ok (.pop, 1) := by decide +kernel
theorem dJ6_checkIndex_9 : decode cJ6_checkIndex 9 = .ok (.return_, 1) := by decide +kernel
theorem dJ7_charAt_0 : decode cJ7_charAt 0 = .ok (.iload_n 1, 1) := by decide +kernel
theorem dJ7_charAt_1 : decode cJ7_charAt 1 = .ok (.aload_n 0, 1) := by decide +kernel
theorem dJ7_charAt_2 : decode cJ7_charAt 2 = .ok (.arraylength, 1) := by decide +kernel
theorem dJ7_charAt_3 : decode cJ7_charAt 3 = .ok (.invokestatic 9, 3) := by decide +kernel
theorem dJ7_charAt_6 : decode cJ7_charAt 6 = .ok (.aload_n 0, 1) := by decide +kernel
theorem dJ7_charAt_7 : decode cJ7_charAt 7 = .ok (.iload_n 1, 1) := by decide +kernel
theorem dJ7_charAt_8 : decode cJ7_charAt 8 = .ok (.baload, 1) := by decide +kernel
theorem dJ7_charAt_9 : decode cJ7_charAt 9 = .ok (.sipush 255, 3) := by decide +kernel
theorem dJ7_charAt_12 : decode cJ7_charAt 12 = .ok (.iand, 1) := by decide +kernel
theorem dJ7_charAt_13 : decode cJ7_charAt 13 = .ok (.i2c, 1) := by decide +kernel
theorem dJ7_charAt_14 : decode cJ7_charAt 14 = .ok (.ireturn, 1) := by decide +kernel
