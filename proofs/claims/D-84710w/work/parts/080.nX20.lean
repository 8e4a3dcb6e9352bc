/-! names: X2_init X2_scan X2_skip X2_now X2_number X2_run (tools/chunk.py) -/
set_option maxRecDepth 100000
theorem q274 : (Jvm.Cond.methodLink "CompiledHouse$Tokens" (3 : Nat) ({ cls := "java/lang/Object", name := "<init>", desc := "()V" } : Jvm.MethodName)) ∈ lw_all := lw_g (lw_at lw_m1 78 rfl) rfl
theorem lk_X2_3 : xLk RX2 3 yJ18_init := Or.inl q274
theorem q275 : (Jvm.Cond.classLink "CompiledHouse$Tokens" (9 : Nat) "java/lang/String") ∈ lw_all := lw_g (lw_at lw_m1 79 rfl) rfl
theorem q337 : (Jvm.Cond.fieldLink "CompiledHouse$Tokens" (41 : Nat) "CompiledHouse$Tokens" "reserved" "[Ljava/lang/String;") ∈ lw_all := lw_g (lw_at lw_m1 141 rfl) rfl
theorem f_X2_41_2 : xF RX2 41 2 0 := ⟨_, "CompiledHouse$Tokens", rfl, by decide, Or.inl q337, Or.inl rfl⟩
theorem q338 : (Jvm.Cond.fieldLink "CompiledHouse$Tokens" (137 : Nat) "CompiledHouse$Tokens" "signs" "[Ljava/lang/String;") ∈ lw_all := lw_g (lw_at lw_m1 142 rfl) rfl
theorem f_X2_137_2 : xF RX2 137 2 1 := ⟨_, "CompiledHouse$Tokens", rfl, by decide, Or.inl q338, Or.inl rfl⟩
theorem q339 : (Jvm.Cond.fieldLink "CompiledHouse$Tokens" (140 : Nat) "CompiledHouse$Tokens" "kind" "[I") ∈ lw_all := lw_g (lw_at lw_m1 143 rfl) rfl
theorem f_X2_140_2 : xF RX2 140 2 2 := ⟨_, "CompiledHouse$Tokens", rfl, by decide, Or.inl q339, Or.inl rfl⟩
theorem q341 : (Jvm.Cond.fieldLink "CompiledHouse$Tokens" (144 : Nat) "CompiledHouse$Tokens" "place" "[I") ∈ lw_all := lw_g (lw_at lw_m1 145 rfl) rfl
theorem f_X2_144_2 : xF RX2 144 2 3 := ⟨_, "CompiledHouse$Tokens", rfl, by decide, Or.inl q341, Or.inl rfl⟩
theorem q343 : (Jvm.Cond.fieldLink "CompiledHouse$Tokens" (147 : Nat) "CompiledHouse$Tokens" "what" "[I") ∈ lw_all := lw_g (lw_at lw_m1 147 rfl) rfl
theorem f_X2_147_2 : xF RX2 147 2 4 := ⟨_, "CompiledHouse$Tokens", rfl, by decide, Or.inl q343, Or.inl rfl⟩
theorem q345 : (Jvm.Cond.fieldLink "CompiledHouse$Tokens" (150 : Nat) "CompiledHouse$Tokens" "nameAt" "[I") ∈ lw_all := lw_g (lw_at lw_m1 149 rfl) rfl
theorem f_X2_150_2 : xF RX2 150 2 5 := ⟨_, "CompiledHouse$Tokens", rfl, by decide, Or.inl q345, Or.inl rfl⟩
theorem q346 : (Jvm.Cond.fieldLink "CompiledHouse$Tokens" (153 : Nat) "CompiledHouse$Tokens" "nameSize" "[I") ∈ lw_all := lw_g (lw_at lw_m1 150 rfl) rfl
theorem f_X2_153_2 : xF RX2 153 2 6 := ⟨_, "CompiledHouse$Tokens", rfl, by decide, Or.inl q346, Or.inl rfl⟩
theorem q347 : (Jvm.Cond.fieldLink "CompiledHouse$Tokens" (156 : Nat) "CompiledHouse$Tokens" "text" "[B") ∈ lw_all := lw_g (lw_at lw_m1 151 rfl) rfl
theorem f_X2_156_2 : xF RX2 156 2 7 := ⟨_, "CompiledHouse$Tokens", rfl, by decide, Or.inl q347, Or.inl rfl⟩
theorem q348 : (Jvm.Cond.fieldLink "CompiledHouse$Tokens" (160 : Nat) "CompiledHouse$Tokens" "size" "I") ∈ lw_all := lw_g (lw_at lw_m1 152 rfl) rfl
theorem f_X2_160_2 : xF RX2 160 2 8 := ⟨_, "CompiledHouse$Tokens", rfl, by decide, Or.inl q348, Or.inl rfl⟩
theorem q349 : (Jvm.Cond.fieldLink "CompiledHouse$Tokens" (164 : Nat) "CompiledHouse$Tokens" "at" "I") ∈ lw_all := lw_g (lw_at lw_m1 153 rfl) rfl
theorem f_X2_164_2 : xF RX2 164 2 9 := ⟨_, "CompiledHouse$Tokens", rfl, by decide, Or.inl q349, Or.inl rfl⟩
theorem q350 : (Jvm.Cond.fieldLink "CompiledHouse$Tokens" (167 : Nat) "CompiledHouse$Tokens" "many" "I") ∈ lw_all := lw_g (lw_at lw_m1 154 rfl) rfl
theorem f_X2_167_2 : xF RX2 167 2 10 := ⟨_, "CompiledHouse$Tokens", rfl, by decide, Or.inl q350, Or.inl rfl⟩
theorem q351 : (Jvm.Cond.fieldLink "CompiledHouse$Tokens" (170 : Nat) "CompiledHouse$Tokens" "names" "I") ∈ lw_all := lw_g (lw_at lw_m1 155 rfl) rfl
theorem f_X2_170_2 : xF RX2 170 2 11 := ⟨_, "CompiledHouse$Tokens", rfl, by decide, Or.inl q351, Or.inl rfl⟩
theorem q970 : (Jvm.Cond.methodLink "CompiledHouse$Tokens" (173 : Nat) ({ cls := "CompiledHouse$Tokens", name := "skip", desc := "()I" } : Jvm.MethodName)) ∈ lw_all := lw_g (lw_at lw_m4 54 rfl) rfl
abbrev cX2_skip : ByteArray := prog_35_method_6_code
def yX2_skip : MethodName := ⟨RX2, "skip", "()I"⟩
theorem q973 : (Jvm.Cond.code ({ cls := "CompiledHouse$Tokens", name := "skip", desc := "()I" } : Jvm.MethodName) prog_35_method_6_code (3 : Nat) (Option.some Jvm.ClassFile.FieldType.int)) ∈ lw_all := lw_g (lw_at lw_m4 57 rfl) rfl
def kX2_skip : xK := (yX2_skip, cX2_skip, 3, some .int, [])
theorem me_X2_skip : xMe kX2_skip 0 := ⟨q973, q199, by decide, by decide, by decide +kernel⟩
theorem q972 : (Jvm.Cond.instanceMethod ({ cls := "CompiledHouse$Tokens", name := "skip", desc := "()I" } : Jvm.MethodName)) ∈ lw_all := lw_g (lw_at lw_m4 56 rfl) rfl
theorem is_X2_skip : Cond.instanceMethod kX2_skip.y ∈ lw_all := q972
theorem se_X2_skip : Cond.selects RX2 kX2_skip.y kX2_skip.y ∈ lw_all := qs2
theorem lk_X2_173 : xLk RX2 173 yX2_skip := Or.inl q970
theorem q974 : (Jvm.Cond.methodLink "CompiledHouse$Tokens" (177 : Nat) ({ cls := "CompiledHouse$Tokens", name := "now", desc := "(I)I" } : Jvm.MethodName)) ∈ lw_all := lw_g (lw_at lw_m4 58 rfl) rfl
abbrev cX2_now : ByteArray := prog_35_method_3_code
def yX2_now : MethodName := ⟨RX2, "now", "(I)I"⟩
theorem q977 : (Jvm.Cond.code ({ cls := "CompiledHouse$Tokens", name := "now", desc := "(I)I" } : Jvm.MethodName) prog_35_method_3_code (2 : Nat) (Option.some Jvm.ClassFile.FieldType.int)) ∈ lw_all := lw_g (lw_at lw_m4 61 rfl) rfl
def kX2_now : xK := (yX2_now, cX2_now, 2, some .int, [])
theorem me_X2_now : xMe kX2_now 1 := ⟨q977, q199, by decide, by decide, by decide +kernel⟩
theorem q976 : (Jvm.Cond.instanceMethod ({ cls := "CompiledHouse$Tokens", name := "now", desc := "(I)I" } : Jvm.MethodName)) ∈ lw_all := lw_g (lw_at lw_m4 60 rfl) rfl
theorem is_X2_now : Cond.instanceMethod kX2_now.y ∈ lw_all := q976
theorem se_X2_now : Cond.selects RX2 kX2_now.y kX2_now.y ∈ lw_all := qs3
theorem lk_X2_177 : xLk RX2 177 yX2_now := Or.inl q974
theorem q981 : (Jvm.Cond.methodLink "CompiledHouse$Tokens" (185 : Nat) ({ cls := "CompiledHouse$Tokens", name := "number", desc := "()I" } : Jvm.MethodName)) ∈ lw_all := lw_g (lw_at lw_m4 65 rfl) rfl
abbrev cX2_number : ByteArray := prog_35_method_12_code
def yX2_number : MethodName := ⟨RX2, "number", "()I"⟩
theorem q984 : (Jvm.Cond.code ({ cls := "CompiledHouse$Tokens", name := "number", desc := "()I" } : Jvm.MethodName) prog_35_method_12_code (8 : Nat) (Option.some Jvm.ClassFile.FieldType.int)) ∈ lw_all := lw_g (lw_at lw_m4 68 rfl) rfl
def kX2_number : xK := (yX2_number, cX2_number, 8, some .int, [])
theorem me_X2_number : xMe kX2_number 0 := ⟨q984, q199, by decide, by decide, by decide +kernel⟩
theorem q983 : (Jvm.Cond.instanceMethod ({ cls := "CompiledHouse$Tokens", name := "number", desc := "()I" } : Jvm.MethodName)) ∈ lw_all := lw_g (lw_at lw_m4 67 rfl) rfl
theorem is_X2_number : Cond.instanceMethod kX2_number.y ∈ lw_all := q983
theorem se_X2_number : Cond.selects RX2 kX2_number.y kX2_number.y ∈ lw_all := qs4
theorem lk_X2_185 : xLk RX2 185 yX2_number := Or.inl q981
theorem q989 : (Jvm.Cond.methodLink "CompiledHouse$Tokens" (188 : Nat) ({ cls := "CompiledHouse$Tokens", name := "isLetter", desc := "(I)Z" } : Jvm.MethodName)) ∈ lw_all := lw_g (lw_at lw_m4 73 rfl) rfl
theorem lk_X2_188 : xLk RX2 188 yX2_isLetter := Or.inl q989
theorem q998 : (Jvm.Cond.methodLink "CompiledHouse$Tokens" (191 : Nat) ({ cls := "CompiledHouse$Tokens", name := "name", desc := "()I" } : Jvm.MethodName)) ∈ lw_all := lw_g (lw_at lw_m4 82 rfl) rfl
abbrev cX2_name : ByteArray := prog_35_method_8_code
def yX2_name : MethodName := ⟨RX2, "name", "()I"⟩
theorem q1001 : (Jvm.Cond.code ({ cls := "CompiledHouse$Tokens", name := "name", desc := "()I" } : Jvm.MethodName) prog_35_method_8_code (3 : Nat) (Option.some Jvm.ClassFile.FieldType.int)) ∈ lw_all := lw_g (lw_at lw_m4 85 rfl) rfl
def kX2_name : xK := (yX2_name, cX2_name, 3, some .int, [])
theorem me_X2_name : xMe kX2_name 0 := ⟨q1001, q199, by decide, by decide, by decide +kernel⟩
theorem q1000 : (Jvm.Cond.instanceMethod ({ cls := "CompiledHouse$Tokens", name := "name", desc := "()I" } : Jvm.MethodName)) ∈ lw_all := lw_g (lw_at lw_m4 84 rfl) rfl
theorem is_X2_name : Cond.instanceMethod kX2_name.y ∈ lw_all := q1000
theorem se_X2_name : Cond.selects RX2 kX2_name.y kX2_name.y ∈ lw_all := qs6
theorem lk_X2_191 : xLk RX2 191 yX2_name := Or.inl q998
theorem q1058 : (Jvm.Cond.methodLink "CompiledHouse$Tokens" (194 : Nat) ({ cls := "CompiledHouse$Tokens", name := "sign", desc := "()I" } : Jvm.MethodName)) ∈ lw_all := lw_g (lw_at lw_m4 142 rfl) rfl
abbrev cX2_sign : ByteArray := prog_35_method_14_code
def yX2_sign : MethodName := ⟨RX2, "sign", "()I"⟩
theorem q1061 : (Jvm.Cond.code ({ cls := "CompiledHouse$Tokens", name := "sign", desc := "()I" } : Jvm.MethodName) prog_35_method_14_code (4 : Nat) (Option.some Jvm.ClassFile.FieldType.int)) ∈ lw_all := lw_g (lw_at lw_m4 145 rfl) rfl
def kX2_sign : xK := (yX2_sign, cX2_sign, 4, some .int, [])
theorem me_X2_sign : xMe kX2_sign 0 := ⟨q1061, q199, by decide, by decide, by decide +kernel⟩
theorem q1060 : (Jvm.Cond.instanceMethod ({ cls := "CompiledHouse$Tokens", name := "sign", desc := "()I" } : Jvm.MethodName)) ∈ lw_all := lw_g (lw_at lw_m4 144 rfl) rfl
theorem is_X2_sign : Cond.instanceMethod kX2_sign.y ∈ lw_all := q1060
theorem se_X2_sign : Cond.selects RX2 kX2_sign.y kX2_sign.y ∈ lw_all := qs9
theorem lk_X2_194 : xLk RX2 194 yX2_sign := Or.inl q1058
theorem q985 : (Jvm.Cond.methodLink "CompiledHouse$Tokens" (197 : Nat) ({ cls := "CompiledHouse$Tokens", name := "run", desc := "()I" } : Jvm.MethodName)) ∈ lw_all := lw_g (lw_at lw_m4 69 rfl) rfl
abbrev cX2_run : ByteArray := prog_35_method_7_code
def yX2_run : MethodName := ⟨RX2, "run", "()I"⟩
theorem q988 : (Jvm.Cond.code ({ cls := "CompiledHouse$Tokens", name := "run", desc := "()I" } : Jvm.MethodName) prog_35_method_7_code (2 : Nat) (Option.some Jvm.ClassFile.FieldType.int)) ∈ lw_all := lw_g (lw_at lw_m4 72 rfl) rfl
def kX2_run : xK := (yX2_run, cX2_run, 2, some .int, [])
theorem me_X2_run : xMe kX2_run 0 := ⟨q988, q199, by decide, by decide, by decide +kernel⟩
theorem q987 : (Jvm.Cond.instanceMethod ({ cls := "CompiledHouse$Tokens", name := "run", desc := "()I" } : Jvm.MethodName)) ∈ lw_all := lw_g (lw_at lw_m4 71 rfl) rfl
theorem is_X2_run : Cond.instanceMethod kX2_run.y ∈ lw_all := q987
theorem se_X2_run : Cond.selects RX2 kX2_run.y kX2_run.y ∈ lw_all := qs5
theorem lk_X2_197 : xLk RX2 197 yX2_run := Or.inl q985
theorem q992 : (Jvm.Cond.methodLink "CompiledHouse$Tokens" (217 : Nat) ({ cls := "CompiledHouse$Tokens", name := "digit", desc := "(I)I" } : Jvm.MethodName)) ∈ lw_all := lw_g (lw_at lw_m4 76 rfl) rfl
theorem lk_X2_217 : xLk RX2 217 yX2_digit := Or.inl q992
theorem q995 : (Jvm.Cond.constantLong "CompiledHouse$Tokens" (220 : Nat) (16 : Int64)) ∈ lw_all := lw_g (lw_at lw_m4 79 rfl) rfl
theorem q996 : (Jvm.Cond.constantLong "CompiledHouse$Tokens" (222 : Nat) (10 : Int64)) ∈ lw_all := lw_g (lw_at lw_m4 80 rfl) rfl
theorem q997 : (Jvm.Cond.constantLong "CompiledHouse$Tokens" (224 : Nat) (4294967295 : Int64)) ∈ lw_all := lw_g (lw_at lw_m4 81 rfl) rfl
theorem dX2_init_0 : decode cX2_init 0 = .ok (.aload_n 0, 1) := by decide +kernel
theorem dX2_init_1 : decode cX2_init 1 = .ok (.invokespecial 3, 3) := by decide +kernel
theorem dX2_init_4 : decode cX2_init 4 = .ok (.aload_n 0, 1) := by decide +kernel
theorem dX2_init_5 : decode cX2_init 5 = .ok (.bipush 15, 2) := by decide +kernel
theorem dX2_init_7 : decode cX2_init 7 = .ok (.anewarray 9, 3) := by decide +kernel
theorem dX2_init_10 : decode cX2_init 10 = .ok (.dup, 1) := by decide +kernel
theorem dX2_init_11 : decode cX2_init 11 = .ok (.iconst 0, 1) := by decide +kernel
theorem dX2_init_12 : decode cX2_init 12 = .ok (.ldc 11, 2) := by decide +kernel
theorem dX2_init_14 : decode cX2_init 14 = .ok (.aastore, 1) := by decide +kernel
theorem dX2_init_15 : decode cX2_init 15 = .ok (.dup, 1) := by decide +kernel
theorem dX2_init_16 : decode cX2_init 16 = .ok (.iconst 1, 1) := by decide +kernel
theorem dX2_init_17 : decode cX2_init 17 = .ok (.ldc 13, 2) := by decide +kernel
theorem dX2_init_19 : decode cX2_init 19 = .ok (.aastore, 1) := by decide +kernel
theorem dX2_init_20 : decode cX2_init 20 = .ok (.dup, 1) := by decide +kernel
theorem dX2_init_21 : decode cX2_init 21 = .ok (.iconst 2, 1) := by decide +kernel
theorem dX2_init_22 : decode cX2_init 22 = .ok (.ldc 15, 2) := by decide +kernel
theorem dX2_init_24 : decode cX2_init 24 = .ok (.aastore, 1) := by decide +kernel
theorem dX2_init_25 : decode cX2_init 25 = .ok (.dup, 1) := by decide +kernel
theorem dX2_init_26 : decode cX2_init 26 = .ok (.iconst 3, 1) := by decide +kernel
theorem dX2_init_27 : decode cX2_init 27 = .ok (.ldc 17, 2) := by decide +kernel
theorem dX2_init_29 : decode cX2_init 29 = .ok (.aastore, 1) := by decide +kernel
theorem dX2_init_30 : decode cX2_init 30 = .ok (.dup, 1) := by decide +kernel
theorem dX2_init_31 : decode cX2_init 31 = .ok (.iconst 4, 1) := by decide +kernel
theorem dX2_init_32 : decode cX2_init 32 = .ok (.ldc 19, 2) := by decide +kernel
theorem dX2_init_34 : decode cX2_init 34 = .ok (.aastore, 1) := by decide +kernel
theorem dX2_init_35 : decode cX2_init 35 = .ok (.dup, 1) := by decide +kernel
theorem dX2_init_36 : decode cX2_init 36 = .ok (.iconst 5, 1) := by decide +kernel
theorem dX2_init_37 : decode cX2_init 37 = .ok (.ldc 21, 2) := by decide +kernel
theorem dX2_init_39 : decode cX2_init 39 = .ok (.aastore, 1) := by decide +kernel
theorem dX2_init_40 : decode cX2_init 40 = .ok (.dup, 1) := by decide +kernel
theorem dX2_init_41 : decode cX2_init 41 = .ok (.bipush 6, 2) := by decide +kernel
theorem dX2_init_43 : decode cX2_init 43 = .ok (.ldc 23, 2) := by decide +kernel
theorem dX2_init_45 : decode cX2_init 45 = .ok (.aastore, 1) := by decide +kernel
theorem dX2_init_46 : decode cX2_init 46 = .ok (.dup, 1) := by decide +kernel
theorem dX2_init_47 : decode cX2_init 47 = .ok (.bipush 7, 2) := by decide +kernel
theorem dX2_init_49 : decode cX2_init 49 = .ok (.ldc 25, 2) := by decide +kernel
theorem dX2_init_51 : decode cX2_init 51 = .ok (.aastore, 1) := by decide +kernel
theorem dX2_init_52 : decode cX2_init 52 = .ok (.dup, 1) := by decide +kernel
theorem dX2_init_53 : decode cX2_init 53 = .ok (.bipush 8, 2) := by decide +kernel
theorem dX2_init_55 : decode cX2_init 55 = .ok (.ldc 27, 2) := by decide +kernel
theorem dX2_init_57 : decode cX2_init 57 = .ok (.aastore, 1) := by decide +kernel
theorem dX2_init_58 : decode cX2_init 58 = .ok (.dup, 1) := by decide +kernel
theorem dX2_init_59 : decode cX2_init 59 = .ok (.bipush 9, 2) := by decide +kernel
theorem dX2_init_61 : decode cX2_init 61 = .ok (.ldc 29, 2) := by decide +kernel
theorem dX2_init_63 : decode cX2_init 63 = .ok (.aastore, 1) := by decide +kernel
theorem dX2_init_64 : decode cX2_init 64 = .ok (.dup, 1) := by decide +kernel
theorem dX2_init_65 : decode cX2_init 65 = .ok (.bipush 10, 2) := by decide +kernel
theorem dX2_init_67 : decode cX2_init 67 = .ok (.ldc 31, 2) := by decide +kernel
theorem dX2_init_69 : decode cX2_init 69 = .ok (.aastore, 1) := by decide +kernel
theorem dX2_init_70 : decode cX2_init 70 = .ok (.dup, 1) := by decide +kernel
theorem dX2_init_71 : decode cX2_init 71 = .ok (.bipush 11, 2) := by decide +kernel
theorem dX2_init_73 : decode cX2_init 73 = .ok (.ldc 33, 2) := by decide +kernel
theorem dX2_init_75 : decode cX2_init 75 = .ok (.aastore, 1) := by decide +kernel
theorem dX2_init_76 : decode cX2_init 76 = .ok (.dup, 1) := by decide +kernel
theorem dX2_init_77 : decode cX2_init 77 = .ok (.bipush 12, 2) := by decide +kernel
theorem dX2_init_79 : decode cX2_init 79 = .ok (.ldc 35, 2) := by decide +kernel
theorem dX2_init_81 : decode cX2_init 81 = .ok (.aastore, 1) := by decide +kernel
theorem dX2_init_82 : decode cX2_init 82 = .ok (.dup, 1) := by decide +kernel
theorem dX2_init_83 : decode cX2_init 83 = .ok (.bipush 13, 2) := by decide +kernel
theorem dX2_init_85 : decode cX2_init 85 = .ok (.ldc 37, 2) := by decide +kernel
theorem dX2_init_87 : decode cX2_init 87 = .ok (.aastore, 1) := by decide +kernel
theorem dX2_init_88 : decode cX2_init 88 = .ok (.dup, 1) := by decide +kernel
theorem dX2_init_89 : decode cX2_init 89 = .ok (.bipush 14, 2) := by decide +kernel
theorem dX2_init_91 : decode cX2_init 91 = .ok (.ldc 39, 2) := by decide +kernel
theorem dX2_init_93 : decode cX2_init 93 = .ok (.aastore, 1) := by decide +kernel
theorem dX2_init_94 : decode cX2_init 94 = .ok (.putfield 41, 3) := by decide +kernel
theorem dX2_init_97 : decode cX2_init 97 = .ok (.aload_n 0, 1) := by decide +kernel
theorem dX2_init_98 : decode cX2_init 98 = .ok (.bipush 45, 2) := by decide +kernel
theorem dX2_init_100 : decode cX2_init 100 = .ok (.anewarray 9, 3) := by decide +kernel
theorem dX2_init_103 : decode cX2_init 103 = .ok (.dup, 1) := by decide +kernel
theorem dX2_init_104 : decode cX2_init 104 = .ok (.iconst 0, 1) := by decide +kernel
theorem dX2_init_105 : decode cX2_init 105 = .ok (.ldc 47, 2) := by decide +kernel
theorem dX2_init_107 : decode cX2_init 107 = .ok (.aastore, 1) := by decide +kernel
theorem dX2_init_108 : decode cX2_init 108 = .ok (.dup, 1) := by decide +kernel
theorem dX2_init_109 : decode cX2_init 109 = .ok (.iconst 1, 1) := by decide +kernel
theorem dX2_init_110 : decode cX2_init 110 = .ok (.ldc 49, 2) := by decide +kernel
theorem dX2_init_112 : decode cX2_init 112 = .ok (.aastore, 1) := by decide +kernel
theorem dX2_init_113 : decode cX2_init 113 = .ok (.dup, 1) := by decide +kernel
theorem dX2_init_114 : decode cX2_init 114 = .ok (.iconst 2, 1) := by decide +kernel
theorem dX2_init_115 : decode cX2_init 115 = .ok (.ldc 51, 2) := by decide +kernel
theorem dX2_init_117 : decode cX2_init 117 = .ok (.aastore, 1) := by decide +kernel
theorem dX2_init_118 : decode cX2_init 118 = .ok (.dup, 1) := by decide +kernel
theorem dX2_init_119 : decode cX2_init 119 = .ok (.iconst 3, 1) := by decide +kernel
theorem dX2_init_120 : decode cX2_init 120 = .ok (.ldc 53, 2) := by decide +kernel
theorem dX2_init_122 : decode cX2_init 122 = .ok (.aastore, 1) := by decide +kernel
theorem dX2_init_123 : decode cX2_init 123 = .ok (.dup, 1) := by decide +kernel
theorem dX2_init_124 : decode cX2_init 124 = .ok (.iconst 4, 1) := by decide +kernel
theorem dX2_init_125 : decode cX2_init 125 = .ok (.ldc 55, 2) := by decide +kernel
theorem dX2_init_127 : decode cX2_init 127 = .ok (.aastore, 1) := by decide +kernel
theorem dX2_init_128 : decode cX2_init 128 = .ok (.dup, 1) := by decide +kernel
theorem dX2_init_129 : decode cX2_init 129 = .ok (.iconst 5, 1) := by decide +kernel
theorem dX2_init_130 : decode cX2_init 130 = .ok (.ldc 57, 2) := by decide +kernel
theorem dX2_init_132 : decode cX2_init 132 = .ok (.aastore, 1) := by decide +kernel
theorem dX2_init_133 : decode cX2_init 133 = .ok (.dup, 1) := by decide +kernel
theorem dX2_init_134 : decode cX2_init 134 = .ok (.bipush 6, 2) := by decide +kernel
theorem dX2_init_136 : decode cX2_init 136 = .ok (.ldc 59, 2) := by decide +kernel
theorem dX2_init_138 : decode cX2_init 138 = .ok (.aastore, 1) := by decide +kernel
theorem dX2_init_139 : decode cX2_init 139 = .ok (.dup, 1) := by decide +kernel
theorem dX2_init_140 : decode cX2_init 140 = .ok (.bipush 7, 2) := by decide +kernel
theorem dX2_init_142 : decode cX2_init 142 = .ok (.ldc 61, 2) := by decide +kernel
theorem dX2_init_144 : decode cX2_init 144 = .ok (.aastore, 1) := by decide +kernel
theorem dX2_init_145 : decode cX2_init 145 = .ok (.dup, 1) := by decide +kernel
theorem dX2_init_146 : decode cX2_init 146 = .ok (.bipush 8, 2) := by decide +kernel
theorem dX2_init_148 : decode cX2_init 148 = .ok (.ldc 63, 2) := by decide +kernel
theorem dX2_init_150 : decode cX2_init 150 = .ok (.aastore, 1) := by decide +kernel
theorem dX2_init_151 : decode cX2_init 151 = .ok (.dup, 1) := by decide +kernel
theorem dX2_init_152 : decode cX2_init 152 = .ok (.bipush 9, 2) := by decide +kernel
theorem dX2_init_154 : decode cX2_init 154 = .ok (.ldc 65, 2) := by decide +kernel
theorem dX2_init_156 : decode cX2_init 156 = .ok (.aastore, 1) := by decide +kernel
theorem dX2_init_157 : decode cX2_init 157 = .ok (.dup, 1) := by decide +kernel
theorem dX2_init_158 : decode cX2_init 158 = .ok (.bipush 10, 2) := by decide +kernel
theorem dX2_init_160 : decode cX2_init 160 = .ok (.ldc 67, 2) := by decide +kernel
theorem dX2_init_162 : decode cX2_init 162 = .ok (.aastore, 1) := by decide +kernel
theorem dX2_init_163 : decode cX2_init 163 = .ok (.dup, 1) := by decide +kernel
theorem dX2_init_164 : decode cX2_init 164 = .ok (.bipush 11, 2) := by decide +kernel
theorem dX2_init_166 : decode cX2_init 166 = .ok (.ldc 69, 2) := by decide +kernel
theorem dX2_init_168 : decode cX2_init 168 = .ok (.aastore, 1) := by decide +kernel
theorem dX2_init_169 : decode cX2_init 169 = .ok (.dup, 1) := by decide +kernel
theorem dX2_init_170 : decode cX2_init 170 = .ok (.bipush 12, 2) := by decide +kernel
theorem dX2_init_172 : decode cX2_init 172 = .ok (.ldc 71, 2) := by decide +kernel
theorem dX2_init_174 : decode cX2_init 174 = .ok (.aastore, 1) := by decide +kernel
theorem dX2_init_175 : decode cX2_init 175 = .ok (.dup, 1) := by decide +kernel
theorem dX2_init_176 : decode cX2_init 176 = .ok (.bipush 13, 2) := by decide +kernel
theorem dX2_init_178 : decode cX2_init 178 = .ok (.ldc 73, 2) := by decide +kernel
theorem dX2_init_180 : decode cX2_init 180 = .ok (.aastore, 1) := by decide +kernel
theorem dX2_init_181 : decode cX2_init 181 = .ok (.dup, 1) := by decide +kernel
theorem dX2_init_182 : decode cX2_init 182 = .ok (.bipush 14, 2) := by decide +kernel
theorem dX2_init_184 : decode cX2_init 184 = .ok (.ldc 75, 2) := by decide +kernel
theorem dX2_init_186 : decode cX2_init 186 = .ok (.aastore, 1) := by decide +kernel
theorem dX2_init_187 : decode cX2_init 187 = .ok (.dup, 1) := by decide +kernel
theorem dX2_init_188 : decode cX2_init 188 = .ok (.bipush 15, 2) := by decide +kernel
theorem dX2_init_190 : decode cX2_init 190 = .ok (.ldc 77, 2) := by decide +kernel
theorem dX2_init_192 : decode cX2_init 192 = .ok (.aastore, 1) := by decide +kernel
theorem dX2_init_193 : decode cX2_init 193 = .ok (.dup, 1) := by decide +kernel
theorem dX2_init_194 : decode cX2_init 194 = .ok (.bipush 16, 2) := by decide +kernel
theorem dX2_init_196 : decode cX2_init 196 = .ok (.ldc 79, 2) := by decide +kernel
theorem dX2_init_198 : decode cX2_init 198 = .ok (.aastore, 1) := by decide +kernel
theorem dX2_init_199 : decode cX2_init 199 = .ok (.dup, 1) := by decide +kernel
theorem dX2_init_200 : decode cX2_init 200 = .ok (.bipush 17, 2) := by decide +kernel
theorem dX2_init_202 : decode cX2_init 202 = .ok (.ldc 81, 2) := by decide +kernel
theorem dX2_init_204 : decode cX2_init 204 = .ok (.aastore, 1) := by decide +kernel
theorem dX2_init_205 : decode cX2_init 205 = .ok (.dup, 1) := by decide +kernel
theorem dX2_init_206 : decode cX2_init 206 = .ok (.bipush 18, 2) := by decide +kernel
theorem dX2_init_208 : decode cX2_init 208 = .ok (.ldc 83, 2) := by decide +kernel
theorem dX2_init_210 : decode cX2_init 210 = .ok (.aastore, 1) := by decide +kernel
theorem dX2_init_211 : decode cX2_init 211 = .ok (.dup, 1) := by decide +kernel
theorem dX2_init_212 : decode cX2_init 212 = .ok (.bipush 19, 2) := by decide +kernel
theorem dX2_init_214 : decode cX2_init 214 = .ok (.ldc 85, 2) := by decide +kernel
theorem dX2_init_216 : decode cX2_init 216 = .ok (.aastore, 1) := by decide +kernel
theorem dX2_init_217 : decode cX2_init 217 = .ok (.dup, 1) := by decide +kernel
theorem dX2_init_218 : decode cX2_init 218 = .ok (.bipush 20, 2) := by decide +kernel
theorem dX2_init_220 : decode cX2_init 220 = .ok (.ldc 87, 2) := by decide +kernel
theorem dX2_init_222 : decode cX2_init 222 = .ok (.aastore, 1) := by decide +kernel
theorem dX2_init_223 : decode cX2_init 223 = .ok (.dup, 1) := by decide +kernel
theorem dX2_init_224 : decode cX2_init 224 = .ok (.bipush 21, 2) := by decide +kernel
theorem dX2_init_226 : decode cX2_init 226 = .ok (.ldc 89, 2) := by decide +kernel
theorem dX2_init_228 : decode cX2_init 228 = .ok (.aastore, 1) := by decide +kernel
theorem dX2_init_229 : decode cX2_init 229 = .ok (.dup, 1) := by decide +kernel
theorem dX2_init_230 : decode cX2_init 230 = .ok (.bipush 22, 2) := by decide +kernel
theorem dX2_init_232 : decode cX2_init 232 = .ok (.ldc 91, 2) := by decide +kernel
theorem dX2_init_234 : decode cX2_init 234 = .ok (.aastore, 1) := by decide +kernel
theorem dX2_init_235 : decode cX2_init 235 = .ok (.dup, 1) := by decide +kernel
theorem dX2_init_236 : decode cX2_init 236 = .ok (.bipush 23, 2) := by decide +kernel
theorem dX2_init_238 : decode cX2_init 238 = .ok (.ldc 93, 2) := by decide +kernel
theorem dX2_init_240 : decode cX2_init 240 = .ok (.aastore, 1) := by decide +kernel
theorem dX2_init_241 : decode cX2_init 241 = .ok (.dup, 1) := by decide +kernel
theorem dX2_init_242 : decode cX2_init 242 = .ok (.bipush 24, 2) := by decide +kernel
theorem dX2_init_244 : decode cX2_init 244 = .ok (.ldc 95, 2) := by decide +kernel
theorem dX2_init_246 : decode cX2_init 246 = .ok (.aastore, 1) := by decide +kernel
theorem dX2_init_247 : decode cX2_init 247 = .ok (.dup, 1) := by decide +kernel
theorem dX2_init_248 : decode cX2_init 248 = .ok (.bipush 25, 2) := by decide +kernel
theorem dX2_init_250 : decode cX2_init 250 = .ok (.ldc 97, 2) := by decide +kernel
theorem dX2_init_252 : decode cX2_init 252 = .ok (.aastore, 1) := by decide +kernel
theorem dX2_init_253 : decode cX2_init 253 = .ok (.dup, 1) := by decide +kernel
theorem dX2_init_254 : decode cX2_init 254 = .ok (.bipush 26, 2) := by decide +kernel
theorem dX2_init_256 : decode cX2_init 256 = .ok (.ldc 99, 2) := by decide +kernel
theorem dX2_init_258 : decode cX2_init 258 = .ok (.aastore, 1) := by decide +kernel
theorem dX2_init_259 : decode cX2_init 259 = .ok (.dup, 1) := by decide +kernel
theorem dX2_init_260 : decode cX2_init 260 = .ok (.bipush 27, 2) := by decide +kernel
theorem dX2_init_262 : decode cX2_init 262 = .ok (.ldc 101, 2) := by decide +kernel
theorem dX2_init_264 : decode cX2_init 264 = .ok (.aastore, 1) := by decide +kernel
theorem dX2_init_265 : decode cX2_init 265 = .ok (.dup, 1) := by decide +kernel
theorem dX2_init_266 : decode cX2_init 266 = .ok (.bipush 28, 2) := by decide +kernel
theorem dX2_init_268 : decode cX2_init 268 = .ok (.ldc 103, 2) := by decide +kernel
theorem dX2_init_270 : decode cX2_init 270 = .ok (.aastore, 1) := by decide +kernel
theorem dX2_init_271 : decode cX2_init 271 = .ok (.dup, 1) := by decide +kernel
theorem dX2_init_272 : decode cX2_init 272 = .ok (.bipush 29, 2) := by decide +kernel
theorem dX2_init_274 : decode cX2_init 274 = .ok (.ldc 105, 2) := by decide +kernel
theorem dX2_init_276 : decode cX2_init 276 = .ok (.aastore, 1) := by decide +kernel
theorem dX2_init_277 : decode cX2_init 277 = .ok (.dup, 1) := by decide +kernel
theorem dX2_init_278 : decode cX2_init 278 = .ok (.bipush 30, 2) := by decide +kernel
theorem dX2_init_280 : decode cX2_init 280 = .ok (.ldc 107, 2) := by decide +kernel
theorem dX2_init_282 : decode cX2_init 282 = .ok (.aastore, 1) := by decide +kernel
theorem dX2_init_283 : decode cX2_init 283 = .ok (.dup, 1) := by decide +kernel
theorem dX2_init_284 : decode cX2_init 284 = .ok (.bipush 31, 2) := by decide +kernel
theorem dX2_init_286 : decode cX2_init 286 = .ok (.ldc 109, 2) := by decide +kernel
theorem dX2_init_288 : decode cX2_init 288 = .ok (.aastore, 1) := by decide +kernel
theorem dX2_init_289 : decode cX2_init 289 = .ok (.dup, 1) := by decide +kernel
theorem dX2_init_290 : decode cX2_init 290 = .ok (.bipush 32, 2) := by decide +kernel
theorem dX2_init_292 : decode cX2_init 292 = .ok (.ldc 111, 2) := by decide +kernel
theorem dX2_init_294 : decode cX2_init 294 = .ok (.aastore, 1) := by decide +kernel
theorem dX2_init_295 : decode cX2_init 295 = .ok (.dup, 1) := by decide +kernel
theorem dX2_init_296 : decode cX2_init 296 = .ok (.bipush 33, 2) := by decide +kernel
theorem dX2_init_298 : decode cX2_init 298 = .ok (.ldc 113, 2) := by decide +kernel
theorem dX2_init_300 : decode cX2_init 300 = .ok (.aastore, 1) := by decide +kernel
theorem dX2_init_301 : decode cX2_init 301 = .ok (.dup, 1) := by decide +kernel
theorem dX2_init_302 : decode cX2_init 302 = .ok (.bipush 34, 2) := by decide +kernel
theorem dX2_init_304 : decode cX2_init 304 = .ok (.ldc 115, 2) := by decide +kernel
theorem dX2_init_306 : decode cX2_init 306 = .ok (.aastore, 1) := by decide +kernel
theorem dX2_init_307 : decode cX2_init 307 = .ok (.dup, 1) := by decide +kernel
theorem dX2_init_308 : decode cX2_init 308 = .ok (.bipush 35, 2) := by decide +kernel
theorem dX2_init_310 : decode cX2_init 310 = .ok (.ldc 117, 2) := by decide +kernel
theorem dX2_init_312 : decode cX2_init 312 = .ok (.aastore, 1) := by decide +kernel
theorem dX2_init_313 : decode cX2_init 313 = .ok (.dup, 1) := by decide +kernel
theorem dX2_init_314 : decode cX2_init 314 = .ok (.bipush 36, 2) := by decide +kernel
theorem dX2_init_316 : decode cX2_init 316 = .ok (.ldc 119, 2) := by decide +kernel
theorem dX2_init_318 : decode cX2_init 318 = .ok (.aastore, 1) := by decide +kernel
theorem dX2_init_319 : decode cX2_init 319 = .ok (.dup, 1) := by decide +kernel
theorem dX2_init_320 : decode cX2_init 320 = .ok (.bipush 37, 2) := by decide +kernel
theorem dX2_init_322 : decode cX2_init 322 = .ok (.ldc 121, 2) := by decide +kernel
theorem dX2_init_324 : decode cX2_init 324 = .ok (.aastore, 1) := by decide +kernel
theorem dX2_init_325 : decode cX2_init 325 = .ok (.dup, 1) := by decide +kernel
theorem dX2_init_326 : decode cX2_init 326 = .ok (.bipush 38, 2) := by decide +kernel
theorem dX2_init_328 : decode cX2_init 328 = .ok (.ldc 123, 2) := by decide +kernel
theorem dX2_init_330 : decode cX2_init 330 = .ok (.aastore, 1) := by decide +kernel
theorem dX2_init_331 : decode cX2_init 331 = .ok (.dup, 1) := by decide +kernel
theorem dX2_init_332 : decode cX2_init 332 = .ok (.bipush 39, 2) := by decide +kernel
theorem dX2_init_334 : decode cX2_init 334 = .ok (.ldc 125, 2) := by decide +kernel
theorem dX2_init_336 : decode cX2_init 336 = .ok (.aastore, 1) := by decide +kernel
theorem dX2_init_337 : decode cX2_init 337 = .ok (.dup, 1) := by decide +kernel
theorem dX2_init_338 : decode cX2_init 338 = .ok (.bipush 40, 2) := by decide +kernel
theorem dX2_init_340 : decode cX2_init 340 = .ok (.ldc 127, 2) := by decide +kernel
theorem dX2_init_342 : decode cX2_init 342 = .ok (.aastore, 1) := by decide +kernel
theorem dX2_init_343 : decode cX2_init 343 = .ok (.dup, 1) := by decide +kernel
theorem dX2_init_344 : decode cX2_init 344 = .ok (.bipush 41, 2) := by decide +kernel
theorem dX2_init_346 : decode cX2_init 346 = .ok (.ldc 129, 2) := by decide +kernel
theorem dX2_init_348 : decode cX2_init 348 = .ok (.aastore, 1) := by decide +kernel
theorem dX2_init_349 : decode cX2_init 349 = .ok (.dup, 1) := by decide +kernel
theorem dX2_init_350 : decode cX2_init 350 = .ok (.bipush 42, 2) := by decide +kernel
theorem dX2_init_352 : decode cX2_init 352 = .ok (.ldc 131, 2) := by decide +kernel
theorem dX2_init_354 : decode cX2_init 354 = .ok (.aastore, 1) := by decide +kernel
theorem dX2_init_355 : decode cX2_init 355 = .ok (.dup, 1) := by decide +kernel
theorem dX2_init_356 : decode cX2_init 356 = .ok (.bipush 43, 2) := by decide +kernel
theorem dX2_init_358 : decode cX2_init 358 = .ok (.ldc 133, 2) := by decide +kernel
theorem dX2_init_360 : decode cX2_init 360 = .ok (.aastore, 1) := by decide +kernel
theorem dX2_init_361 : decode cX2_init 361 = .ok (.dup, 1) := by decide +kernel
theorem dX2_init_362 : decode cX2_init 362 = .ok (.bipush 44, 2) := by decide +kernel
theorem dX2_init_364 : decode cX2_init 364 = .ok (.ldc 135, 2) := by decide +kernel
theorem dX2_init_366 : decode cX2_init 366 = .ok (.aastore, 1) := by decide +kernel
theorem dX2_init_367 : decode cX2_init 367 = .ok (.putfield 137, 3) := by decide +kernel
theorem dX2_init_370 : decode cX2_init 370 = .ok (.aload_n 0, 1) := by decide +kernel
theorem dX2_init_371 : decode cX2_init 371 = .ok (.sipush 4002, 3) := by decide +kernel
theorem dX2_init_374 : decode cX2_init 374 = .ok (.newarray .int, 2) := by decide +kernel
theorem dX2_init_376 : decode cX2_init 376 = .ok (.putfield 140, 3) := by decide +kernel
theorem dX2_init_379 : decode cX2_init 379 = .ok (.aload_n 0, 1) := by decide +kernel
theorem dX2_init_380 : decode cX2_init 380 = .ok (.sipush 4002, 3) := by decide +kernel
theorem dX2_init_383 : decode cX2_init 383 = .ok (.newarray .int, 2) := by decide +kernel
theorem dX2_init_385 : decode cX2_init 385 = .ok (.putfield 144, 3) := by decide +kernel
theorem dX2_init_388 : decode cX2_init 388 = .ok (.aload_n 0, 1) := by decide +kernel
theorem dX2_init_389 : decode cX2_init 389 = .ok (.sipush 4002, 3) := by decide +kernel
theorem dX2_init_392 : decode cX2_init 392 = .ok (.newarray .int, 2) := by decide +kernel
theorem dX2_init_394 : decode cX2_init 394 = .ok (.putfield 147, 3) := by decide +kernel
theorem dX2_init_397 : decode cX2_init 397 = .ok (.aload_n 0, 1) := by decide +kernel
theorem dX2_init_398 : decode cX2_init 398 = .ok (.sipush 4000, 3) := by decide +kernel
theorem dX2_init_401 : decode cX2_init 401 = .ok (.newarray .int, 2) := by decide +kernel
theorem dX2_init_403 : decode cX2_init 403 = .ok (.putfield 150, 3) := by decide +kernel
theorem dX2_init_406 : decode cX2_init 406 = .ok (.aload_n 0, 1) := by decide +kernel
theorem dX2_init_407 : decode cX2_init 407 = .ok (.sipush 4000, 3) := by decide +kernel
theorem dX2_init_410 : decode cX2_init 410 = .ok (.newarray .int, 2) := by decide +kernel
theorem dX2_init_412 : decode cX2_init 412 = .ok (.putfield 153, 3) := by decide +kernel
theorem dX2_init_415 : decode cX2_init 415 = .ok (.return_, 1) := by decide +kernel
theorem dX2_scan_0 : decode cX2_scan 0 = .ok (.aload_n 0, 1) := by decide +kernel
theorem dX2_scan_1 : decode cX2_scan 1 = .ok (.aload_n 1, 1) := by decide +kernel
theorem dX2_scan_2 : decode cX2_scan 2 = .ok (.putfield 156, 3) := by decide +kernel
theorem dX2_scan_5 : decode cX2_scan 5 = .ok (.aload_n 0, 1) := by decide +kernel
theorem dX2_scan_6 : decode cX2_scan 6 = .ok (.iload_n 2, 1) := by decide +kernel
theorem dX2_scan_7 : decode cX2_scan 7 = .ok (.putfield 160, 3) := by decide +kernel
theorem dX2_scan_10 : decode cX2_scan 10 = .ok (.aload_n 0, 1) := by decide +kernel
theorem dX2_scan_11 : decode cX2_scan 11 = .ok (.iconst 0, 1) := by decide +kernel
theorem dX2_scan_12 : decode cX2_scan 12 = .ok (.putfield 164, 3) := by decide +kernel
theorem dX2_scan_15 : decode cX2_scan 15 = .ok (.aload_n 0, 1) := by decide +kernel
theorem dX2_scan_16 : decode cX2_scan 16 = .ok (.iconst 0, 1) := by decide +kernel
theorem dX2_scan_17 : decode cX2_scan 17 = .ok (.putfield 167, 3) := by decide +kernel
theorem dX2_scan_20 : decode cX2_scan 20 = .ok (.aload_n 0, 1) := by decide +kernel
theorem dX2_scan_21 : decode cX2_scan 21 = .ok (.iconst 0, 1) := by decide +kernel
theorem dX2_scan_22 : decode cX2_scan 22 = .ok (.putfield 170, 3) := by decide +kernel
theorem dX2_scan_25 : decode cX2_scan 25 = .ok (.iconst 2, 1) := by decide +kernel
theorem dX2_scan_26 : decode cX2_scan 26 = .ok (.istore_n 3, 1) := by decide +kernel
theorem dX2_scan_27 : decode cX2_scan 27 = .ok (.iload_n 3, 1) := by decide +kernel
theorem dX2_scan_28 : decode cX2_scan 28 = .ok (.ifCond .eq 126, 3) := by decide +kernel
theorem dX2_scan_31 : decode cX2_scan 31 = .ok (.iload_n 3, 1) := by decide +kernel
theorem dX2_scan_32 : decode cX2_scan 32 = .ok (.iconst 1, 1) := by decide +kernel
theorem dX2_scan_33 : decode cX2_scan 33 = .ok (.if_icmp .eq 121, 3) := by decide +kernel
theorem dX2_scan_36 : decode cX2_scan 36 = .ok (.aload_n 0, 1) := by decide +kernel
theorem dX2_scan_37 : decode cX2_scan 37 = .ok (.invokevirtual 173, 3) := by decide +kernel
theorem dX2_scan_40 : decode cX2_scan 40 = .ok (.istore 4, 2) := by decide +kernel
theorem dX2_scan_42 : decode cX2_scan 42 = .ok (.iload 4, 2) := by decide +kernel
theorem dX2_scan_44 : decode cX2_scan 44 = .ok (.ifCond .lt 9, 3) := by decide +kernel
theorem dX2_scan_47 : decode cX2_scan 47 = .ok (.aload_n 0, 1) := by decide +kernel
theorem dX2_scan_48 : decode cX2_scan 48 = .ok (.iload 4, 2) := by decide +kernel
theorem dX2_scan_50 : decode cX2_scan 50 = .ok (.putfield 164, 3) := by decide +kernel
theorem dX2_scan_53 : decode cX2_scan 53 = .ok (.aload_n 0, 1) := by decide +kernel
theorem dX2_scan_54 : decode cX2_scan 54 = .ok (.getfield 144, 3) := by decide +kernel
theorem dX2_scan_57 : decode cX2_scan 57 = .ok (.aload_n 0, 1) := by decide +kernel
theorem dX2_scan_58 : decode cX2_scan 58 = .ok (.getfield 167, 3) := by decide +kernel
theorem dX2_scan_61 : decode cX2_scan 61 = .ok (.aload_n 0, 1) := by decide +kernel
theorem dX2_scan_62 : decode cX2_scan 62 = .ok (.getfield 164, 3) := by decide +kernel
theorem dX2_scan_65 : decode cX2_scan 65 = .ok (.iastore, 1) := by decide +kernel
theorem dX2_scan_66 : decode cX2_scan 66 = .ok (.iload 4, 2) := by decide +kernel
theorem dX2_scan_68 : decode cX2_scan 68 = .ok (.ifCond .lt 7, 3) := by decide +kernel
theorem dX2_scan_71 : decode cX2_scan 71 = .ok (.iconst 1, 1) := by decide +kernel
theorem dX2_scan_72 : decode cX2_scan 72 = .ok (.goto 58, 3) := by decide +kernel
theorem dX2_scan_75 : decode cX2_scan 75 = .ok (.aload_n 0, 1) := by decide +kernel
theorem dX2_scan_76 : decode cX2_scan 76 = .ok (.getfield 164, 3) := by decide +kernel
theorem dX2_scan_79 : decode cX2_scan 79 = .ok (.aload_n 0, 1) := by decide +kernel
theorem dX2_scan_80 : decode cX2_scan 80 = .ok (.getfield 160, 3) := by decide +kernel
theorem dX2_scan_83 : decode cX2_scan 83 = .ok (.if_icmp .ne 7, 3) := by decide +kernel
theorem dX2_scan_86 : decode cX2_scan 86 = .ok (.iconst 0, 1) := by decide +kernel
theorem dX2_scan_87 : decode cX2_scan 87 = .ok (.goto 43, 3) := by decide +kernel
theorem dX2_scan_90 : decode cX2_scan 90 = .ok (.aload_n 0, 1) := by decide +kernel
theorem dX2_scan_91 : decode cX2_scan 91 = .ok (.iconst 0, 1) := by decide +kernel
theorem dX2_scan_92 : decode cX2_scan 92 = .ok (.invokevirtual 177, 3) := by decide +kernel
theorem dX2_scan_95 : decode cX2_scan 95 = .ok (.invokestatic 181, 3) := by decide +kernel
theorem dX2_scan_98 : decode cX2_scan 98 = .ok (.ifCond .eq 10, 3) := by decide +kernel
theorem dX2_scan_101 : decode cX2_scan 101 = .ok (.aload_n 0, 1) := by decide +kernel
theorem dX2_scan_102 : decode cX2_scan 102 = .ok (.invokevirtual 185, 3) := by decide +kernel
theorem dX2_scan_105 : decode cX2_scan 105 = .ok (.goto 25, 3) := by decide +kernel
theorem dX2_scan_108 : decode cX2_scan 108 = .ok (.aload_n 0, 1) := by decide +kernel
theorem dX2_scan_109 : decode cX2_scan 109 = .ok (.iconst 0, 1) := by decide +kernel
theorem dX2_scan_110 : decode cX2_scan 110 = .ok (.invokevirtual 177, 3) := by decide +kernel
theorem dX2_scan_113 : decode cX2_scan 113 = .ok (.invokestatic 188, 3) := by decide +kernel
theorem dX2_scan_116 : decode cX2_scan 116 = .ok (.ifCond .eq 10, 3) := by decide +kernel
theorem dX2_scan_119 : decode cX2_scan 119 = .ok (.aload_n 0, 1) := by decide +kernel
theorem dX2_scan_120 : decode cX2_scan 120 = .ok (.invokevirtual 191, 3) := by decide +kernel
theorem dX2_scan_123 : decode cX2_scan 123 = .ok (.goto 7, 3) := by decide +kernel
theorem dX2_scan_126 : decode cX2_scan 126 = .ok (.aload_n 0, 1) := by decide +kernel
theorem dX2_scan_127 : decode cX2_scan 127 = .ok (.invokevirtual 194, 3) := by decide +kernel
theorem dX2_scan_130 : decode cX2_scan 130 = .ok (.istore_n 3, 1) := by decide +kernel
theorem dX2_scan_131 : decode cX2_scan 131 = .ok (.aload_n 0, 1) := by decide +kernel
theorem dX2_scan_132 : decode cX2_scan 132 = .ok (.getfield 140, 3) := by decide +kernel
theorem dX2_scan_135 : decode cX2_scan 135 = .ok (.aload_n 0, 1) := by decide +kernel
theorem dX2_scan_136 : decode cX2_scan 136 = .ok (.getfield 167, 3) := by decide +kernel
theorem dX2_scan_139 : decode cX2_scan 139 = .ok (.iload_n 3, 1) := by decide +kernel
theorem dX2_scan_140 : decode cX2_scan 140 = .ok (.iastore, 1) := by decide +kernel
theorem dX2_scan_141 : decode cX2_scan 141 = .ok (.aload_n 0, 1) := by decide +kernel
theorem dX2_scan_142 : decode cX2_scan 142 = .ok (.dup, 1) := by decide +kernel
theorem dX2_scan_143 : decode cX2_scan 143 = .ok (.getfield 167, 3) := by decide +kernel
theorem dX2_scan_146 : decode cX2_scan 146 = .ok (.iconst 1, 1) := by decide +kernel
theorem dX2_scan_147 : decode cX2_scan 147 = .ok (.iadd, 1) := by decide +kernel
theorem dX2_scan_148 : decode cX2_scan 148 = .ok (.putfield 167, 3) := by decide +kernel
theorem dX2_scan_151 : decode cX2_scan 151 = .ok (.goto (-124), 3) := by decide +kernel
theorem dX2_scan_154 : decode cX2_scan 154 = .ok (.return_, 1) := by decide +kernel
theorem dX2_skip_0 : decode cX2_skip 0 = .ok (.aload_n 0, 1) := by decide +kernel
theorem dX2_skip_1 : decode cX2_skip 1 = .ok (.iconst 0, 1) := by decide +kernel
theorem dX2_skip_2 : decode cX2_skip 2 = .ok (.invokevirtual 177, 3) := by decide +kernel
theorem dX2_skip_5 : decode cX2_skip 5 = .ok (.bipush 10, 2) := by decide +kernel
theorem dX2_skip_7 : decode cX2_skip 7 = .ok (.if_icmp .eq 43, 3) := by decide +kernel
theorem dX2_skip_10 : decode cX2_skip 10 = .ok (.aload_n 0, 1) := by decide +kernel
theorem dX2_skip_11 : decode cX2_skip 11 = .ok (.iconst 0, 1) := by decide +kernel
theorem dX2_skip_12 : decode cX2_skip 12 = .ok (.invokevirtual 177, 3) := by decide +kernel
theorem dX2_skip_15 : decode cX2_skip 15 = .ok (.bipush 32, 2) := by decide +kernel
theorem dX2_skip_17 : decode cX2_skip 17 = .ok (.if_icmp .eq 33, 3) := by decide +kernel
theorem dX2_skip_20 : decode cX2_skip 20 = .ok (.aload_n 0, 1) := by decide +kernel
theorem dX2_skip_21 : decode cX2_skip 21 = .ok (.iconst 0, 1) := by decide +kernel
theorem dX2_skip_22 : decode cX2_skip 22 = .ok (.invokevirtual 177, 3) := by decide +kernel
theorem dX2_skip_25 : decode cX2_skip 25 = .ok (.bipush 47, 2) := by decide +kernel
theorem dX2_skip_27 : decode cX2_skip 27 = .ok (.if_icmp .ne 187, 3) := by decide +kernel
theorem dX2_skip_30 : decode cX2_skip 30 = .ok (.aload_n 0, 1) := by decide +kernel
theorem dX2_skip_31 : decode cX2_skip 31 = .ok (.iconst 1, 1) := by decide +kernel
theorem dX2_skip_32 : decode cX2_skip 32 = .ok (.invokevirtual 177, 3) := by decide +kernel
theorem dX2_skip_35 : decode cX2_skip 35 = .ok (.bipush 47, 2) := by decide +kernel
theorem dX2_skip_37 : decode cX2_skip 37 = .ok (.if_icmp .eq 13, 3) := by decide +kernel
theorem dX2_skip_40 : decode cX2_skip 40 = .ok (.aload_n 0, 1) := by decide +kernel
theorem dX2_skip_41 : decode cX2_skip 41 = .ok (.iconst 1, 1) := by decide +kernel
theorem dX2_skip_42 : decode cX2_skip 42 = .ok (.invokevirtual 177, 3) := by decide +kernel
theorem dX2_skip_45 : decode cX2_skip 45 = .ok (.bipush 42, 2) := by decide +kernel
theorem dX2_skip_47 : decode cX2_skip 47 = .ok (.if_icmp .ne 167, 3) := by decide +kernel
theorem dX2_skip_50 : decode cX2_skip 50 = .ok (.aload_n 0, 1) := by decide +kernel
theorem dX2_skip_51 : decode cX2_skip 51 = .ok (.iconst 0, 1) := by decide +kernel
theorem dX2_skip_52 : decode cX2_skip 52 = .ok (.invokevirtual 177, 3) := by decide +kernel
theorem dX2_skip_55 : decode cX2_skip 55 = .ok (.bipush 47, 2) := by decide +kernel
theorem dX2_skip_57 : decode cX2_skip 57 = .ok (.if_icmp .eq 16, 3) := by decide +kernel
theorem dX2_skip_60 : decode cX2_skip 60 = .ok (.aload_n 0, 1) := by decide +kernel
theorem dX2_skip_61 : decode cX2_skip 61 = .ok (.dup, 1) := by decide +kernel
theorem dX2_skip_62 : decode cX2_skip 62 = .ok (.getfield 164, 3) := by decide +kernel
theorem dX2_skip_65 : decode cX2_skip 65 = .ok (.iconst 1, 1) := by decide +kernel
theorem dX2_skip_66 : decode cX2_skip 66 = .ok (.iadd, 1) := by decide +kernel
theorem dX2_skip_67 : decode cX2_skip 67 = .ok (.putfield 164, 3) := by decide +kernel
theorem dX2_skip_70 : decode cX2_skip 70 = .ok (.goto (-70), 3) := by decide +kernel
theorem dX2_skip_73 : decode cX2_skip 73 = .ok (.aload_n 0, 1) := by decide +kernel
theorem dX2_skip_74 : decode cX2_skip 74 = .ok (.getfield 164, 3) := by decide +kernel
theorem dX2_skip_77 : decode cX2_skip 77 = .ok (.istore_n 1, 1) := by decide +kernel
theorem dX2_skip_78 : decode cX2_skip 78 = .ok (.aload_n 0, 1) := by decide +kernel
theorem dX2_skip_79 : decode cX2_skip 79 = .ok (.iconst 1, 1) := by decide +kernel
theorem dX2_skip_80 : decode cX2_skip 80 = .ok (.invokevirtual 177, 3) := by decide +kernel
theorem dX2_skip_83 : decode cX2_skip 83 = .ok (.bipush 47, 2) := by decide +kernel
theorem dX2_skip_85 : decode cX2_skip 85 = .ok (.if_icmp .ne 7, 3) := by decide +kernel
theorem dX2_skip_88 : decode cX2_skip 88 = .ok (.iconst 1, 1) := by decide +kernel
theorem dX2_skip_89 : decode cX2_skip 89 = .ok (.goto 4, 3) := by decide +kernel
theorem dX2_skip_92 : decode cX2_skip 92 = .ok (.iconst 0, 1) := by decide +kernel
theorem dX2_skip_93 : decode cX2_skip 93 = .ok (.istore_n 2, 1) := by decide +kernel
theorem dX2_skip_94 : decode cX2_skip 94 = .ok (.aload_n 0, 1) := by decide +kernel
theorem dX2_skip_95 : decode cX2_skip 95 = .ok (.dup, 1) := by decide +kernel
theorem dX2_skip_96 : decode cX2_skip 96 = .ok (.getfield 164, 3) := by decide +kernel
theorem dX2_skip_99 : decode cX2_skip 99 = .ok (.iconst 2, 1) := by decide +kernel
theorem dX2_skip_100 : decode cX2_skip 100 = .ok (.iadd, 1) := by decide +kernel
theorem dX2_skip_101 : decode cX2_skip 101 = .ok (.putfield 164, 3) := by decide +kernel
theorem dX2_skip_104 : decode cX2_skip 104 = .ok (.aload_n 0, 1) := by decide +kernel
theorem dX2_skip_105 : decode cX2_skip 105 = .ok (.getfield 164, 3) := by decide +kernel
theorem dX2_skip_108 : decode cX2_skip 108 = .ok (.aload_n 0, 1) := by decide +kernel
theorem dX2_skip_109 : decode cX2_skip 109 = .ok (.getfield 160, 3) := by decide +kernel
theorem dX2_skip_112 : decode cX2_skip 112 = .ok (.if_icmp .ge 53, 3) := by decide +kernel
theorem dX2_skip_115 : decode cX2_skip 115 = .ok (.iload_n 2, 1) := by decide +kernel
theorem dX2_skip_116 : decode cX2_skip 116 = .ok (.ifCond .eq 16, 3) := by decide +kernel
theorem dX2_skip_119 : decode cX2_skip 119 = .ok (.aload_n 0, 1) := by decide +kernel
theorem dX2_skip_120 : decode cX2_skip 120 = .ok (.iconst 0, 1) := by decide +kernel
theorem dX2_skip_121 : decode cX2_skip 121 = .ok (.invokevirtual 177, 3) := by decide +kernel
theorem dX2_skip_124 : decode cX2_skip 124 = .ok (.bipush 10, 2) := by decide +kernel
theorem dX2_skip_126 : decode cX2_skip 126 = .ok (.if_icmp .ne 26, 3) := by decide +kernel
theorem dX2_skip_129 : decode cX2_skip 129 = .ok (.goto 36, 3) := by decide +kernel
theorem dX2_skip_132 : decode cX2_skip 132 = .ok (.aload_n 0, 1) := by decide +kernel
theorem dX2_skip_133 : decode cX2_skip 133 = .ok (.iconst 0, 1) := by decide +kernel
theorem dX2_skip_134 : decode cX2_skip 134 = .ok (.invokevirtual 177, 3) := by decide +kernel
theorem dX2_skip_137 : decode cX2_skip 137 = .ok (.bipush 42, 2) := by decide +kernel
theorem dX2_skip_139 : decode cX2_skip 139 = .ok (.if_icmp .ne 13, 3) := by decide +kernel
theorem dX2_skip_142 : decode cX2_skip 142 = .ok (.aload_n 0, 1) := by decide +kernel
theorem dX2_skip_143 : decode cX2_skip 143 = .ok (.iconst 1, 1) := by decide +kernel
theorem dX2_skip_144 : decode cX2_skip 144 = .ok (.invokevirtual 177, 3) := by decide +kernel
theorem dX2_skip_147 : decode cX2_skip 147 = .ok (.bipush 47, 2) := by decide +kernel
theorem dX2_skip_149 : decode cX2_skip 149 = .ok (.if_icmp .eq 16, 3) := by decide +kernel
theorem dX2_skip_152 : decode cX2_skip 152 = .ok (.aload_n 0, 1) := by decide +kernel
theorem dX2_skip_153 : decode cX2_skip 153 = .ok (.dup, 1) := by decide +kernel
theorem dX2_skip_154 : decode cX2_skip 154 = .ok (.getfield 164, 3) := by decide +kernel
theorem dX2_skip_157 : decode cX2_skip 157 = .ok (.iconst 1, 1) := by decide +kernel
theorem dX2_skip_158 : decode cX2_skip 158 = .ok (.iadd, 1) := by decide +kernel
theorem dX2_skip_159 : decode cX2_skip 159 = .ok (.putfield 164, 3) := by decide +kernel
theorem dX2_skip_162 : decode cX2_skip 162 = .ok (.goto (-58), 3) := by decide +kernel
theorem dX2_skip_165 : decode cX2_skip 165 = .ok (.aload_n 0, 1) := by decide +kernel
theorem dX2_skip_166 : decode cX2_skip 166 = .ok (.getfield 164, 3) := by decide +kernel
theorem dX2_skip_169 : decode cX2_skip 169 = .ok (.aload_n 0, 1) := by decide +kernel
theorem dX2_skip_170 : decode cX2_skip 170 = .ok (.getfield 160, 3) := by decide +kernel
theorem dX2_skip_173 : decode cX2_skip 173 = .ok (.if_icmp .ne 9, 3) := by decide +kernel
theorem dX2_skip_176 : decode cX2_skip 176 = .ok (.iload_n 2, 1) := by decide +kernel
theorem dX2_skip_177 : decode cX2_skip 177 = .ok (.ifCond .ne 5, 3) := by decide +kernel
theorem dX2_skip_180 : decode cX2_skip 180 = .ok (.iload_n 1, 1) := by decide +kernel
theorem dX2_skip_181 : decode cX2_skip 181 = .ok (.ireturn, 1) := by decide +kernel
theorem dX2_skip_182 : decode cX2_skip 182 = .ok (.aload_n 0, 1) := by decide +kernel
theorem dX2_skip_183 : decode cX2_skip 183 = .ok (.getfield 164, 3) := by decide +kernel
theorem dX2_skip_186 : decode cX2_skip 186 = .ok (.aload_n 0, 1) := by decide +kernel
theorem dX2_skip_187 : decode cX2_skip 187 = .ok (.getfield 160, 3) := by decide +kernel
theorem dX2_skip_190 : decode cX2_skip 190 = .ok (.if_icmp .ge 21, 3) := by decide +kernel
theorem dX2_skip_193 : decode cX2_skip 193 = .ok (.aload_n 0, 1) := by decide +kernel
theorem dX2_skip_194 : decode cX2_skip 194 = .ok (.dup, 1) := by decide +kernel
theorem dX2_skip_195 : decode cX2_skip 195 = .ok (.getfield 164, 3) := by decide +kernel
theorem dX2_skip_198 : decode cX2_skip 198 = .ok (.iload_n 2, 1) := by decide +kernel
theorem dX2_skip_199 : decode cX2_skip 199 = .ok (.ifCond .eq 7, 3) := by decide +kernel
theorem dX2_skip_202 : decode cX2_skip 202 = .ok (.iconst 1, 1) := by decide +kernel
theorem dX2_skip_203 : decode cX2_skip 203 = .ok (.goto 4, 3) := by decide +kernel
theorem dX2_skip_206 : decode cX2_skip 206 = .ok (.iconst 2, 1) := by decide +kernel
theorem dX2_skip_207 : decode cX2_skip 207 = .ok (.iadd, 1) := by decide +kernel
theorem dX2_skip_208 : decode cX2_skip 208 = .ok (.putfield 164, 3) := by decide +kernel
theorem dX2_skip_211 : decode cX2_skip 211 = .ok (.goto (-211), 3) := by decide +kernel
theorem dX2_skip_214 : decode cX2_skip 214 = .ok (.iconst (-1), 1) := by decide +kernel
theorem dX2_skip_215 : decode cX2_skip 215 = .ok (.ireturn, 1) := by decide +kernel
theorem dX2_now_0 : decode cX2_now 0 = .ok (.aload_n 0, 1) := by decide +kernel
theorem dX2_now_1 : decode cX2_now 1 = .ok (.getfield 164, 3) := by decide +kernel
theorem dX2_now_4 : decode cX2_now 4 = .ok (.iload_n 1, 1) := by decide +kernel
theorem dX2_now_5 : decode cX2_now 5 = .ok (.iadd, 1) := by decide +kernel
theorem dX2_now_6 : decode cX2_now 6 = .ok (.aload_n 0, 1) := by decide +kernel
theorem dX2_now_7 : decode cX2_now 7 = .ok (.getfield 160, 3) := by decide +kernel
theorem dX2_now_10 : decode cX2_now 10 = .ok (.if_icmp .ge 21, 3) := by decide +kernel
theorem dX2_now_13 : decode cX2_now 13 = .ok (.aload_n 0, 1) := by decide +kernel
theorem dX2_now_14 : decode cX2_now 14 = .ok (.getfield 156, 3) := by decide +kernel
theorem dX2_now_17 : decode cX2_now 17 = .ok (.aload_n 0, 1) := by decide +kernel
theorem dX2_now_18 : decode cX2_now 18 = .ok (.getfield 164, 3) := by decide +kernel
theorem dX2_now_21 : decode cX2_now 21 = .ok (.iload_n 1, 1) := by decide +kernel
theorem dX2_now_22 : decode cX2_now 22 = .ok (.iadd, 1) := by decide +kernel
theorem dX2_now_23 : decode cX2_now 23 = .ok (.baload, 1) := by decide +kernel
theorem dX2_now_24 : decode cX2_now 24 = .ok (.sipush 255, 3) := by decide +kernel
theorem dX2_now_27 : decode cX2_now 27 = .ok (.iand, 1) := by decide +kernel
theorem dX2_now_28 : decode cX2_now 28 = .ok (.goto 4, 3) := by decide +kernel
theorem dX2_now_31 : decode cX2_now 31 = .ok (.iconst (-1), 1) := by decide +kernel
theorem dX2_now_32 : decode cX2_now 32 = .ok (.ireturn, 1) := by decide +kernel
theorem dX2_number_0 : decode cX2_number 0 = .ok (.aload_n 0, 1) := by decide +kernel
theorem dX2_number_1 : decode cX2_number 1 = .ok (.invokevirtual 197, 3) := by decide +kernel
theorem dX2_number_4 : decode cX2_number 4 = .ok (.istore_n 1, 1) := by decide +kernel
theorem dX2_number_5 : decode cX2_number 5 = .ok (.aload_n 0, 1) := by decide +kernel
theorem dX2_number_6 : decode cX2_number 6 = .ok (.iconst 0, 1) := by decide +kernel
theorem dX2_number_7 : decode cX2_number 7 = .ok (.invokevirtual 177, 3) := by decide +kernel
theorem dX2_number_10 : decode cX2_number 10 = .ok (.bipush 48, 2) := by decide +kernel
theorem dX2_number_12 : decode cX2_number 12 = .ok (.if_icmp .ne 17, 3) := by decide +kernel
theorem dX2_number_15 : decode cX2_number 15 = .ok (.aload_n 0, 1) := by decide +kernel
theorem dX2_number_16 : decode cX2_number 16 = .ok (.iconst 1, 1) := by decide +kernel
theorem dX2_number_17 : decode cX2_number 17 = .ok (.invokevirtual 177, 3) := by decide +kernel
theorem dX2_number_20 : decode cX2_number 20 = .ok (.bipush 120, 2) := by decide +kernel
theorem dX2_number_22 : decode cX2_number 22 = .ok (.if_icmp .ne 7, 3) := by decide +kernel
theorem dX2_number_25 : decode cX2_number 25 = .ok (.iconst 1, 1) := by decide +kernel
theorem dX2_number_26 : decode cX2_number 26 = .ok (.goto 4, 3) := by decide +kernel
theorem dX2_number_29 : decode cX2_number 29 = .ok (.iconst 0, 1) := by decide +kernel
theorem dX2_number_30 : decode cX2_number 30 = .ok (.istore_n 2, 1) := by decide +kernel
theorem dX2_number_31 : decode cX2_number 31 = .ok (.iload_n 2, 1) := by decide +kernel
theorem dX2_number_32 : decode cX2_number 32 = .ok (.ifCond .eq 7, 3) := by decide +kernel
theorem dX2_number_35 : decode cX2_number 35 = .ok (.iconst 2, 1) := by decide +kernel
theorem dX2_number_36 : decode cX2_number 36 = .ok (.goto 4, 3) := by decide +kernel
theorem dX2_number_39 : decode cX2_number 39 = .ok (.iconst 0, 1) := by decide +kernel
theorem dX2_number_40 : decode cX2_number 40 = .ok (.istore_n 3, 1) := by decide +kernel
theorem dX2_number_41 : decode cX2_number 41 = .ok (.iload_n 1, 1) := by decide +kernel
theorem dX2_number_42 : decode cX2_number 42 = .ok (.iload_n 3, 1) := by decide +kernel
theorem dX2_number_43 : decode cX2_number 43 = .ok (.if_icmp .eq 20, 3) := by decide +kernel
theorem dX2_number_46 : decode cX2_number 46 = .ok (.iload_n 1, 1) := by decide +kernel
theorem dX2_number_47 : decode cX2_number 47 = .ok (.iload_n 3, 1) := by decide +kernel
theorem dX2_number_48 : decode cX2_number 48 = .ok (.isub, 1) := by decide +kernel
theorem dX2_number_49 : decode cX2_number 49 = .ok (.iload_n 2, 1) := by decide +kernel
theorem dX2_number_50 : decode cX2_number 50 = .ok (.ifCond .eq 8, 3) := by decide +kernel
theorem dX2_number_53 : decode cX2_number 53 = .ok (.bipush 8, 2) := by decide +kernel
theorem dX2_number_55 : decode cX2_number 55 = .ok (.goto 5, 3) := by decide +kernel
theorem dX2_number_58 : decode cX2_number 58 = .ok (.bipush 10, 2) := by decide +kernel
theorem dX2_number_60 : decode cX2_number 60 = .ok (.if_icmp .le 5, 3) := by decide +kernel
theorem dX2_number_63 : decode cX2_number 63 = .ok (.iconst 1, 1) := by decide +kernel
theorem dX2_number_64 : decode cX2_number 64 = .ok (.ireturn, 1) := by decide +kernel
theorem dX2_number_65 : decode cX2_number 65 = .ok (.lconst 0, 1) := by decide +kernel
theorem dX2_number_66 : decode cX2_number 66 = .ok (.lstore 4, 2) := by decide +kernel
theorem dX2_number_68 : decode cX2_number 68 = .ok (.iload_n 3, 1) := by decide +kernel
theorem dX2_number_69 : decode cX2_number 69 = .ok (.istore 6, 2) := by decide +kernel
theorem dX2_number_71 : decode cX2_number 71 = .ok (.iload 6, 2) := by decide +kernel
theorem dX2_number_73 : decode cX2_number 73 = .ok (.iload_n 1, 1) := by decide +kernel
theorem dX2_number_74 : decode cX2_number 74 = .ok (.if_icmp .ge 60, 3) := by decide +kernel
theorem dX2_number_77 : decode cX2_number 77 = .ok (.aload_n 0, 1) := by decide +kernel
theorem dX2_number_78 : decode cX2_number 78 = .ok (.iload 6, 2) := by decide +kernel
theorem dX2_number_80 : decode cX2_number 80 = .ok (.invokevirtual 177, 3) := by decide +kernel
theorem dX2_number_83 : decode cX2_number 83 = .ok (.invokestatic 217, 3) := by decide +kernel
theorem dX2_number_86 : decode cX2_number 86 = .ok (.istore 7, 2) := by decide +kernel
theorem dX2_number_88 : decode cX2_number 88 = .ok (.iload 7, 2) := by decide +kernel
theorem dX2_number_90 : decode cX2_number 90 = .ok (.ifCond .lt 14, 3) := by decide +kernel
theorem dX2_number_93 : decode cX2_number 93 = .ok (.iload_n 2, 1) := by decide +kernel
theorem dX2_number_94 : decode cX2_number 94 = .ok (.ifCond .ne 12, 3) := by decide +kernel
theorem dX2_number_97 : decode cX2_number 97 = .ok (.iload 7, 2) := by decide +kernel
theorem dX2_number_99 : decode cX2_number 99 = .ok (.bipush 9, 2) := by decide +kernel
theorem dX2_number_101 : decode cX2_number 101 = .ok (.if_icmp .le 5, 3) := by decide +kernel
theorem dX2_number_104 : decode cX2_number 104 = .ok (.iconst 1, 1) := by decide +kernel
theorem dX2_number_105 : decode cX2_number 105 = .ok (.ireturn, 1) := by decide +kernel
theorem dX2_number_106 : decode cX2_number 106 = .ok (.iload_n 2, 1) := by decide +kernel
theorem dX2_number_107 : decode cX2_number 107 = .ok (.ifCond .eq 9, 3) := by decide +kernel
theorem dX2_number_110 : decode cX2_number 110 = .ok (.ldc2_w 220, 3) := by decide +kernel
theorem dX2_number_113 : decode cX2_number 113 = .ok (.goto 6, 3) := by decide +kernel
theorem dX2_number_116 : decode cX2_number 116 = .ok (.ldc2_w 222, 3) := by decide +kernel
theorem dX2_number_119 : decode cX2_number 119 = .ok (.lload 4, 2) := by decide +kernel
theorem dX2_number_121 : decode cX2_number 121 = .ok (.lmul, 1) := by decide +kernel
theorem dX2_number_122 : decode cX2_number 122 = .ok (.iload 7, 2) := by decide +kernel
theorem dX2_number_124 : decode cX2_number 124 = .ok (.i2l, 1) := by decide +kernel
theorem dX2_number_125 : decode cX2_number 125 = .ok (.ladd, 1) := by decide +kernel
theorem dX2_number_126 : decode cX2_number 126 = .ok (.lstore 4, 2) := by decide +kernel
theorem dX2_number_128 : decode cX2_number 128 = .ok (.iinc 6 1, 3) := by decide +kernel
theorem dX2_number_131 : decode cX2_number 131 = .ok (.goto (-60), 3) := by decide +kernel
theorem dX2_number_134 : decode cX2_number 134 = .ok (.lload 4, 2) := by decide +kernel
theorem dX2_number_136 : decode cX2_number 136 = .ok (.ldc2_w 224, 3) := by decide +kernel
theorem dX2_number_139 : decode cX2_number 139 = .ok (.lcmp, 1) := by decide +kernel
theorem dX2_number_140 : decode cX2_number 140 = .ok (.ifCond .le 5, 3) := by decide +kernel
theorem dX2_number_143 : decode cX2_number 143 = .ok (.iconst 1, 1) := by decide +kernel
theorem dX2_number_144 : decode cX2_number 144 = .ok (.ireturn, 1) := by decide +kernel
theorem dX2_number_145 : decode cX2_number 145 = .ok (.aload_n 0, 1) := by decide +kernel
theorem dX2_number_146 : decode cX2_number 146 = .ok (.getfield 147, 3) := by decide +kernel
theorem dX2_number_149 : decode cX2_number 149 = .ok (.aload_n 0, 1) := by decide +kernel
theorem dX2_number_150 : decode cX2_number 150 = .ok (.getfield 167, 3) := by decide +kernel
theorem dX2_number_153 : decode cX2_number 153 = .ok (.lload 4, 2) := by decide +kernel
theorem dX2_number_155 : decode cX2_number 155 = .ok (.l2i, 1) := by decide +kernel
theorem dX2_number_156 : decode cX2_number 156 = .ok (.iastore, 1) := by decide +kernel
theorem dX2_number_157 : decode cX2_number 157 = .ok (.aload_n 0, 1) := by decide +kernel
theorem dX2_number_158 : decode cX2_number 158 = .ok (.dup, 1) := by decide +kernel
theorem dX2_number_159 : decode cX2_number 159 = .ok (.getfield 164, 3) := by decide +kernel
theorem dX2_number_162 : decode cX2_number 162 = .ok (.iload_n 1, 1) := by decide +kernel
theorem dX2_number_163 : decode cX2_number 163 = .ok (.iadd, 1) := by decide +kernel
theorem dX2_number_164 : decode cX2_number 164 = .ok (.putfield 164, 3) := by decide +kernel
theorem dX2_number_167 : decode cX2_number 167 = .ok (.iconst 3, 1) := by decide +kernel
theorem dX2_number_168 : decode cX2_number 168 = .ok (.ireturn, 1) := by decide +kernel
theorem dX2_run_0 : decode cX2_run 0 = .ok (.iconst 0, 1) := by decide +kernel
theorem dX2_run_1 : decode cX2_run 1 = .ok (.istore_n 1, 1) := by decide +kernel
theorem dX2_run_2 : decode cX2_run 2 = .ok (.aload_n 0, 1) := by decide +kernel
theorem dX2_run_3 : decode cX2_run 3 = .ok (.iload_n 1, 1) := by decide +kernel
theorem dX2_run_4 : decode cX2_run 4 = .ok (.invokevirtual 177, 3) := by decide +kernel
theorem dX2_run_7 : decode cX2_run 7 = .ok (.invokestatic 188, 3) := by decide +kernel
theorem dX2_run_10 : decode cX2_run 10 = .ok (.ifCond .ne 14, 3) := by decide +kernel
theorem dX2_run_13 : decode cX2_run 13 = .ok (.aload_n 0, 1) := by decide +kernel
theorem dX2_run_14 : decode cX2_run 14 = .ok (.iload_n 1, 1) := by decide +kernel
theorem dX2_run_15 : decode cX2_run 15 = .ok (.invokevirtual 177, 3) := by decide +kernel
theorem dX2_run_18 : decode cX2_run 18 = .ok (.invokestatic 181, 3) := by decide +kernel
theorem dX2_run_21 : decode cX2_run 21 = .ok (.ifCond .eq 9, 3) := by decide +kernel
theorem dX2_run_24 : decode cX2_run 24 = .ok (.iinc 1 1, 3) := by decide +kernel
theorem dX2_run_27 : decode cX2_run 27 = .ok (.goto (-25), 3) := by decide +kernel
theorem dX2_run_30 : decode cX2_run 30 = .ok (.iload_n 1, 1) := by decide +kernel
theorem dX2_run_31 : decode cX2_run 31 = .ok (.ireturn, 1) := by decide +kernel
