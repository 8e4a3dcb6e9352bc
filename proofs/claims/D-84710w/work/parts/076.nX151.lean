/-! names: X21_branch X21_leading X21_constant X22_init X22_value X22_branch X22_leading X22_constant X23_init X23_value X23_leading X23_constant (tools/chunk.py) -/
set_option maxRecDepth 100000
theorem q2068 : (Jvm.Cond.methodLink "CompiledHouse$Logic" (33 : Nat) ({ cls := "java/util/ArrayList", name := "size", desc := "()I" } : Jvm.MethodName)) ∈ lw_all := lw_g (lw_at lw_m8 192 rfl) rfl
theorem lk_X21_33 : xLk RX21 33 yJ5_size := Or.inl q2068
theorem q2069 : (Jvm.Cond.methodLink "CompiledHouse$Logic" (67 : Nat) ({ cls := "CompiledHouse$Expr", name := "branch", desc := "(LCompiledHouse$Maker;LCompiledHouse$Block;LCompiledHouse$Block;)V" } : Jvm.MethodName)) ∈ lw_all := lw_g (lw_at lw_m8 193 rfl) rfl
theorem lk_X21_67 : xLk RX21 67 yX15_branch := Or.inl q2069
abbrev cX21_leading : ByteArray := prog_20_method_2_code
def yX21_leading : MethodName := ⟨RX21, "leading", "()I"⟩
theorem q2166 : (Jvm.Cond.code ({ cls := "CompiledHouse$Logic", name := "leading", desc := "()I" } : Jvm.MethodName) prog_20_method_2_code (1 : Nat) (Option.some Jvm.ClassFile.FieldType.int)) ∈ lw_all := lw_g (lw_at lw_m9 50 rfl) rfl
def kX21_leading : xK := (yX21_leading, cX21_leading, 1, some .int, [])
theorem me_X21_leading : xMe kX21_leading 0 := ⟨q2166, q232, by decide, by decide, by decide +kernel⟩
theorem q2165 : (Jvm.Cond.instanceMethod ({ cls := "CompiledHouse$Logic", name := "leading", desc := "()I" } : Jvm.MethodName)) ∈ lw_all := lw_g (lw_at lw_m9 49 rfl) rfl
theorem is_X21_leading : Cond.instanceMethod kX21_leading.y ∈ lw_all := q2165
theorem q2167 : (Jvm.Cond.methodLink "CompiledHouse$Logic" (29 : Nat) ({ cls := "CompiledHouse$Expr", name := "leading", desc := "()I" } : Jvm.MethodName)) ∈ lw_all := lw_g (lw_at lw_m9 51 rfl) rfl
theorem lk_X21_29 : xLk RX21 29 yX15_leading := Or.inl q2167
abbrev cX21_constant : ByteArray := prog_20_method_3_code
def yX21_constant : MethodName := ⟨RX21, "constant", "(LCompiledHouse$Maker;)I"⟩
theorem q2325 : (Jvm.Cond.code ({ cls := "CompiledHouse$Logic", name := "constant", desc := "(LCompiledHouse$Maker;)I" } : Jvm.MethodName) prog_20_method_3_code (5 : Nat) (Option.some Jvm.ClassFile.FieldType.int)) ∈ lw_all := lw_g (lw_at lw_m9 209 rfl) rfl
def kX21_constant : xK := (yX21_constant, cX21_constant, 5, some .int, [])
theorem me_X21_constant : xMe kX21_constant 1 := ⟨q2325, q232, by decide, by decide, by decide +kernel⟩
theorem q2324 : (Jvm.Cond.instanceMethod ({ cls := "CompiledHouse$Logic", name := "constant", desc := "(LCompiledHouse$Maker;)I" } : Jvm.MethodName)) ∈ lw_all := lw_g (lw_at lw_m9 208 rfl) rfl
theorem is_X21_constant : Cond.instanceMethod kX21_constant.y ∈ lw_all := q2324
theorem q2326 : (Jvm.Cond.methodLink "CompiledHouse$Logic" (36 : Nat) ({ cls := "CompiledHouse$Expr", name := "constant", desc := "(LCompiledHouse$Maker;)I" } : Jvm.MethodName)) ∈ lw_all := lw_g (lw_at lw_m9 210 rfl) rfl
theorem q1431 : (Jvm.Cond.methodLink "CompiledHouse$Chain" (3 : Nat) ({ cls := "java/util/ArrayList", name := "get", desc := "(I)Ljava/lang/Object;" } : Jvm.MethodName)) ∈ lw_all := lw_g (lw_at lw_m6 35 rfl) rfl
theorem lk_X22_3 : xLk RX22 3 yJ5_get := Or.inl q1431
theorem q1432 : (Jvm.Cond.classLink "CompiledHouse$Chain" (9 : Nat) "CompiledHouse$Expr") ∈ lw_all := lw_g (lw_at lw_m6 36 rfl) rfl
theorem q1202 : (Jvm.Cond.fieldLink "CompiledHouse$Chain" (11 : Nat) "CompiledHouse$Expr" "first" "I") ∈ lw_all := lw_g (lw_at lw_m5 46 rfl) rfl
theorem f_X22_11_14 : xF RX22 11 14 0 := ⟨_, "CompiledHouse$Expr", rfl, by decide, Or.inl q1202, Or.inl rfl⟩
theorem f_X22_11_15 : xF RX22 11 15 0 := ⟨_, "CompiledHouse$Expr", rfl, by decide, Or.inl q1202, Or.inl rfl⟩
theorem f_X22_11_16 : xF RX22 11 16 0 := ⟨_, "CompiledHouse$Expr", rfl, by decide, Or.inl q1202, Or.inl rfl⟩
theorem f_X22_11_17 : xF RX22 11 17 0 := ⟨_, "CompiledHouse$Expr", rfl, by decide, Or.inl q1202, Or.inl rfl⟩
theorem f_X22_11_18 : xF RX22 11 18 0 := ⟨_, "CompiledHouse$Expr", rfl, by decide, Or.inl q1202, Or.inl rfl⟩
theorem f_X22_11_19 : xF RX22 11 19 0 := ⟨_, "CompiledHouse$Expr", rfl, by decide, Or.inl q1202, Or.inl rfl⟩
theorem f_X22_11_20 : xF RX22 11 20 0 := ⟨_, "CompiledHouse$Expr", rfl, by decide, Or.inl q1202, Or.inl rfl⟩
theorem f_X22_11_21 : xF RX22 11 21 0 := ⟨_, "CompiledHouse$Expr", rfl, by decide, Or.inl q1202, Or.inl rfl⟩
theorem q1433 : (Jvm.Cond.methodLink "CompiledHouse$Chain" (15 : Nat) ({ cls := "CompiledHouse$Expr", name := "<init>", desc := "(I)V" } : Jvm.MethodName)) ∈ lw_all := lw_g (lw_at lw_m6 37 rfl) rfl
theorem lk_X22_15 : xLk RX22 15 yX15_init := Or.inl q1433
theorem q1434 : (Jvm.Cond.fieldLink "CompiledHouse$Chain" (19 : Nat) "CompiledHouse$Chain" "acts" "[I") ∈ lw_all := lw_g (lw_at lw_m6 38 rfl) rfl
theorem f_X22_19_20 : xF RX22 19 20 1 := ⟨_, "CompiledHouse$Chain", rfl, by decide, Or.inl q1434, Or.inl rfl⟩
theorem q1435 : (Jvm.Cond.fieldLink "CompiledHouse$Chain" (25 : Nat) "CompiledHouse$Chain" "parts" "Ljava/util/ArrayList;") ∈ lw_all := lw_g (lw_at lw_m6 39 rfl) rfl
theorem f_X22_25_20 : xF RX22 25 20 2 := ⟨_, "CompiledHouse$Chain", rfl, by decide, Or.inl q1435, Or.inl rfl⟩
abbrev cX22_value : ByteArray := prog_8_method_4_code
def yX22_value : MethodName := ⟨RX22, "value", "(LCompiledHouse$Maker;)J"⟩
theorem q2040 : (Jvm.Cond.code ({ cls := "CompiledHouse$Chain", name := "value", desc := "(LCompiledHouse$Maker;)J" } : Jvm.MethodName) prog_8_method_4_code (5 : Nat) (Option.some Jvm.ClassFile.FieldType.long)) ∈ lw_all := lw_g (lw_at lw_m8 164 rfl) rfl
def kX22_value : xK := (yX22_value, cX22_value, 5, some .long, [])
theorem me_X22_value : xMe kX22_value 1 := ⟨q2040, q234, by decide, by decide, by decide +kernel⟩
theorem q2039 : (Jvm.Cond.instanceMethod ({ cls := "CompiledHouse$Chain", name := "value", desc := "(LCompiledHouse$Maker;)J" } : Jvm.MethodName)) ∈ lw_all := lw_g (lw_at lw_m8 163 rfl) rfl
theorem is_X22_value : Cond.instanceMethod kX22_value.y ∈ lw_all := q2039
theorem q2041 : (Jvm.Cond.methodLink "CompiledHouse$Chain" (41 : Nat) ({ cls := "CompiledHouse$Expr", name := "value", desc := "(LCompiledHouse$Maker;)J" } : Jvm.MethodName)) ∈ lw_all := lw_g (lw_at lw_m8 165 rfl) rfl
theorem q2104 : (Jvm.Cond.methodLink "CompiledHouse$Chain" (45 : Nat) ({ cls := "CompiledHouse$Maker", name := "act", desc := "(IJJ)J" } : Jvm.MethodName)) ∈ lw_all := lw_g (lw_at lw_m8 228 rfl) rfl
theorem lk_X22_45 : xLk RX22 45 yX6_act := Or.inl q2104
abbrev cX22_branch : ByteArray := prog_8_method_5_code
def yX22_branch : MethodName := ⟨RX22, "branch", "(LCompiledHouse$Maker;LCompiledHouse$Block;LCompiledHouse$Block;)V"⟩
theorem q2053 : (Jvm.Cond.code ({ cls := "CompiledHouse$Chain", name := "branch", desc := "(LCompiledHouse$Maker;LCompiledHouse$Block;LCompiledHouse$Block;)V" } : Jvm.MethodName) prog_8_method_5_code (9 : Nat) (Option.none : Option Jvm.ClassFile.FieldType)) ∈ lw_all := lw_g (lw_at lw_m8 177 rfl) rfl
def kX22_branch : xK := (yX22_branch, cX22_branch, 9, none, [])
theorem me_X22_branch : xMe kX22_branch 3 := ⟨q2053, q234, by decide, by decide, by decide +kernel⟩
theorem q2052 : (Jvm.Cond.instanceMethod ({ cls := "CompiledHouse$Chain", name := "branch", desc := "(LCompiledHouse$Maker;LCompiledHouse$Block;LCompiledHouse$Block;)V" } : Jvm.MethodName)) ∈ lw_all := lw_g (lw_at lw_m8 176 rfl) rfl
theorem is_X22_branch : Cond.instanceMethod kX22_branch.y ∈ lw_all := q2052
theorem q2054 : (Jvm.Cond.methodLink "CompiledHouse$Chain" (51 : Nat) ({ cls := "CompiledHouse$Expr", name := "branch", desc := "(LCompiledHouse$Maker;LCompiledHouse$Block;LCompiledHouse$Block;)V" } : Jvm.MethodName)) ∈ lw_all := lw_g (lw_at lw_m8 178 rfl) rfl
theorem lk_X22_51 : xLk RX22 51 yX15_branch := Or.inl q2054
theorem q2116 : (Jvm.Cond.methodLink "CompiledHouse$Chain" (55 : Nat) ({ cls := "CompiledHouse$Maker", name := "branch", desc := "(IJJLCompiledHouse$Block;LCompiledHouse$Block;)V" } : Jvm.MethodName)) ∈ lw_all := lw_g (lw_at lw_m9 0 rfl) rfl
theorem lk_X22_55 : xLk RX22 55 yX6_branch := Or.inl q2116
abbrev cX22_leading : ByteArray := prog_8_method_2_code
def yX22_leading : MethodName := ⟨RX22, "leading", "()I"⟩
theorem q2160 : (Jvm.Cond.code ({ cls := "CompiledHouse$Chain", name := "leading", desc := "()I" } : Jvm.MethodName) prog_8_method_2_code (1 : Nat) (Option.some Jvm.ClassFile.FieldType.int)) ∈ lw_all := lw_g (lw_at lw_m9 44 rfl) rfl
def kX22_leading : xK := (yX22_leading, cX22_leading, 1, some .int, [])
theorem me_X22_leading : xMe kX22_leading 0 := ⟨q2160, q234, by decide, by decide, by decide +kernel⟩
theorem q2159 : (Jvm.Cond.instanceMethod ({ cls := "CompiledHouse$Chain", name := "leading", desc := "()I" } : Jvm.MethodName)) ∈ lw_all := lw_g (lw_at lw_m9 43 rfl) rfl
theorem is_X22_leading : Cond.instanceMethod kX22_leading.y ∈ lw_all := q2159
theorem q2161 : (Jvm.Cond.methodLink "CompiledHouse$Chain" (29 : Nat) ({ cls := "CompiledHouse$Expr", name := "leading", desc := "()I" } : Jvm.MethodName)) ∈ lw_all := lw_g (lw_at lw_m9 45 rfl) rfl
theorem lk_X22_29 : xLk RX22 29 yX15_leading := Or.inl q2161
abbrev cX22_constant : ByteArray := prog_8_method_3_code
def yX22_constant : MethodName := ⟨RX22, "constant", "(LCompiledHouse$Maker;)I"⟩
theorem q2316 : (Jvm.Cond.code ({ cls := "CompiledHouse$Chain", name := "constant", desc := "(LCompiledHouse$Maker;)I" } : Jvm.MethodName) prog_8_method_3_code (5 : Nat) (Option.some Jvm.ClassFile.FieldType.int)) ∈ lw_all := lw_g (lw_at lw_m9 200 rfl) rfl
def kX22_constant : xK := (yX22_constant, cX22_constant, 5, some .int, [])
theorem me_X22_constant : xMe kX22_constant 1 := ⟨q2316, q234, by decide, by decide, by decide +kernel⟩
theorem q2315 : (Jvm.Cond.instanceMethod ({ cls := "CompiledHouse$Chain", name := "constant", desc := "(LCompiledHouse$Maker;)I" } : Jvm.MethodName)) ∈ lw_all := lw_g (lw_at lw_m9 199 rfl) rfl
theorem is_X22_constant : Cond.instanceMethod kX22_constant.y ∈ lw_all := q2315
theorem q2317 : (Jvm.Cond.methodLink "CompiledHouse$Chain" (33 : Nat) ({ cls := "CompiledHouse$Expr", name := "constant", desc := "(LCompiledHouse$Maker;)I" } : Jvm.MethodName)) ∈ lw_all := lw_g (lw_at lw_m9 201 rfl) rfl
theorem q2331 : (Jvm.Cond.methodLinkNest "CompiledHouse$Chain" (37 : Nat) ({ cls := "CompiledHouse", name := "done", desc := "(III)I" } : Jvm.MethodName) "CompiledHouse") ∈ lw_tbl := lw_at lw_m9 215 rfl
theorem lk_X22_37 : xLk RX22 37 yX0_done := Or.inr ⟨_, q2331⟩
theorem q1199 : (Jvm.Cond.fieldLink "CompiledHouse$Choice" (3 : Nat) "CompiledHouse$Expr" "first" "I") ∈ lw_all := lw_g (lw_at lw_m5 43 rfl) rfl
theorem f_X23_3_14 : xF RX23 3 14 0 := ⟨_, "CompiledHouse$Expr", rfl, by decide, Or.inl q1199, Or.inl rfl⟩
theorem f_X23_3_15 : xF RX23 3 15 0 := ⟨_, "CompiledHouse$Expr", rfl, by decide, Or.inl q1199, Or.inl rfl⟩
theorem f_X23_3_16 : xF RX23 3 16 0 := ⟨_, "CompiledHouse$Expr", rfl, by decide, Or.inl q1199, Or.inl rfl⟩
theorem f_X23_3_17 : xF RX23 3 17 0 := ⟨_, "CompiledHouse$Expr", rfl, by decide, Or.inl q1199, Or.inl rfl⟩
theorem f_X23_3_18 : xF RX23 3 18 0 := ⟨_, "CompiledHouse$Expr", rfl, by decide, Or.inl q1199, Or.inl rfl⟩
theorem f_X23_3_19 : xF RX23 3 19 0 := ⟨_, "CompiledHouse$Expr", rfl, by decide, Or.inl q1199, Or.inl rfl⟩
theorem f_X23_3_20 : xF RX23 3 20 0 := ⟨_, "CompiledHouse$Expr", rfl, by decide, Or.inl q1199, Or.inl rfl⟩
theorem f_X23_3_21 : xF RX23 3 21 0 := ⟨_, "CompiledHouse$Expr", rfl, by decide, Or.inl q1199, Or.inl rfl⟩
theorem q1447 : (Jvm.Cond.methodLink "CompiledHouse$Choice" (9 : Nat) ({ cls := "CompiledHouse$Expr", name := "<init>", desc := "(I)V" } : Jvm.MethodName)) ∈ lw_all := lw_g (lw_at lw_m6 51 rfl) rfl
theorem lk_X23_9 : xLk RX23 9 yX15_init := Or.inl q1447
theorem q1448 : (Jvm.Cond.fieldLink "CompiledHouse$Choice" (13 : Nat) "CompiledHouse$Choice" "asked" "LCompiledHouse$Expr;") ∈ lw_all := lw_g (lw_at lw_m6 52 rfl) rfl
theorem f_X23_13_21 : xF RX23 13 21 1 := ⟨_, "CompiledHouse$Choice", rfl, by decide, Or.inl q1448, Or.inl rfl⟩
theorem q1449 : (Jvm.Cond.fieldLink "CompiledHouse$Choice" (19 : Nat) "CompiledHouse$Choice" "yes" "LCompiledHouse$Expr;") ∈ lw_all := lw_g (lw_at lw_m6 53 rfl) rfl
theorem f_X23_19_21 : xF RX23 19 21 2 := ⟨_, "CompiledHouse$Choice", rfl, by decide, Or.inl q1449, Or.inl rfl⟩
theorem q1450 : (Jvm.Cond.fieldLink "CompiledHouse$Choice" (22 : Nat) "CompiledHouse$Choice" "no" "LCompiledHouse$Expr;") ∈ lw_all := lw_g (lw_at lw_m6 54 rfl) rfl
theorem f_X23_22_21 : xF RX23 22 21 3 := ⟨_, "CompiledHouse$Choice", rfl, by decide, Or.inl q1450, Or.inl rfl⟩
abbrev cX23_value : ByteArray := prog_9_method_4_code
def yX23_value : MethodName := ⟨RX23, "value", "(LCompiledHouse$Maker;)J"⟩
theorem q2043 : (Jvm.Cond.code ({ cls := "CompiledHouse$Choice", name := "value", desc := "(LCompiledHouse$Maker;)J" } : Jvm.MethodName) prog_9_method_4_code (6 : Nat) (Option.some Jvm.ClassFile.FieldType.long)) ∈ lw_all := lw_g (lw_at lw_m8 167 rfl) rfl
def kX23_value : xK := (yX23_value, cX23_value, 6, some .long, [])
theorem me_X23_value : xMe kX23_value 1 := ⟨q2043, q235, by decide, by decide, by decide +kernel⟩
theorem q2042 : (Jvm.Cond.instanceMethod ({ cls := "CompiledHouse$Choice", name := "value", desc := "(LCompiledHouse$Maker;)J" } : Jvm.MethodName)) ∈ lw_all := lw_g (lw_at lw_m8 166 rfl) rfl
theorem is_X23_value : Cond.instanceMethod kX23_value.y ∈ lw_all := q2042
theorem q2044 : (Jvm.Cond.methodLink "CompiledHouse$Choice" (33 : Nat) ({ cls := "CompiledHouse$Maker", name := "block", desc := "()LCompiledHouse$Block;" } : Jvm.MethodName)) ∈ lw_all := lw_g (lw_at lw_m8 168 rfl) rfl
theorem lk_X23_33 : xLk RX23 33 yX6_block := Or.inl q2044
theorem q2045 : (Jvm.Cond.methodLink "CompiledHouse$Choice" (39 : Nat) ({ cls := "CompiledHouse$Expr", name := "branch", desc := "(LCompiledHouse$Maker;LCompiledHouse$Block;LCompiledHouse$Block;)V" } : Jvm.MethodName)) ∈ lw_all := lw_g (lw_at lw_m8 169 rfl) rfl
theorem lk_X23_39 : xLk RX23 39 yX15_branch := Or.inl q2045
theorem q2132 : (Jvm.Cond.methodLink "CompiledHouse$Choice" (43 : Nat) ({ cls := "CompiledHouse$Maker", name := "register", desc := "()I" } : Jvm.MethodName)) ∈ lw_all := lw_g (lw_at lw_m9 16 rfl) rfl
theorem lk_X23_43 : xLk RX23 43 yX6_register := Or.inl q2132
theorem q2133 : (Jvm.Cond.methodLink "CompiledHouse$Choice" (46 : Nat) ({ cls := "CompiledHouse$Maker", name := "at", desc := "(LCompiledHouse$Block;)V" } : Jvm.MethodName)) ∈ lw_all := lw_g (lw_at lw_m9 17 rfl) rfl
theorem lk_X23_46 : xLk RX23 46 yX6_at := Or.inl q2133
theorem q2134 : (Jvm.Cond.methodLink "CompiledHouse$Choice" (50 : Nat) ({ cls := "CompiledHouse$Expr", name := "value", desc := "(LCompiledHouse$Maker;)J" } : Jvm.MethodName)) ∈ lw_all := lw_g (lw_at lw_m9 18 rfl) rfl
theorem q2135 : (Jvm.Cond.methodLink "CompiledHouse$Choice" (54 : Nat) ({ cls := "CompiledHouse$Maker", name := "move", desc := "(IJ)V" } : Jvm.MethodName)) ∈ lw_all := lw_g (lw_at lw_m9 19 rfl) rfl
theorem lk_X23_54 : xLk RX23 54 yX6_move := Or.inl q2135
theorem q2136 : (Jvm.Cond.methodLink "CompiledHouse$Choice" (58 : Nat) ({ cls := "CompiledHouse$Maker", name := "jump", desc := "(LCompiledHouse$Block;)V" } : Jvm.MethodName)) ∈ lw_all := lw_g (lw_at lw_m9 20 rfl) rfl
theorem lk_X23_58 : xLk RX23 58 yX6_jump := Or.inl q2136
abbrev cX23_leading : ByteArray := prog_9_method_2_code
def yX23_leading : MethodName := ⟨RX23, "leading", "()I"⟩
theorem q2163 : (Jvm.Cond.code ({ cls := "CompiledHouse$Choice", name := "leading", desc := "()I" } : Jvm.MethodName) prog_9_method_2_code (1 : Nat) (Option.some Jvm.ClassFile.FieldType.int)) ∈ lw_all := lw_g (lw_at lw_m9 47 rfl) rfl
def kX23_leading : xK := (yX23_leading, cX23_leading, 1, some .int, [])
theorem me_X23_leading : xMe kX23_leading 0 := ⟨q2163, q235, by decide, by decide, by decide +kernel⟩
theorem q2162 : (Jvm.Cond.instanceMethod ({ cls := "CompiledHouse$Choice", name := "leading", desc := "()I" } : Jvm.MethodName)) ∈ lw_all := lw_g (lw_at lw_m9 46 rfl) rfl
theorem is_X23_leading : Cond.instanceMethod kX23_leading.y ∈ lw_all := q2162
theorem q2164 : (Jvm.Cond.methodLink "CompiledHouse$Choice" (25 : Nat) ({ cls := "CompiledHouse$Expr", name := "leading", desc := "()I" } : Jvm.MethodName)) ∈ lw_all := lw_g (lw_at lw_m9 48 rfl) rfl
theorem lk_X23_25 : xLk RX23 25 yX15_leading := Or.inl q2164
abbrev cX23_constant : ByteArray := prog_9_method_3_code
def yX23_constant : MethodName := ⟨RX23, "constant", "(LCompiledHouse$Maker;)I"⟩
theorem q2319 : (Jvm.Cond.code ({ cls := "CompiledHouse$Choice", name := "constant", desc := "(LCompiledHouse$Maker;)I" } : Jvm.MethodName) prog_9_method_3_code (5 : Nat) (Option.some Jvm.ClassFile.FieldType.int)) ∈ lw_all := lw_g (lw_at lw_m9 203 rfl) rfl
def kX23_constant : xK := (yX23_constant, cX23_constant, 5, some .int, [])
theorem me_X23_constant : xMe kX23_constant 1 := ⟨q2319, q235, by decide, by decide, by decide +kernel⟩
theorem q2318 : (Jvm.Cond.instanceMethod ({ cls := "CompiledHouse$Choice", name := "constant", desc := "(LCompiledHouse$Maker;)I" } : Jvm.MethodName)) ∈ lw_all := lw_g (lw_at lw_m9 202 rfl) rfl
theorem is_X23_constant : Cond.instanceMethod kX23_constant.y ∈ lw_all := q2318
theorem q2320 : (Jvm.Cond.methodLink "CompiledHouse$Choice" (29 : Nat) ({ cls := "CompiledHouse$Expr", name := "constant", desc := "(LCompiledHouse$Maker;)I" } : Jvm.MethodName)) ∈ lw_all := lw_g (lw_at lw_m9 204 rfl) rfl
theorem dX21_branch_0 : decode cX21_branch 0 = .ok (.iconst 0, 1) := by decide +kernel
theorem dX21_branch_1 : decode cX21_branch 1 = .ok (.istore 4, 2) := by decide +kernel
theorem dX21_branch_3 : decode cX21_branch 3 = .ok (.iload 4, 2) := by decide +kernel
theorem dX21_branch_5 : decode cX21_branch 5 = .ok (.aload_n 0, 1) := by decide +kernel
theorem dX21_branch_6 : decode cX21_branch 6 = .ok (.getfield 25, 3) := by decide +kernel
theorem dX21_branch_9 : decode cX21_branch 9 = .ok (.invokevirtual 33, 3) := by decide +kernel
theorem dX21_branch_12 : decode cX21_branch 12 = .ok (.iconst 1, 1) := by decide +kernel
theorem dX21_branch_13 : decode cX21_branch 13 = .ok (.isub, 1) := by decide +kernel
theorem dX21_branch_14 : decode cX21_branch 14 = .ok (.if_icmp .ge 63, 3) := by decide +kernel
theorem dX21_branch_17 : decode cX21_branch 17 = .ok (.aload_n 1, 1) := by decide +kernel
theorem dX21_branch_18 : decode cX21_branch 18 = .ok (.invokevirtual 40, 3) := by decide +kernel
theorem dX21_branch_21 : decode cX21_branch 21 = .ok (.astore 5, 2) := by decide +kernel
theorem dX21_branch_23 : decode cX21_branch 23 = .ok (.aload_n 0, 1) := by decide +kernel
theorem dX21_branch_24 : decode cX21_branch 24 = .ok (.getfield 25, 3) := by decide +kernel
theorem dX21_branch_27 : decode cX21_branch 27 = .ok (.iload 4, 2) := by decide +kernel
theorem dX21_branch_29 : decode cX21_branch 29 = .ok (.invokevirtual 3, 3) := by decide +kernel
theorem dX21_branch_32 : decode cX21_branch 32 = .ok (.checkcast 9, 3) := by decide +kernel
theorem dX21_branch_35 : decode cX21_branch 35 = .ok (.aload_n 1, 1) := by decide +kernel
theorem dX21_branch_36 : decode cX21_branch 36 = .ok (.aload_n 0, 1) := by decide +kernel
theorem dX21_branch_37 : decode cX21_branch 37 = .ok (.getfield 19, 3) := by decide +kernel
theorem dX21_branch_40 : decode cX21_branch 40 = .ok (.ifCond .eq 8, 3) := by decide +kernel
theorem dX21_branch_43 : decode cX21_branch 43 = .ok (.aload 5, 2) := by decide +kernel
theorem dX21_branch_45 : decode cX21_branch 45 = .ok (.goto 4, 3) := by decide +kernel
theorem dX21_branch_48 : decode cX21_branch 48 = .ok (.aload_n 2, 1) := by decide +kernel
theorem dX21_branch_49 : decode cX21_branch 49 = .ok (.aload_n 0, 1) := by decide +kernel
theorem dX21_branch_50 : decode cX21_branch 50 = .ok (.getfield 19, 3) := by decide +kernel
theorem dX21_branch_53 : decode cX21_branch 53 = .ok (.ifCond .eq 7, 3) := by decide +kernel
theorem dX21_branch_56 : decode cX21_branch 56 = .ok (.aload_n 3, 1) := by decide +kernel
theorem dX21_branch_57 : decode cX21_branch 57 = .ok (.goto 5, 3) := by decide +kernel
theorem dX21_branch_60 : decode cX21_branch 60 = .ok (.aload 5, 2) := by decide +kernel
theorem dX21_branch_62 : decode cX21_branch 62 = .ok (.invokevirtual 67, 3) := by decide +kernel
theorem dX21_branch_65 : decode cX21_branch 65 = .ok (.aload_n 1, 1) := by decide +kernel
theorem dX21_branch_66 : decode cX21_branch 66 = .ok (.aload 5, 2) := by decide +kernel
theorem dX21_branch_68 : decode cX21_branch 68 = .ok (.invokevirtual 53, 3) := by decide +kernel
theorem dX21_branch_71 : decode cX21_branch 71 = .ok (.iinc 4 1, 3) := by decide +kernel
theorem dX21_branch_74 : decode cX21_branch 74 = .ok (.goto (-71), 3) := by decide +kernel
theorem dX21_branch_77 : decode cX21_branch 77 = .ok (.aload_n 0, 1) := by decide +kernel
theorem dX21_branch_78 : decode cX21_branch 78 = .ok (.getfield 25, 3) := by decide +kernel
theorem dX21_branch_81 : decode cX21_branch 81 = .ok (.aload_n 0, 1) := by decide +kernel
theorem dX21_branch_82 : decode cX21_branch 82 = .ok (.getfield 25, 3) := by decide +kernel
theorem dX21_branch_85 : decode cX21_branch 85 = .ok (.invokevirtual 33, 3) := by decide +kernel
theorem dX21_branch_88 : decode cX21_branch 88 = .ok (.iconst 1, 1) := by decide +kernel
theorem dX21_branch_89 : decode cX21_branch 89 = .ok (.isub, 1) := by decide +kernel
theorem dX21_branch_90 : decode cX21_branch 90 = .ok (.invokevirtual 3, 3) := by decide +kernel
theorem dX21_branch_93 : decode cX21_branch 93 = .ok (.checkcast 9, 3) := by decide +kernel
theorem dX21_branch_96 : decode cX21_branch 96 = .ok (.aload_n 1, 1) := by decide +kernel
theorem dX21_branch_97 : decode cX21_branch 97 = .ok (.aload_n 2, 1) := by decide +kernel
theorem dX21_branch_98 : decode cX21_branch 98 = .ok (.aload_n 3, 1) := by decide +kernel
theorem dX21_branch_99 : decode cX21_branch 99 = .ok (.invokevirtual 67, 3) := by decide +kernel
theorem dX21_branch_102 : decode cX21_branch 102 = .ok (.return_, 1) := by decide +kernel
theorem dX21_leading_0 : decode cX21_leading 0 = .ok (.aload_n 0, 1) := by decide +kernel
theorem dX21_leading_1 : decode cX21_leading 1 = .ok (.getfield 11, 3) := by decide +kernel
theorem dX21_leading_4 : decode cX21_leading 4 = .ok (.aload_n 0, 1) := by decide +kernel
theorem dX21_leading_5 : decode cX21_leading 5 = .ok (.getfield 25, 3) := by decide +kernel
theorem dX21_leading_8 : decode cX21_leading 8 = .ok (.iconst 0, 1) := by decide +kernel
theorem dX21_leading_9 : decode cX21_leading 9 = .ok (.invokevirtual 3, 3) := by decide +kernel
theorem dX21_leading_12 : decode cX21_leading 12 = .ok (.checkcast 9, 3) := by decide +kernel
theorem dX21_leading_15 : decode cX21_leading 15 = .ok (.getfield 11, 3) := by decide +kernel
theorem dX21_leading_18 : decode cX21_leading 18 = .ok (.if_icmp .ne 20, 3) := by decide +kernel
theorem dX21_leading_21 : decode cX21_leading 21 = .ok (.aload_n 0, 1) := by decide +kernel
theorem dX21_leading_22 : decode cX21_leading 22 = .ok (.getfield 25, 3) := by decide +kernel
theorem dX21_leading_25 : decode cX21_leading 25 = .ok (.iconst 0, 1) := by decide +kernel
theorem dX21_leading_26 : decode cX21_leading 26 = .ok (.invokevirtual 3, 3) := by decide +kernel
theorem dX21_leading_29 : decode cX21_leading 29 = .ok (.checkcast 9, 3) := by decide +kernel
theorem dX21_leading_32 : decode cX21_leading 32 = .ok (.invokevirtual 29, 3) := by decide +kernel
theorem dX21_leading_35 : decode cX21_leading 35 = .ok (.goto 4, 3) := by decide +kernel
theorem dX21_leading_38 : decode cX21_leading 38 = .ok (.iconst (-1), 1) := by decide +kernel
theorem dX21_leading_39 : decode cX21_leading 39 = .ok (.ireturn, 1) := by decide +kernel
theorem dX21_constant_0 : decode cX21_constant 0 = .ok (.aload_n 0, 1) := by decide +kernel
theorem dX21_constant_1 : decode cX21_constant 1 = .ok (.getfield 19, 3) := by decide +kernel
theorem dX21_constant_4 : decode cX21_constant 4 = .ok (.istore_n 2, 1) := by decide +kernel
theorem dX21_constant_5 : decode cX21_constant 5 = .ok (.iconst 0, 1) := by decide +kernel
theorem dX21_constant_6 : decode cX21_constant 6 = .ok (.istore_n 3, 1) := by decide +kernel
theorem dX21_constant_7 : decode cX21_constant 7 = .ok (.iload_n 3, 1) := by decide +kernel
theorem dX21_constant_8 : decode cX21_constant 8 = .ok (.aload_n 0, 1) := by decide +kernel
theorem dX21_constant_9 : decode cX21_constant 9 = .ok (.getfield 25, 3) := by decide +kernel
theorem dX21_constant_12 : decode cX21_constant 12 = .ok (.invokevirtual 33, 3) := by decide +kernel
theorem dX21_constant_15 : decode cX21_constant 15 = .ok (.if_icmp .ge 73, 3) := by decide +kernel
theorem dX21_constant_18 : decode cX21_constant 18 = .ok (.aload_n 0, 1) := by decide +kernel
theorem dX21_constant_19 : decode cX21_constant 19 = .ok (.getfield 25, 3) := by decide +kernel
theorem dX21_constant_22 : decode cX21_constant 22 = .ok (.iload_n 3, 1) := by decide +kernel
theorem dX21_constant_23 : decode cX21_constant 23 = .ok (.invokevirtual 3, 3) := by decide +kernel
theorem dX21_constant_26 : decode cX21_constant 26 = .ok (.checkcast 9, 3) := by decide +kernel
theorem dX21_constant_29 : decode cX21_constant 29 = .ok (.aload_n 1, 1) := by decide +kernel
theorem dX21_constant_30 : decode cX21_constant 30 = .ok (.invokevirtual 36, 3) := by decide +kernel
theorem dX21_constant_33 : decode cX21_constant 33 = .ok (.ifCond .eq 7, 3) := by decide +kernel
theorem dX21_constant_36 : decode cX21_constant 36 = .ok (.iconst 1, 1) := by decide +kernel
theorem dX21_constant_37 : decode cX21_constant 37 = .ok (.goto 4, 3) := by decide +kernel
theorem dX21_constant_40 : decode cX21_constant 40 = .ok (.iconst 0, 1) := by decide +kernel
theorem dX21_constant_41 : decode cX21_constant 41 = .ok (.istore 4, 2) := by decide +kernel
theorem dX21_constant_43 : decode cX21_constant 43 = .ok (.aload_n 0, 1) := by decide +kernel
theorem dX21_constant_44 : decode cX21_constant 44 = .ok (.getfield 19, 3) := by decide +kernel
theorem dX21_constant_47 : decode cX21_constant 47 = .ok (.ifCond .eq 20, 3) := by decide +kernel
theorem dX21_constant_50 : decode cX21_constant 50 = .ok (.iload_n 2, 1) := by decide +kernel
theorem dX21_constant_51 : decode cX21_constant 51 = .ok (.ifCond .eq 12, 3) := by decide +kernel
theorem dX21_constant_54 : decode cX21_constant 54 = .ok (.iload 4, 2) := by decide +kernel
theorem dX21_constant_56 : decode cX21_constant 56 = .ok (.ifCond .eq 7, 3) := by decide +kernel
theorem dX21_constant_59 : decode cX21_constant 59 = .ok (.iconst 1, 1) := by decide +kernel
theorem dX21_constant_60 : decode cX21_constant 60 = .ok (.goto 21, 3) := by decide +kernel
theorem dX21_constant_63 : decode cX21_constant 63 = .ok (.iconst 0, 1) := by decide +kernel
theorem dX21_constant_64 : decode cX21_constant 64 = .ok (.goto 17, 3) := by decide +kernel
theorem dX21_constant_67 : decode cX21_constant 67 = .ok (.iload_n 2, 1) := by decide +kernel
theorem dX21_constant_68 : decode cX21_constant 68 = .ok (.ifCond .ne 8, 3) := by decide +kernel
theorem dX21_constant_71 : decode cX21_constant 71 = .ok (.iload 4, 2) := by decide +kernel
theorem dX21_constant_73 : decode cX21_constant 73 = .ok (.ifCond .eq 7, 3) := by decide +kernel
theorem dX21_constant_76 : decode cX21_constant 76 = .ok (.iconst 1, 1) := by decide +kernel
theorem dX21_constant_77 : decode cX21_constant 77 = .ok (.goto 4, 3) := by decide +kernel
theorem dX21_constant_80 : decode cX21_constant 80 = .ok (.iconst 0, 1) := by decide +kernel
theorem dX21_constant_81 : decode cX21_constant 81 = .ok (.istore_n 2, 1) := by decide +kernel
theorem dX21_constant_82 : decode cX21_constant 82 = .ok (.iinc 3 1, 3) := by decide +kernel
theorem dX21_constant_85 : decode cX21_constant 85 = .ok (.goto (-78), 3) := by decide +kernel
theorem dX21_constant_88 : decode cX21_constant 88 = .ok (.iload_n 2, 1) := by decide +kernel
theorem dX21_constant_89 : decode cX21_constant 89 = .ok (.ifCond .eq 7, 3) := by decide +kernel
theorem dX21_constant_92 : decode cX21_constant 92 = .ok (.iconst 1, 1) := by decide +kernel
theorem dX21_constant_93 : decode cX21_constant 93 = .ok (.goto 4, 3) := by decide +kernel
theorem dX21_constant_96 : decode cX21_constant 96 = .ok (.iconst 0, 1) := by decide +kernel
theorem dX21_constant_97 : decode cX21_constant 97 = .ok (.ireturn, 1) := by decide +kernel
theorem dX22_init_0 : decode cX22_init 0 = .ok (.aload_n 0, 1) := by decide +kernel
theorem dX22_init_1 : decode cX22_init 1 = .ok (.aload_n 2, 1) := by decide +kernel
theorem dX22_init_2 : decode cX22_init 2 = .ok (.iconst 0, 1) := by decide +kernel
theorem dX22_init_3 : decode cX22_init 3 = .ok (.invokevirtual 3, 3) := by decide +kernel
theorem dX22_init_6 : decode cX22_init 6 = .ok (.checkcast 9, 3) := by decide +kernel
theorem dX22_init_9 : decode cX22_init 9 = .ok (.getfield 11, 3) := by decide +kernel
theorem dX22_init_12 : decode cX22_init 12 = .ok (.invokespecial 15, 3) := by decide +kernel
theorem dX22_init_15 : decode cX22_init 15 = .ok (.aload_n 0, 1) := by decide +kernel
theorem dX22_init_16 : decode cX22_init 16 = .ok (.aload_n 1, 1) := by decide +kernel
theorem dX22_init_17 : decode cX22_init 17 = .ok (.putfield 19, 3) := by decide +kernel
theorem dX22_init_20 : decode cX22_init 20 = .ok (.aload_n 0, 1) := by decide +kernel
theorem dX22_init_21 : decode cX22_init 21 = .ok (.aload_n 2, 1) := by decide +kernel
theorem dX22_init_22 : decode cX22_init 22 = .ok (.putfield 25, 3) := by decide +kernel
theorem dX22_init_25 : decode cX22_init 25 = .ok (.return_, 1) := by decide +kernel
theorem dX22_value_0 : decode cX22_value 0 = .ok (.aload_n 0, 1) := by decide +kernel
theorem dX22_value_1 : decode cX22_value 1 = .ok (.getfield 25, 3) := by decide +kernel
theorem dX22_value_4 : decode cX22_value 4 = .ok (.iconst 0, 1) := by decide +kernel
theorem dX22_value_5 : decode cX22_value 5 = .ok (.invokevirtual 3, 3) := by decide +kernel
theorem dX22_value_8 : decode cX22_value 8 = .ok (.checkcast 9, 3) := by decide +kernel
theorem dX22_value_11 : decode cX22_value 11 = .ok (.aload_n 1, 1) := by decide +kernel
theorem dX22_value_12 : decode cX22_value 12 = .ok (.invokevirtual 41, 3) := by decide +kernel
theorem dX22_value_15 : decode cX22_value 15 = .ok (.lstore_n 2, 1) := by decide +kernel
theorem dX22_value_16 : decode cX22_value 16 = .ok (.iconst 0, 1) := by decide +kernel
theorem dX22_value_17 : decode cX22_value 17 = .ok (.istore 4, 2) := by decide +kernel
theorem dX22_value_19 : decode cX22_value 19 = .ok (.iload 4, 2) := by decide +kernel
theorem dX22_value_21 : decode cX22_value 21 = .ok (.aload_n 0, 1) := by decide +kernel
theorem dX22_value_22 : decode cX22_value 22 = .ok (.getfield 19, 3) := by decide +kernel
theorem dX22_value_25 : decode cX22_value 25 = .ok (.arraylength, 1) := by decide +kernel
theorem dX22_value_26 : decode cX22_value 26 = .ok (.if_icmp .ge 40, 3) := by decide +kernel
theorem dX22_value_29 : decode cX22_value 29 = .ok (.aload_n 1, 1) := by decide +kernel
theorem dX22_value_30 : decode cX22_value 30 = .ok (.aload_n 0, 1) := by decide +kernel
theorem dX22_value_31 : decode cX22_value 31 = .ok (.getfield 19, 3) := by decide +kernel
theorem dX22_value_34 : decode cX22_value 34 = .ok (.iload 4, 2) := by decide +kernel
theorem dX22_value_36 : decode cX22_value 36 = .ok (.iaload, 1) := by decide +kernel
theorem dX22_value_37 : decode cX22_value 37 = .ok (.lload_n 2, 1) := by decide +kernel
theorem dX22_value_38 : decode cX22_value 38 = .ok (.aload_n 0, 1) := by decide +kernel
theorem dX22_value_39 : decode cX22_value 39 = .ok (.getfield 25, 3) := by decide +kernel
theorem dX22_value_42 : decode cX22_value 42 = .ok (.iload 4, 2) := by decide +kernel
theorem dX22_value_44 : decode cX22_value 44 = .ok (.iconst 1, 1) := by decide +kernel
theorem dX22_value_45 : decode cX22_value 45 = .ok (.iadd, 1) := by decide +kernel
theorem dX22_value_46 : decode cX22_value 46 = .ok (.invokevirtual 3, 3) := by decide +kernel
theorem dX22_value_49 : decode cX22_value 49 = .ok (.checkcast 9, 3) := by decide +kernel
theorem dX22_value_52 : decode cX22_value 52 = .ok (.aload_n 1, 1) := by decide +kernel
theorem dX22_value_53 : decode cX22_value 53 = .ok (.invokevirtual 41, 3) := by decide +kernel
theorem dX22_value_56 : decode cX22_value 56 = .ok (.invokevirtual 45, 3) := by decide +kernel
theorem dX22_value_59 : decode cX22_value 59 = .ok (.lstore_n 2, 1) := by decide +kernel
theorem dX22_value_60 : decode cX22_value 60 = .ok (.iinc 4 1, 3) := by decide +kernel
theorem dX22_value_63 : decode cX22_value 63 = .ok (.goto (-44), 3) := by decide +kernel
theorem dX22_value_66 : decode cX22_value 66 = .ok (.lload_n 2, 1) := by decide +kernel
theorem dX22_value_67 : decode cX22_value 67 = .ok (.lreturn, 1) := by decide +kernel
theorem dX22_branch_0 : decode cX22_branch 0 = .ok (.aload_n 0, 1) := by decide +kernel
theorem dX22_branch_1 : decode cX22_branch 1 = .ok (.getfield 19, 3) := by decide +kernel
theorem dX22_branch_4 : decode cX22_branch 4 = .ok (.arraylength, 1) := by decide +kernel
theorem dX22_branch_5 : decode cX22_branch 5 = .ok (.iconst 1, 1) := by decide +kernel
theorem dX22_branch_6 : decode cX22_branch 6 = .ok (.isub, 1) := by decide +kernel
theorem dX22_branch_7 : decode cX22_branch 7 = .ok (.istore 4, 2) := by decide +kernel
theorem dX22_branch_9 : decode cX22_branch 9 = .ok (.aload_n 0, 1) := by decide +kernel
theorem dX22_branch_10 : decode cX22_branch 10 = .ok (.getfield 19, 3) := by decide +kernel
theorem dX22_branch_13 : decode cX22_branch 13 = .ok (.iload 4, 2) := by decide +kernel
theorem dX22_branch_15 : decode cX22_branch 15 = .ok (.iaload, 1) := by decide +kernel
theorem dX22_branch_16 : decode cX22_branch 16 = .ok (.bipush 16, 2) := by decide +kernel
theorem dX22_branch_18 : decode cX22_branch 18 = .ok (.if_icmp .gt 15, 3) := by decide +kernel
theorem dX22_branch_21 : decode cX22_branch 21 = .ok (.aload_n 0, 1) := by decide +kernel
theorem dX22_branch_22 : decode cX22_branch 22 = .ok (.getfield 19, 3) := by decide +kernel
theorem dX22_branch_25 : decode cX22_branch 25 = .ok (.iload 4, 2) := by decide +kernel
theorem dX22_branch_27 : decode cX22_branch 27 = .ok (.iaload, 1) := by decide +kernel
theorem dX22_branch_28 : decode cX22_branch 28 = .ok (.bipush 11, 2) := by decide +kernel
theorem dX22_branch_30 : decode cX22_branch 30 = .ok (.if_icmp .ge 11, 3) := by decide +kernel
theorem dX22_branch_33 : decode cX22_branch 33 = .ok (.aload_n 0, 1) := by decide +kernel
theorem dX22_branch_34 : decode cX22_branch 34 = .ok (.aload_n 1, 1) := by decide +kernel
theorem dX22_branch_35 : decode cX22_branch 35 = .ok (.aload_n 2, 1) := by decide +kernel
theorem dX22_branch_36 : decode cX22_branch 36 = .ok (.aload_n 3, 1) := by decide +kernel
theorem dX22_branch_37 : decode cX22_branch 37 = .ok (.invokespecial 51, 3) := by decide +kernel
theorem dX22_branch_40 : decode cX22_branch 40 = .ok (.return_, 1) := by decide +kernel
theorem dX22_branch_41 : decode cX22_branch 41 = .ok (.aload_n 0, 1) := by decide +kernel
theorem dX22_branch_42 : decode cX22_branch 42 = .ok (.getfield 25, 3) := by decide +kernel
theorem dX22_branch_45 : decode cX22_branch 45 = .ok (.iconst 0, 1) := by decide +kernel
theorem dX22_branch_46 : decode cX22_branch 46 = .ok (.invokevirtual 3, 3) := by decide +kernel
theorem dX22_branch_49 : decode cX22_branch 49 = .ok (.checkcast 9, 3) := by decide +kernel
theorem dX22_branch_52 : decode cX22_branch 52 = .ok (.aload_n 1, 1) := by decide +kernel
theorem dX22_branch_53 : decode cX22_branch 53 = .ok (.invokevirtual 41, 3) := by decide +kernel
theorem dX22_branch_56 : decode cX22_branch 56 = .ok (.lstore 5, 2) := by decide +kernel
theorem dX22_branch_58 : decode cX22_branch 58 = .ok (.iconst 0, 1) := by decide +kernel
theorem dX22_branch_59 : decode cX22_branch 59 = .ok (.istore 7, 2) := by decide +kernel
theorem dX22_branch_61 : decode cX22_branch 61 = .ok (.iload 7, 2) := by decide +kernel
theorem dX22_branch_63 : decode cX22_branch 63 = .ok (.iload 4, 2) := by decide +kernel
theorem dX22_branch_65 : decode cX22_branch 65 = .ok (.if_icmp .ge 42, 3) := by decide +kernel
theorem dX22_branch_68 : decode cX22_branch 68 = .ok (.aload_n 1, 1) := by decide +kernel
theorem dX22_branch_69 : decode cX22_branch 69 = .ok (.aload_n 0, 1) := by decide +kernel
theorem dX22_branch_70 : decode cX22_branch 70 = .ok (.getfield 19, 3) := by decide +kernel
theorem dX22_branch_73 : decode cX22_branch 73 = .ok (.iload 7, 2) := by decide +kernel
theorem dX22_branch_75 : decode cX22_branch 75 = .ok (.iaload, 1) := by decide +kernel
theorem dX22_branch_76 : decode cX22_branch 76 = .ok (.lload 5, 2) := by decide +kernel
theorem dX22_branch_78 : decode cX22_branch 78 = .ok (.aload_n 0, 1) := by decide +kernel
theorem dX22_branch_79 : decode cX22_branch 79 = .ok (.getfield 25, 3) := by decide +kernel
theorem dX22_branch_82 : decode cX22_branch 82 = .ok (.iload 7, 2) := by decide +kernel
theorem dX22_branch_84 : decode cX22_branch 84 = .ok (.iconst 1, 1) := by decide +kernel
theorem dX22_branch_85 : decode cX22_branch 85 = .ok (.iadd, 1) := by decide +kernel
theorem dX22_branch_86 : decode cX22_branch 86 = .ok (.invokevirtual 3, 3) := by decide +kernel
theorem dX22_branch_89 : decode cX22_branch 89 = .ok (.checkcast 9, 3) := by decide +kernel
theorem dX22_branch_92 : decode cX22_branch 92 = .ok (.aload_n 1, 1) := by decide +kernel
theorem dX22_branch_93 : decode cX22_branch 93 = .ok (.invokevirtual 41, 3) := by decide +kernel
theorem dX22_branch_96 : decode cX22_branch 96 = .ok (.invokevirtual 45, 3) := by decide +kernel
theorem dX22_branch_99 : decode cX22_branch 99 = .ok (.lstore 5, 2) := by decide +kernel
theorem dX22_branch_101 : decode cX22_branch 101 = .ok (.iinc 7 1, 3) := by decide +kernel
theorem dX22_branch_104 : decode cX22_branch 104 = .ok (.goto (-43), 3) := by decide +kernel
theorem dX22_branch_107 : decode cX22_branch 107 = .ok (.aload_n 0, 1) := by decide +kernel
theorem dX22_branch_108 : decode cX22_branch 108 = .ok (.getfield 25, 3) := by decide +kernel
theorem dX22_branch_111 : decode cX22_branch 111 = .ok (.iload 4, 2) := by decide +kernel
theorem dX22_branch_113 : decode cX22_branch 113 = .ok (.iconst 1, 1) := by decide +kernel
theorem dX22_branch_114 : decode cX22_branch 114 = .ok (.iadd, 1) := by decide +kernel
theorem dX22_branch_115 : decode cX22_branch 115 = .ok (.invokevirtual 3, 3) := by decide +kernel
theorem dX22_branch_118 : decode cX22_branch 118 = .ok (.checkcast 9, 3) := by decide +kernel
theorem dX22_branch_121 : decode cX22_branch 121 = .ok (.aload_n 1, 1) := by decide +kernel
theorem dX22_branch_122 : decode cX22_branch 122 = .ok (.invokevirtual 41, 3) := by decide +kernel
theorem dX22_branch_125 : decode cX22_branch 125 = .ok (.lstore 7, 2) := by decide +kernel
theorem dX22_branch_127 : decode cX22_branch 127 = .ok (.aload_n 1, 1) := by decide +kernel
theorem dX22_branch_128 : decode cX22_branch 128 = .ok (.aload_n 0, 1) := by decide +kernel
theorem dX22_branch_129 : decode cX22_branch 129 = .ok (.getfield 19, 3) := by decide +kernel
theorem dX22_branch_132 : decode cX22_branch 132 = .ok (.iload 4, 2) := by decide +kernel
theorem dX22_branch_134 : decode cX22_branch 134 = .ok (.iaload, 1) := by decide +kernel
theorem dX22_branch_135 : decode cX22_branch 135 = .ok (.lload 5, 2) := by decide +kernel
theorem dX22_branch_137 : decode cX22_branch 137 = .ok (.lload 7, 2) := by decide +kernel
theorem dX22_branch_139 : decode cX22_branch 139 = .ok (.aload_n 2, 1) := by decide +kernel
theorem dX22_branch_140 : decode cX22_branch 140 = .ok (.aload_n 3, 1) := by decide +kernel
theorem dX22_branch_141 : decode cX22_branch 141 = .ok (.invokevirtual 55, 3) := by decide +kernel
theorem dX22_branch_144 : decode cX22_branch 144 = .ok (.return_, 1) := by decide +kernel
theorem dX22_leading_0 : decode cX22_leading 0 = .ok (.aload_n 0, 1) := by decide +kernel
theorem dX22_leading_1 : decode cX22_leading 1 = .ok (.getfield 11, 3) := by decide +kernel
theorem dX22_leading_4 : decode cX22_leading 4 = .ok (.aload_n 0, 1) := by decide +kernel
theorem dX22_leading_5 : decode cX22_leading 5 = .ok (.getfield 25, 3) := by decide +kernel
theorem dX22_leading_8 : decode cX22_leading 8 = .ok (.iconst 0, 1) := by decide +kernel
theorem dX22_leading_9 : decode cX22_leading 9 = .ok (.invokevirtual 3, 3) := by decide +kernel
theorem dX22_leading_12 : decode cX22_leading 12 = .ok (.checkcast 9, 3) := by decide +kernel
theorem dX22_leading_15 : decode cX22_leading 15 = .ok (.getfield 11, 3) := by decide +kernel
theorem dX22_leading_18 : decode cX22_leading 18 = .ok (.if_icmp .ne 20, 3) := by decide +kernel
theorem dX22_leading_21 : decode cX22_leading 21 = .ok (.aload_n 0, 1) := by decide +kernel
theorem dX22_leading_22 : decode cX22_leading 22 = .ok (.getfield 25, 3) := by decide +kernel
theorem dX22_leading_25 : decode cX22_leading 25 = .ok (.iconst 0, 1) := by decide +kernel
theorem dX22_leading_26 : decode cX22_leading 26 = .ok (.invokevirtual 3, 3) := by decide +kernel
theorem dX22_leading_29 : decode cX22_leading 29 = .ok (.checkcast 9, 3) := by decide +kernel
theorem dX22_leading_32 : decode cX22_leading 32 = .ok (.invokevirtual 29, 3) := by decide +kernel
theorem dX22_leading_35 : decode cX22_leading 35 = .ok (.goto 4, 3) := by decide +kernel
theorem dX22_leading_38 : decode cX22_leading 38 = .ok (.iconst (-1), 1) := by decide +kernel
theorem dX22_leading_39 : decode cX22_leading 39 = .ok (.ireturn, 1) := by decide +kernel
theorem dX22_constant_0 : decode cX22_constant 0 = .ok (.aload_n 0, 1) := by decide +kernel
theorem dX22_constant_1 : decode cX22_constant 1 = .ok (.getfield 25, 3) := by decide +kernel
theorem dX22_constant_4 : decode cX22_constant 4 = .ok (.iconst 0, 1) := by decide +kernel
theorem dX22_constant_5 : decode cX22_constant 5 = .ok (.invokevirtual 3, 3) := by decide +kernel
theorem dX22_constant_8 : decode cX22_constant 8 = .ok (.checkcast 9, 3) := by decide +kernel
theorem dX22_constant_11 : decode cX22_constant 11 = .ok (.aload_n 1, 1) := by decide +kernel
theorem dX22_constant_12 : decode cX22_constant 12 = .ok (.invokevirtual 33, 3) := by decide +kernel
theorem dX22_constant_15 : decode cX22_constant 15 = .ok (.istore_n 2, 1) := by decide +kernel
theorem dX22_constant_16 : decode cX22_constant 16 = .ok (.iconst 0, 1) := by decide +kernel
theorem dX22_constant_17 : decode cX22_constant 17 = .ok (.istore_n 3, 1) := by decide +kernel
theorem dX22_constant_18 : decode cX22_constant 18 = .ok (.iload_n 3, 1) := by decide +kernel
theorem dX22_constant_19 : decode cX22_constant 19 = .ok (.aload_n 0, 1) := by decide +kernel
theorem dX22_constant_20 : decode cX22_constant 20 = .ok (.getfield 19, 3) := by decide +kernel
theorem dX22_constant_23 : decode cX22_constant 23 = .ok (.arraylength, 1) := by decide +kernel
theorem dX22_constant_24 : decode cX22_constant 24 = .ok (.if_icmp .ge 41, 3) := by decide +kernel
theorem dX22_constant_27 : decode cX22_constant 27 = .ok (.aload_n 0, 1) := by decide +kernel
theorem dX22_constant_28 : decode cX22_constant 28 = .ok (.getfield 25, 3) := by decide +kernel
theorem dX22_constant_31 : decode cX22_constant 31 = .ok (.iload_n 3, 1) := by decide +kernel
theorem dX22_constant_32 : decode cX22_constant 32 = .ok (.iconst 1, 1) := by decide +kernel
theorem dX22_constant_33 : decode cX22_constant 33 = .ok (.iadd, 1) := by decide +kernel
theorem dX22_constant_34 : decode cX22_constant 34 = .ok (.invokevirtual 3, 3) := by decide +kernel
theorem dX22_constant_37 : decode cX22_constant 37 = .ok (.checkcast 9, 3) := by decide +kernel
theorem dX22_constant_40 : decode cX22_constant 40 = .ok (.aload_n 1, 1) := by decide +kernel
theorem dX22_constant_41 : decode cX22_constant 41 = .ok (.invokevirtual 33, 3) := by decide +kernel
theorem dX22_constant_44 : decode cX22_constant 44 = .ok (.istore 4, 2) := by decide +kernel
theorem dX22_constant_46 : decode cX22_constant 46 = .ok (.aload_n 0, 1) := by decide +kernel
theorem dX22_constant_47 : decode cX22_constant 47 = .ok (.getfield 19, 3) := by decide +kernel
theorem dX22_constant_50 : decode cX22_constant 50 = .ok (.iload_n 3, 1) := by decide +kernel
theorem dX22_constant_51 : decode cX22_constant 51 = .ok (.iaload, 1) := by decide +kernel
theorem dX22_constant_52 : decode cX22_constant 52 = .ok (.iload_n 2, 1) := by decide +kernel
theorem dX22_constant_53 : decode cX22_constant 53 = .ok (.iload 4, 2) := by decide +kernel
theorem dX22_constant_55 : decode cX22_constant 55 = .ok (.invokestatic 37, 3) := by decide +kernel
theorem dX22_constant_58 : decode cX22_constant 58 = .ok (.istore_n 2, 1) := by decide +kernel
theorem dX22_constant_59 : decode cX22_constant 59 = .ok (.iinc 3 1, 3) := by decide +kernel
theorem dX22_constant_62 : decode cX22_constant 62 = .ok (.goto (-44), 3) := by decide +kernel
theorem dX22_constant_65 : decode cX22_constant 65 = .ok (.iload_n 2, 1) := by decide +kernel
theorem dX22_constant_66 : decode cX22_constant 66 = .ok (.ireturn, 1) := by decide +kernel
theorem dX23_init_0 : decode cX23_init 0 = .ok (.aload_n 0, 1) := by decide +kernel
theorem dX23_init_1 : decode cX23_init 1 = .ok (.aload_n 1, 1) := by decide +kernel
theorem dX23_init_2 : decode cX23_init 2 = .ok (.getfield 3, 3) := by decide +kernel
theorem dX23_init_5 : decode cX23_init 5 = .ok (.invokespecial 9, 3) := by decide +kernel
theorem dX23_init_8 : decode cX23_init 8 = .ok (.aload_n 0, 1) := by decide +kernel
theorem dX23_init_9 : decode cX23_init 9 = .ok (.aload_n 1, 1) := by decide +kernel
theorem dX23_init_10 : decode cX23_init 10 = .ok (.putfield 13, 3) := by decide +kernel
theorem dX23_init_13 : decode cX23_init 13 = .ok (.aload_n 0, 1) := by decide +kernel
theorem dX23_init_14 : decode cX23_init 14 = .ok (.aload_n 2, 1) := by decide +kernel
theorem dX23_init_15 : decode cX23_init 15 = .ok (.putfield 19, 3) := by decide +kernel
theorem dX23_init_18 : decode cX23_init 18 = .ok (.aload_n 0, 1) := by decide +kernel
theorem dX23_init_19 : decode cX23_init 19 = .ok (.aload_n 3, 1) := by decide +kernel
theorem dX23_init_20 : decode cX23_init 20 = .ok (.putfield 22, 3) := by decide +kernel
theorem dX23_init_23 : decode cX23_init 23 = .ok (.return_, 1) := by decide +kernel
theorem dX23_value_0 : decode cX23_value 0 = .ok (.aload_n 1, 1) := by decide +kernel
theorem dX23_value_1 : decode cX23_value 1 = .ok (.invokevirtual 33, 3) := by decide +kernel
theorem dX23_value_4 : decode cX23_value 4 = .ok (.astore_n 2, 1) := by decide +kernel
theorem dX23_value_5 : decode cX23_value 5 = .ok (.aload_n 1, 1) := by decide +kernel
theorem dX23_value_6 : decode cX23_value 6 = .ok (.invokevirtual 33, 3) := by decide +kernel
theorem dX23_value_9 : decode cX23_value 9 = .ok (.astore_n 3, 1) := by decide +kernel
theorem dX23_value_10 : decode cX23_value 10 = .ok (.aload_n 1, 1) := by decide +kernel
theorem dX23_value_11 : decode cX23_value 11 = .ok (.invokevirtual 33, 3) := by decide +kernel
theorem dX23_value_14 : decode cX23_value 14 = .ok (.astore 4, 2) := by decide +kernel
theorem dX23_value_16 : decode cX23_value 16 = .ok (.aload_n 0, 1) := by decide +kernel
theorem dX23_value_17 : decode cX23_value 17 = .ok (.getfield 13, 3) := by decide +kernel
theorem dX23_value_20 : decode cX23_value 20 = .ok (.aload_n 1, 1) := by decide +kernel
theorem dX23_value_21 : decode cX23_value 21 = .ok (.aload_n 2, 1) := by decide +kernel
theorem dX23_value_22 : decode cX23_value 22 = .ok (.aload_n 3, 1) := by decide +kernel
theorem dX23_value_23 : decode cX23_value 23 = .ok (.invokevirtual 39, 3) := by decide +kernel
theorem dX23_value_26 : decode cX23_value 26 = .ok (.aload_n 1, 1) := by decide +kernel
theorem dX23_value_27 : decode cX23_value 27 = .ok (.invokevirtual 43, 3) := by decide +kernel
theorem dX23_value_30 : decode cX23_value 30 = .ok (.istore 5, 2) := by decide +kernel
theorem dX23_value_32 : decode cX23_value 32 = .ok (.aload_n 1, 1) := by decide +kernel
theorem dX23_value_33 : decode cX23_value 33 = .ok (.aload_n 2, 1) := by decide +kernel
theorem dX23_value_34 : decode cX23_value 34 = .ok (.invokevirtual 46, 3) := by decide +kernel
theorem dX23_value_37 : decode cX23_value 37 = .ok (.aload_n 1, 1) := by decide +kernel
theorem dX23_value_38 : decode cX23_value 38 = .ok (.iload 5, 2) := by decide +kernel
theorem dX23_value_40 : decode cX23_value 40 = .ok (.aload_n 0, 1) := by decide +kernel
theorem dX23_value_41 : decode cX23_value 41 = .ok (.getfield 19, 3) := by decide +kernel
theorem dX23_value_44 : decode cX23_value 44 = .ok (.aload_n 1, 1) := by decide +kernel
theorem dX23_value_45 : decode cX23_value 45 = .ok (.invokevirtual 50, 3) := by decide +kernel
theorem dX23_value_48 : decode cX23_value 48 = .ok (.invokevirtual 54, 3) := by decide +kernel
theorem dX23_value_51 : decode cX23_value 51 = .ok (.aload_n 1, 1) := by decide +kernel
theorem dX23_value_52 : decode cX23_value 52 = .ok (.aload 4, 2) := by decide +kernel
theorem dX23_value_54 : decode cX23_value 54 = .ok (.invokevirtual 58, 3) := by decide +kernel
theorem dX23_value_57 : decode cX23_value 57 = .ok (.aload_n 1, 1) := by decide +kernel
theorem dX23_value_58 : decode cX23_value 58 = .ok (.aload_n 3, 1) := by decide +kernel
theorem dX23_value_59 : decode cX23_value 59 = .ok (.invokevirtual 46, 3) := by decide +kernel
theorem dX23_value_62 : decode cX23_value 62 = .ok (.aload_n 1, 1) := by decide +kernel
theorem dX23_value_63 : decode cX23_value 63 = .ok (.iload 5, 2) := by decide +kernel
theorem dX23_value_65 : decode cX23_value 65 = .ok (.aload_n 0, 1) := by decide +kernel
theorem dX23_value_66 : decode cX23_value 66 = .ok (.getfield 22, 3) := by decide +kernel
theorem dX23_value_69 : decode cX23_value 69 = .ok (.aload_n 1, 1) := by decide +kernel
theorem dX23_value_70 : decode cX23_value 70 = .ok (.invokevirtual 50, 3) := by decide +kernel
theorem dX23_value_73 : decode cX23_value 73 = .ok (.invokevirtual 54, 3) := by decide +kernel
theorem dX23_value_76 : decode cX23_value 76 = .ok (.aload_n 1, 1) := by decide +kernel
theorem dX23_value_77 : decode cX23_value 77 = .ok (.aload 4, 2) := by decide +kernel
theorem dX23_value_79 : decode cX23_value 79 = .ok (.invokevirtual 58, 3) := by decide +kernel
theorem dX23_value_82 : decode cX23_value 82 = .ok (.aload_n 1, 1) := by decide +kernel
theorem dX23_value_83 : decode cX23_value 83 = .ok (.aload 4, 2) := by decide +kernel
theorem dX23_value_85 : decode cX23_value 85 = .ok (.invokevirtual 46, 3) := by decide +kernel
theorem dX23_value_88 : decode cX23_value 88 = .ok (.iload 5, 2) := by decide +kernel
theorem dX23_value_90 : decode cX23_value 90 = .ok (.i2l, 1) := by decide +kernel
theorem dX23_value_91 : decode cX23_value 91 = .ok (.lreturn, 1) := by decide +kernel
theorem dX23_leading_0 : decode cX23_leading 0 = .ok (.aload_n 0, 1) := by decide +kernel
theorem dX23_leading_1 : decode cX23_leading 1 = .ok (.getfield 3, 3) := by decide +kernel
theorem dX23_leading_4 : decode cX23_leading 4 = .ok (.aload_n 0, 1) := by decide +kernel
theorem dX23_leading_5 : decode cX23_leading 5 = .ok (.getfield 13, 3) := by decide +kernel
theorem dX23_leading_8 : decode cX23_leading 8 = .ok (.getfield 3, 3) := by decide +kernel
theorem dX23_leading_11 : decode cX23_leading 11 = .ok (.if_icmp .ne 13, 3) := by decide +kernel
theorem dX23_leading_14 : decode cX23_leading 14 = .ok (.aload_n 0, 1) := by decide +kernel
theorem dX23_leading_15 : decode cX23_leading 15 = .ok (.getfield 13, 3) := by decide +kernel
theorem dX23_leading_18 : decode cX23_leading 18 = .ok (.invokevirtual 25, 3) := by decide +kernel
theorem dX23_leading_21 : decode cX23_leading 21 = .ok (.goto 4, 3) := by decide +kernel
theorem dX23_leading_24 : decode cX23_leading 24 = .ok (.iconst (-1), 1) := by decide +kernel
theorem dX23_leading_25 : decode cX23_leading 25 = .ok (.ireturn, 1) := by decide +kernel
theorem dX23_constant_0 : decode cX23_constant 0 = .ok (.aload_n 0, 1) := by decide +kernel
theorem dX23_constant_1 : decode cX23_constant 1 = .ok (.getfield 13, 3) := by decide +kernel
theorem dX23_constant_4 : decode cX23_constant 4 = .ok (.aload_n 1, 1) := by decide +kernel
theorem dX23_constant_5 : decode cX23_constant 5 = .ok (.invokevirtual 29, 3) := by decide +kernel
theorem dX23_constant_8 : decode cX23_constant 8 = .ok (.istore_n 2, 1) := by decide +kernel
theorem dX23_constant_9 : decode cX23_constant 9 = .ok (.aload_n 0, 1) := by decide +kernel
theorem dX23_constant_10 : decode cX23_constant 10 = .ok (.getfield 19, 3) := by decide +kernel
theorem dX23_constant_13 : decode cX23_constant 13 = .ok (.aload_n 1, 1) := by decide +kernel
theorem dX23_constant_14 : decode cX23_constant 14 = .ok (.invokevirtual 29, 3) := by decide +kernel
theorem dX23_constant_17 : decode cX23_constant 17 = .ok (.istore_n 3, 1) := by decide +kernel
theorem dX23_constant_18 : decode cX23_constant 18 = .ok (.aload_n 0, 1) := by decide +kernel
theorem dX23_constant_19 : decode cX23_constant 19 = .ok (.getfield 22, 3) := by decide +kernel
theorem dX23_constant_22 : decode cX23_constant 22 = .ok (.aload_n 1, 1) := by decide +kernel
theorem dX23_constant_23 : decode cX23_constant 23 = .ok (.invokevirtual 29, 3) := by decide +kernel
theorem dX23_constant_26 : decode cX23_constant 26 = .ok (.istore 4, 2) := by decide +kernel
theorem dX23_constant_28 : decode cX23_constant 28 = .ok (.iload_n 2, 1) := by decide +kernel
theorem dX23_constant_29 : decode cX23_constant 29 = .ok (.ifCond .eq 7, 3) := by decide +kernel
theorem dX23_constant_32 : decode cX23_constant 32 = .ok (.iload_n 3, 1) := by decide +kernel
theorem dX23_constant_33 : decode cX23_constant 33 = .ok (.goto 5, 3) := by decide +kernel
theorem dX23_constant_36 : decode cX23_constant 36 = .ok (.iload 4, 2) := by decide +kernel
theorem dX23_constant_38 : decode cX23_constant 38 = .ok (.ireturn, 1) := by decide +kernel
