/-! names: X15_init X15_branch X15_alone X15_leading X16_init X16_value X16_constant X17_init X17_value X17_call X17_leading X17_constant X18_init X18_target X18_value X18_alone X18_leading X18_constant X19_init X19_value X19_constant X20_init X20_value X20_branch X20_constant X21_init X21_value (tools/chunk.py) -/
set_option maxRecDepth 100000
abbrev cX15_init : ByteArray := prog_13_method_1_code
def yX15_init : MethodName := ⟨RX15, "<init>", "(I)V"⟩
theorem q1196 : (Jvm.Cond.code ({ cls := "CompiledHouse$Expr", name := "<init>", desc := "(I)V" } : Jvm.MethodName) prog_13_method_1_code (2 : Nat) (Option.none : Option Jvm.ClassFile.FieldType)) ∈ lw_all := lw_g (lw_at lw_m5 40 rfl) rfl
def kX15_init : xK := (yX15_init, cX15_init, 2, none, [])
theorem me_X15_init : xMe kX15_init 1 := ⟨q1196, q222, by decide, by decide, by decide +kernel⟩
theorem q1195 : (Jvm.Cond.instanceMethod ({ cls := "CompiledHouse$Expr", name := "<init>", desc := "(I)V" } : Jvm.MethodName)) ∈ lw_all := lw_g (lw_at lw_m5 39 rfl) rfl
theorem is_X15_init : Cond.instanceMethod kX15_init.y ∈ lw_all := q1195
theorem q1197 : (Jvm.Cond.methodLink "CompiledHouse$Expr" (3 : Nat) ({ cls := "java/lang/Object", name := "<init>", desc := "()V" } : Jvm.MethodName)) ∈ lw_all := lw_g (lw_at lw_m5 41 rfl) rfl
theorem lk_X15_3 : xLk RX15 3 yJ18_init := Or.inl q1197
theorem q1200 : (Jvm.Cond.fieldLink "CompiledHouse$Expr" (9 : Nat) "CompiledHouse$Expr" "first" "I") ∈ lw_all := lw_g (lw_at lw_m5 44 rfl) rfl
theorem f_X15_9_14 : xF RX15 9 14 0 := ⟨_, "CompiledHouse$Expr", rfl, by decide, Or.inl q1200, Or.inl rfl⟩
theorem f_X15_9_15 : xF RX15 9 15 0 := ⟨_, "CompiledHouse$Expr", rfl, by decide, Or.inl q1200, Or.inl rfl⟩
theorem f_X15_9_16 : xF RX15 9 16 0 := ⟨_, "CompiledHouse$Expr", rfl, by decide, Or.inl q1200, Or.inl rfl⟩
theorem f_X15_9_17 : xF RX15 9 17 0 := ⟨_, "CompiledHouse$Expr", rfl, by decide, Or.inl q1200, Or.inl rfl⟩
theorem f_X15_9_18 : xF RX15 9 18 0 := ⟨_, "CompiledHouse$Expr", rfl, by decide, Or.inl q1200, Or.inl rfl⟩
theorem f_X15_9_19 : xF RX15 9 19 0 := ⟨_, "CompiledHouse$Expr", rfl, by decide, Or.inl q1200, Or.inl rfl⟩
theorem f_X15_9_20 : xF RX15 9 20 0 := ⟨_, "CompiledHouse$Expr", rfl, by decide, Or.inl q1200, Or.inl rfl⟩
theorem f_X15_9_21 : xF RX15 9 21 0 := ⟨_, "CompiledHouse$Expr", rfl, by decide, Or.inl q1200, Or.inl rfl⟩
abbrev cX15_branch : ByteArray := prog_13_method_4_code
def yX15_branch : MethodName := ⟨RX15, "branch", "(LCompiledHouse$Maker;LCompiledHouse$Block;LCompiledHouse$Block;)V"⟩
theorem q2128 : (Jvm.Cond.code ({ cls := "CompiledHouse$Expr", name := "branch", desc := "(LCompiledHouse$Maker;LCompiledHouse$Block;LCompiledHouse$Block;)V" } : Jvm.MethodName) prog_13_method_4_code (4 : Nat) (Option.none : Option Jvm.ClassFile.FieldType)) ∈ lw_all := lw_g (lw_at lw_m9 12 rfl) rfl
def kX15_branch : xK := (yX15_branch, cX15_branch, 4, none, [])
theorem me_X15_branch : xMe kX15_branch 3 := ⟨q2128, q222, by decide, by decide, by decide +kernel⟩
theorem q2046 : (Jvm.Cond.instanceMethod ({ cls := "CompiledHouse$Expr", name := "branch", desc := "(LCompiledHouse$Maker;LCompiledHouse$Block;LCompiledHouse$Block;)V" } : Jvm.MethodName)) ∈ lw_all := lw_g (lw_at lw_m8 170 rfl) rfl
theorem is_X15_branch : Cond.instanceMethod kX15_branch.y ∈ lw_all := q2046
theorem q2129 : (Jvm.Cond.methodLink "CompiledHouse$Expr" (15 : Nat) ({ cls := "CompiledHouse$Expr", name := "value", desc := "(LCompiledHouse$Maker;)J" } : Jvm.MethodName)) ∈ lw_all := lw_g (lw_at lw_m9 13 rfl) rfl
theorem q2130 : (Jvm.Cond.methodLink "CompiledHouse$Expr" (19 : Nat) ({ cls := "CompiledHouse$Maker", name := "constant", desc := "(I)J" } : Jvm.MethodName)) ∈ lw_all := lw_g (lw_at lw_m9 14 rfl) rfl
theorem lk_X15_19 : xLk RX15 19 yX6_constant := Or.inl q2130
theorem q2131 : (Jvm.Cond.methodLink "CompiledHouse$Expr" (25 : Nat) ({ cls := "CompiledHouse$Maker", name := "branch", desc := "(IJJLCompiledHouse$Block;LCompiledHouse$Block;)V" } : Jvm.MethodName)) ∈ lw_all := lw_g (lw_at lw_m9 15 rfl) rfl
theorem lk_X15_25 : xLk RX15 25 yX6_branch := Or.inl q2131
abbrev cX15_alone : ByteArray := prog_13_method_5_code
def yX15_alone : MethodName := ⟨RX15, "alone", "()LCompiledHouse$Name;"⟩
theorem q2150 : (Jvm.Cond.code ({ cls := "CompiledHouse$Expr", name := "alone", desc := "()LCompiledHouse$Name;" } : Jvm.MethodName) prog_13_method_5_code (1 : Nat) (Option.some (Jvm.ClassFile.FieldType.object "CompiledHouse$Name"))) ∈ lw_all := lw_g (lw_at lw_m9 34 rfl) rfl
def kX15_alone : xK := (yX15_alone, cX15_alone, 1, some (.object "CompiledHouse$Name"), [])
theorem me_X15_alone : xMe kX15_alone 0 := ⟨q2150, q222, by decide, by decide, by decide +kernel⟩
theorem q2138 : (Jvm.Cond.instanceMethod ({ cls := "CompiledHouse$Expr", name := "alone", desc := "()LCompiledHouse$Name;" } : Jvm.MethodName)) ∈ lw_all := lw_g (lw_at lw_m9 22 rfl) rfl
theorem is_X15_alone : Cond.instanceMethod kX15_alone.y ∈ lw_all := q2138
theorem q1194 : (Jvm.Cond.methodLink "CompiledHouse$Num" (1 : Nat) ({ cls := "CompiledHouse$Expr", name := "<init>", desc := "(I)V" } : Jvm.MethodName)) ∈ lw_all := lw_g (lw_at lw_m5 38 rfl) rfl
theorem lk_X16_1 : xLk RX16 1 yX15_init := Or.inl q1194
theorem q1198 : (Jvm.Cond.fieldLink "CompiledHouse$Num" (7 : Nat) "CompiledHouse$Num" "number" "I") ∈ lw_all := lw_g (lw_at lw_m5 42 rfl) rfl
theorem f_X16_7_14 : xF RX16 7 14 1 := ⟨_, "CompiledHouse$Num", rfl, by decide, Or.inl q1198, Or.inl rfl⟩
abbrev cX16_value : ByteArray := prog_24_method_3_code
def yX16_value : MethodName := ⟨RX16, "value", "(LCompiledHouse$Maker;)J"⟩
theorem q2102 : (Jvm.Cond.code ({ cls := "CompiledHouse$Num", name := "value", desc := "(LCompiledHouse$Maker;)J" } : Jvm.MethodName) prog_24_method_3_code (2 : Nat) (Option.some Jvm.ClassFile.FieldType.long)) ∈ lw_all := lw_g (lw_at lw_m8 226 rfl) rfl
def kX16_value : xK := (yX16_value, cX16_value, 2, some .long, [])
theorem me_X16_value : xMe kX16_value 1 := ⟨q2102, q223, by decide, by decide, by decide +kernel⟩
theorem q2101 : (Jvm.Cond.instanceMethod ({ cls := "CompiledHouse$Num", name := "value", desc := "(LCompiledHouse$Maker;)J" } : Jvm.MethodName)) ∈ lw_all := lw_g (lw_at lw_m8 225 rfl) rfl
theorem is_X16_value : Cond.instanceMethod kX16_value.y ∈ lw_all := q2101
theorem q2103 : (Jvm.Cond.methodLink "CompiledHouse$Num" (13 : Nat) ({ cls := "CompiledHouse$Maker", name := "constant", desc := "(I)J" } : Jvm.MethodName)) ∈ lw_all := lw_g (lw_at lw_m8 227 rfl) rfl
theorem lk_X16_13 : xLk RX16 13 yX6_constant := Or.inl q2103
abbrev cX16_constant : ByteArray := prog_24_method_2_code
def yX16_constant : MethodName := ⟨RX16, "constant", "(LCompiledHouse$Maker;)I"⟩
theorem q2330 : (Jvm.Cond.code ({ cls := "CompiledHouse$Num", name := "constant", desc := "(LCompiledHouse$Maker;)I" } : Jvm.MethodName) prog_24_method_2_code (2 : Nat) (Option.some Jvm.ClassFile.FieldType.int)) ∈ lw_all := lw_g (lw_at lw_m9 214 rfl) rfl
def kX16_constant : xK := (yX16_constant, cX16_constant, 2, some .int, [])
theorem me_X16_constant : xMe kX16_constant 1 := ⟨q2330, q223, by decide, by decide, by decide +kernel⟩
theorem q2329 : (Jvm.Cond.instanceMethod ({ cls := "CompiledHouse$Num", name := "constant", desc := "(LCompiledHouse$Maker;)I" } : Jvm.MethodName)) ∈ lw_all := lw_g (lw_at lw_m9 213 rfl) rfl
theorem is_X16_constant : Cond.instanceMethod kX16_constant.y ∈ lw_all := q2329
theorem q1321 : (Jvm.Cond.methodLink "CompiledHouse$Call" (3 : Nat) ({ cls := "CompiledHouse$Expr", name := "<init>", desc := "(I)V" } : Jvm.MethodName)) ∈ lw_all := lw_g (lw_at lw_m5 165 rfl) rfl
theorem lk_X17_3 : xLk RX17 3 yX15_init := Or.inl q1321
theorem q1323 : (Jvm.Cond.fieldLink "CompiledHouse$Call" (9 : Nat) "CompiledHouse$Call" "place" "I") ∈ lw_all := lw_g (lw_at lw_m5 167 rfl) rfl
theorem f_X17_9_15 : xF RX17 9 15 2 := ⟨_, "CompiledHouse$Call", rfl, by decide, Or.inl q1323, Or.inl rfl⟩
theorem q1322 : (Jvm.Cond.fieldLink "CompiledHouse$Call" (15 : Nat) "CompiledHouse$Call" "name" "I") ∈ lw_all := lw_g (lw_at lw_m5 166 rfl) rfl
theorem f_X17_15_15 : xF RX17 15 15 1 := ⟨_, "CompiledHouse$Call", rfl, by decide, Or.inl q1322, Or.inl rfl⟩
theorem q1325 : (Jvm.Cond.fieldLink "CompiledHouse$Call" (18 : Nat) "CompiledHouse$Call" "given" "Ljava/util/ArrayList;") ∈ lw_all := lw_g (lw_at lw_m5 169 rfl) rfl
theorem f_X17_18_15 : xF RX17 18 15 4 := ⟨_, "CompiledHouse$Call", rfl, by decide, Or.inl q1325, Or.inl rfl⟩
theorem q1324 : (Jvm.Cond.fieldLink "CompiledHouse$Call" (22 : Nat) "CompiledHouse$Call" "end" "I") ∈ lw_all := lw_g (lw_at lw_m5 168 rfl) rfl
theorem f_X17_22_15 : xF RX17 22 15 3 := ⟨_, "CompiledHouse$Call", rfl, by decide, Or.inl q1324, Or.inl rfl⟩
abbrev cX17_value : ByteArray := prog_7_method_3_code
def yX17_value : MethodName := ⟨RX17, "value", "(LCompiledHouse$Maker;)J"⟩
theorem q2020 : (Jvm.Cond.code ({ cls := "CompiledHouse$Call", name := "value", desc := "(LCompiledHouse$Maker;)J" } : Jvm.MethodName) prog_7_method_3_code (2 : Nat) (Option.some Jvm.ClassFile.FieldType.long)) ∈ lw_all := lw_g (lw_at lw_m8 144 rfl) rfl
def kX17_value : xK := (yX17_value, cX17_value, 2, some .long, [])
theorem me_X17_value : xMe kX17_value 1 := ⟨q2020, q228, by decide, by decide, by decide +kernel⟩
theorem q2019 : (Jvm.Cond.instanceMethod ({ cls := "CompiledHouse$Call", name := "value", desc := "(LCompiledHouse$Maker;)J" } : Jvm.MethodName)) ∈ lw_all := lw_g (lw_at lw_m8 143 rfl) rfl
theorem is_X17_value : Cond.instanceMethod kX17_value.y ∈ lw_all := q2019
theorem q2021 : (Jvm.Cond.methodLink "CompiledHouse$Call" (35 : Nat) ({ cls := "CompiledHouse$Call", name := "call", desc := "(LCompiledHouse$Maker;Z)J" } : Jvm.MethodName)) ∈ lw_all := lw_g (lw_at lw_m8 145 rfl) rfl
abbrev cX17_call : ByteArray := prog_7_method_5_code
def yX17_call : MethodName := ⟨RX17, "call", "(LCompiledHouse$Maker;Z)J"⟩
theorem q2024 : (Jvm.Cond.code ({ cls := "CompiledHouse$Call", name := "call", desc := "(LCompiledHouse$Maker;Z)J" } : Jvm.MethodName) prog_7_method_5_code (12 : Nat) (Option.some Jvm.ClassFile.FieldType.long)) ∈ lw_all := lw_g (lw_at lw_m8 148 rfl) rfl
def kX17_call : xK := (yX17_call, cX17_call, 12, some .long, [])
theorem me_X17_call : xMe kX17_call 2 := ⟨q2024, q228, by decide, by decide, by decide +kernel⟩
theorem q2022 : (Jvm.Cond.instanceMethod ({ cls := "CompiledHouse$Call", name := "call", desc := "(LCompiledHouse$Maker;Z)J" } : Jvm.MethodName)) ∈ lw_all := lw_g (lw_at lw_m8 146 rfl) rfl
theorem is_X17_call : Cond.instanceMethod kX17_call.y ∈ lw_all := q2022
theorem se_X17_call : Cond.selects RX17 kX17_call.y kX17_call.y ∈ lw_all := q2023
theorem lk_X17_35 : xLk RX17 35 yX17_call := Or.inl q2021
theorem q2025 : (Jvm.Cond.methodLink "CompiledHouse$Call" (25 : Nat) ({ cls := "CompiledHouse$Maker", name := "known", desc := "(II)LCompiledHouse$Symbol;" } : Jvm.MethodName)) ∈ lw_all := lw_g (lw_at lw_m8 149 rfl) rfl
theorem lk_X17_25 : xLk RX17 25 yX6_known := Or.inl q2025
theorem q1699 : (Jvm.Cond.fieldLinkNest "CompiledHouse$Call" (42 : Nat) "CompiledHouse$Symbol" "kind" "I" "CompiledHouse") ∈ lw_tbl := lw_at lw_m7 63 rfl
theorem f_X17_42_32 : xF RX17 42 32 1 := ⟨_, "CompiledHouse$Symbol", rfl, by decide, Or.inr ⟨_, q1699⟩, Or.inl rfl⟩
theorem q2026 : (Jvm.Cond.methodLink "CompiledHouse$Call" (31 : Nat) ({ cls := "CompiledHouse$Maker", name := "fault", desc := "(II)LCompiledHouse$Stop;" } : Jvm.MethodName)) ∈ lw_all := lw_g (lw_at lw_m8 150 rfl) rfl
theorem lk_X17_31 : xLk RX17 31 yX6_fault := Or.inl q2026
theorem q1716 : (Jvm.Cond.fieldLinkNest "CompiledHouse$Call" (47 : Nat) "CompiledHouse$Symbol" "told" "LCompiledHouse$Told;" "CompiledHouse") ∈ lw_tbl := lw_at lw_m7 80 rfl
theorem f_X17_47_32 : xF RX17 47 32 5 := ⟨_, "CompiledHouse$Symbol", rfl, by decide, Or.inr ⟨_, q1716⟩, Or.inl rfl⟩
theorem q1118 : (Jvm.Cond.fieldLinkNest "CompiledHouse$Call" (51 : Nat) "CompiledHouse$Told" "isVoid" "Z" "CompiledHouse") ∈ lw_tbl := lw_at lw_m4 202 rfl
theorem f_X17_51_13 : xF RX17 51 13 4 := ⟨_, "CompiledHouse$Told", rfl, by decide, Or.inr ⟨_, q1118⟩, Or.inl rfl⟩
theorem q1128 : (Jvm.Cond.fieldLinkNest "CompiledHouse$Call" (57 : Nat) "CompiledHouse$Told" "formals" "Ljava/util/ArrayList;" "CompiledHouse") ∈ lw_tbl := lw_at lw_m4 212 rfl
theorem f_X17_57_13 : xF RX17 57 13 8 := ⟨_, "CompiledHouse$Told", rfl, by decide, Or.inr ⟨_, q1128⟩, Or.inl rfl⟩
theorem q2027 : (Jvm.Cond.methodLink "CompiledHouse$Call" (60 : Nat) ({ cls := "CompiledHouse$Told", name := "words", desc := "()I" } : Jvm.MethodName)) ∈ lw_all := lw_g (lw_at lw_m8 151 rfl) rfl
theorem lk_X17_60 : xLk RX17 60 yX14_words := Or.inl q2027
theorem q2034 : (Jvm.Cond.methodLink "CompiledHouse$Call" (64 : Nat) ({ cls := "java/util/ArrayList", name := "size", desc := "()I" } : Jvm.MethodName)) ∈ lw_all := lw_g (lw_at lw_m8 158 rfl) rfl
theorem lk_X17_64 : xLk RX17 64 yJ5_size := Or.inl q2034
theorem q2035 : (Jvm.Cond.methodLink "CompiledHouse$Call" (69 : Nat) ({ cls := "java/util/ArrayList", name := "get", desc := "(I)Ljava/lang/Object;" } : Jvm.MethodName)) ∈ lw_all := lw_g (lw_at lw_m8 159 rfl) rfl
theorem lk_X17_69 : xLk RX17 69 yJ5_get := Or.inl q2035
theorem q2036 : (Jvm.Cond.classLink "CompiledHouse$Call" (4 : Nat) "CompiledHouse$Expr") ∈ lw_all := lw_g (lw_at lw_m8 160 rfl) rfl
theorem q2037 : (Jvm.Cond.classLink "CompiledHouse$Call" (73 : Nat) "CompiledHouse$Formal") ∈ lw_all := lw_g (lw_at lw_m8 161 rfl) rfl
theorem q1490 : (Jvm.Cond.fieldLinkNest "CompiledHouse$Call" (75 : Nat) "CompiledHouse$Formal" "isArray" "Z" "CompiledHouse") ∈ lw_tbl := lw_at lw_m6 94 rfl
theorem f_X17_75_22 : xF RX17 75 22 3 := ⟨_, "CompiledHouse$Formal", rfl, by decide, Or.inr ⟨_, q1490⟩, Or.inl rfl⟩
theorem q2038 : (Jvm.Cond.methodLink "CompiledHouse$Call" (78 : Nat) ({ cls := "CompiledHouse$Expr", name := "value", desc := "(LCompiledHouse$Maker;)J" } : Jvm.MethodName)) ∈ lw_all := lw_g (lw_at lw_m8 162 rfl) rfl
theorem q2137 : (Jvm.Cond.methodLink "CompiledHouse$Call" (82 : Nat) ({ cls := "CompiledHouse$Expr", name := "alone", desc := "()LCompiledHouse$Name;" } : Jvm.MethodName)) ∈ lw_all := lw_g (lw_at lw_m9 21 rfl) rfl
theorem lk_X17_82 : xLk RX17 82 yX15_alone := Or.inl q2137
theorem q2151 : (Jvm.Cond.methodLink "CompiledHouse$Call" (86 : Nat) ({ cls := "CompiledHouse$Expr", name := "leading", desc := "()I" } : Jvm.MethodName)) ∈ lw_all := lw_g (lw_at lw_m9 35 rfl) rfl
theorem lk_X17_86 : xLk RX17 86 yX15_leading := Or.inl q2151
theorem q1204 : (Jvm.Cond.fieldLink "CompiledHouse$Call" (39 : Nat) "CompiledHouse$Expr" "first" "I") ∈ lw_all := lw_g (lw_at lw_m5 48 rfl) rfl
theorem f_X17_39_14 : xF RX17 39 14 0 := ⟨_, "CompiledHouse$Expr", rfl, by decide, Or.inl q1204, Or.inl rfl⟩
theorem f_X17_39_15 : xF RX17 39 15 0 := ⟨_, "CompiledHouse$Expr", rfl, by decide, Or.inl q1204, Or.inl rfl⟩
theorem f_X17_39_16 : xF RX17 39 16 0 := ⟨_, "CompiledHouse$Expr", rfl, by decide, Or.inl q1204, Or.inl rfl⟩
theorem f_X17_39_17 : xF RX17 39 17 0 := ⟨_, "CompiledHouse$Expr", rfl, by decide, Or.inl q1204, Or.inl rfl⟩
theorem f_X17_39_18 : xF RX17 39 18 0 := ⟨_, "CompiledHouse$Expr", rfl, by decide, Or.inl q1204, Or.inl rfl⟩
theorem f_X17_39_19 : xF RX17 39 19 0 := ⟨_, "CompiledHouse$Expr", rfl, by decide, Or.inl q1204, Or.inl rfl⟩
theorem f_X17_39_20 : xF RX17 39 20 0 := ⟨_, "CompiledHouse$Expr", rfl, by decide, Or.inl q1204, Or.inl rfl⟩
theorem f_X17_39_21 : xF RX17 39 21 0 := ⟨_, "CompiledHouse$Expr", rfl, by decide, Or.inl q1204, Or.inl rfl⟩
theorem q1347 : (Jvm.Cond.fieldLinkNest "CompiledHouse$Call" (89 : Nat) "CompiledHouse$Name" "name" "I" "CompiledHouse") ∈ lw_tbl := lw_at lw_m5 191 rfl
theorem f_X17_89_16 : xF RX17 89 16 1 := ⟨_, "CompiledHouse$Name", rfl, by decide, Or.inr ⟨_, q1347⟩, Or.inl rfl⟩
theorem q1349 : (Jvm.Cond.fieldLinkNest "CompiledHouse$Call" (92 : Nat) "CompiledHouse$Name" "place" "I" "CompiledHouse") ∈ lw_tbl := lw_at lw_m5 193 rfl
theorem f_X17_92_16 : xF RX17 92 16 2 := ⟨_, "CompiledHouse$Name", rfl, by decide, Or.inr ⟨_, q1349⟩, Or.inl rfl⟩
theorem q2176 : (Jvm.Cond.methodLink "CompiledHouse$Call" (93 : Nat) ({ cls := "CompiledHouse$Symbol", name := "isArray", desc := "()Z" } : Jvm.MethodName)) ∈ lw_all := lw_g (lw_at lw_m9 60 rfl) rfl
theorem lk_X17_93 : xLk RX17 93 yX34_isArray := Or.inl q2176
theorem q1708 : (Jvm.Cond.fieldLinkNest "CompiledHouse$Call" (96 : Nat) "CompiledHouse$Symbol" "isByte" "Z" "CompiledHouse") ∈ lw_tbl := lw_at lw_m7 72 rfl
theorem f_X17_96_32 : xF RX17 96 32 3 := ⟨_, "CompiledHouse$Symbol", rfl, by decide, Or.inr ⟨_, q1708⟩, Or.inl rfl⟩
theorem q1493 : (Jvm.Cond.fieldLinkNest "CompiledHouse$Call" (99 : Nat) "CompiledHouse$Formal" "isByte" "Z" "CompiledHouse") ∈ lw_tbl := lw_at lw_m6 97 rfl
theorem f_X17_99_22 : xF RX17 99 22 4 := ⟨_, "CompiledHouse$Formal", rfl, by decide, Or.inr ⟨_, q1493⟩, Or.inl rfl⟩
theorem q2177 : (Jvm.Cond.methodLink "CompiledHouse$Call" (100 : Nat) ({ cls := "CompiledHouse$Maker", name := "address", desc := "(LCompiledHouse$Symbol;)J" } : Jvm.MethodName)) ∈ lw_all := lw_g (lw_at lw_m9 61 rfl) rfl
theorem lk_X17_100 : xLk RX17 100 yX6_address := Or.inl q2177
theorem q2181 : (Jvm.Cond.methodLink "CompiledHouse$Call" (104 : Nat) ({ cls := "CompiledHouse$Maker", name := "length", desc := "(LCompiledHouse$Symbol;)J" } : Jvm.MethodName)) ∈ lw_all := lw_g (lw_at lw_m9 65 rfl) rfl
theorem lk_X17_104 : xLk RX17 104 yX6_length := Or.inl q2181
theorem q2185 : (Jvm.Cond.methodLink "CompiledHouse$Call" (107 : Nat) ({ cls := "CompiledHouse$Maker", name := "call", desc := "(LCompiledHouse$Told;[JI)J" } : Jvm.MethodName)) ∈ lw_all := lw_g (lw_at lw_m9 69 rfl) rfl
theorem lk_X17_107 : xLk RX17 107 yX6_call := Or.inl q2185
abbrev cX17_leading : ByteArray := prog_7_method_4_code
def yX17_leading : MethodName := ⟨RX17, "leading", "()I"⟩
theorem q2157 : (Jvm.Cond.code ({ cls := "CompiledHouse$Call", name := "leading", desc := "()I" } : Jvm.MethodName) prog_7_method_4_code (1 : Nat) (Option.some Jvm.ClassFile.FieldType.int)) ∈ lw_all := lw_g (lw_at lw_m9 41 rfl) rfl
def kX17_leading : xK := (yX17_leading, cX17_leading, 1, some .int, [])
theorem me_X17_leading : xMe kX17_leading 0 := ⟨q2157, q228, by decide, by decide, by decide +kernel⟩
theorem q2156 : (Jvm.Cond.instanceMethod ({ cls := "CompiledHouse$Call", name := "leading", desc := "()I" } : Jvm.MethodName)) ∈ lw_all := lw_g (lw_at lw_m9 40 rfl) rfl
theorem is_X17_leading : Cond.instanceMethod kX17_leading.y ∈ lw_all := q2156
abbrev cX17_constant : ByteArray := prog_7_method_2_code
def yX17_constant : MethodName := ⟨RX17, "constant", "(LCompiledHouse$Maker;)I"⟩
theorem q2314 : (Jvm.Cond.code ({ cls := "CompiledHouse$Call", name := "constant", desc := "(LCompiledHouse$Maker;)I" } : Jvm.MethodName) prog_7_method_2_code (2 : Nat) (Option.some Jvm.ClassFile.FieldType.int)) ∈ lw_all := lw_g (lw_at lw_m9 198 rfl) rfl
def kX17_constant : xK := (yX17_constant, cX17_constant, 2, some .int, [])
theorem me_X17_constant : xMe kX17_constant 1 := ⟨q2314, q228, by decide, by decide, by decide +kernel⟩
theorem q2313 : (Jvm.Cond.instanceMethod ({ cls := "CompiledHouse$Call", name := "constant", desc := "(LCompiledHouse$Maker;)I" } : Jvm.MethodName)) ∈ lw_all := lw_g (lw_at lw_m9 197 rfl) rfl
theorem is_X17_constant : Cond.instanceMethod kX17_constant.y ∈ lw_all := q2313
theorem q1345 : (Jvm.Cond.methodLink "CompiledHouse$Name" (3 : Nat) ({ cls := "CompiledHouse$Expr", name := "<init>", desc := "(I)V" } : Jvm.MethodName)) ∈ lw_all := lw_g (lw_at lw_m5 189 rfl) rfl
theorem lk_X18_3 : xLk RX18 3 yX15_init := Or.inl q1345
theorem q1348 : (Jvm.Cond.fieldLink "CompiledHouse$Name" (9 : Nat) "CompiledHouse$Name" "place" "I") ∈ lw_all := lw_g (lw_at lw_m5 192 rfl) rfl
theorem f_X18_9_16 : xF RX18 9 16 2 := ⟨_, "CompiledHouse$Name", rfl, by decide, Or.inl q1348, Or.inl rfl⟩
theorem q1346 : (Jvm.Cond.fieldLink "CompiledHouse$Name" (15 : Nat) "CompiledHouse$Name" "name" "I") ∈ lw_all := lw_g (lw_at lw_m5 190 rfl) rfl
theorem f_X18_15_16 : xF RX18 15 16 1 := ⟨_, "CompiledHouse$Name", rfl, by decide, Or.inl q1346, Or.inl rfl⟩
theorem q1352 : (Jvm.Cond.fieldLink "CompiledHouse$Name" (18 : Nat) "CompiledHouse$Name" "index" "LCompiledHouse$Expr;") ∈ lw_all := lw_g (lw_at lw_m5 196 rfl) rfl
theorem f_X18_18_16 : xF RX18 18 16 4 := ⟨_, "CompiledHouse$Name", rfl, by decide, Or.inl q1352, Or.inl rfl⟩
theorem q1350 : (Jvm.Cond.fieldLink "CompiledHouse$Name" (22 : Nat) "CompiledHouse$Name" "row" "I") ∈ lw_all := lw_g (lw_at lw_m5 194 rfl) rfl
theorem f_X18_22_16 : xF RX18 22 16 3 := ⟨_, "CompiledHouse$Name", rfl, by decide, Or.inl q1350, Or.inl rfl⟩
abbrev cX18_target : ByteArray := prog_23_method_6_code
def yX18_target : MethodName := ⟨RX18, "target", "(LCompiledHouse$Maker;)LCompiledHouse$Symbol;"⟩
theorem q1989 : (Jvm.Cond.code ({ cls := "CompiledHouse$Name", name := "target", desc := "(LCompiledHouse$Maker;)LCompiledHouse$Symbol;" } : Jvm.MethodName) prog_23_method_6_code (3 : Nat) (Option.some (Jvm.ClassFile.FieldType.object "CompiledHouse$Symbol"))) ∈ lw_all := lw_g (lw_at lw_m8 113 rfl) rfl
def kX18_target : xK := (yX18_target, cX18_target, 3, some (.object "CompiledHouse$Symbol"), [])
theorem me_X18_target : xMe kX18_target 1 := ⟨q1989, q229, by decide, by decide, by decide +kernel⟩
theorem q1987 : (Jvm.Cond.instanceMethod ({ cls := "CompiledHouse$Name", name := "target", desc := "(LCompiledHouse$Maker;)LCompiledHouse$Symbol;" } : Jvm.MethodName)) ∈ lw_all := lw_g (lw_at lw_m8 111 rfl) rfl
theorem is_X18_target : Cond.instanceMethod kX18_target.y ∈ lw_all := q1987
theorem se_X18_target : Cond.selects RX18 kX18_target.y kX18_target.y ∈ lw_all := q1988
theorem q1990 : (Jvm.Cond.methodLink "CompiledHouse$Name" (25 : Nat) ({ cls := "CompiledHouse$Maker", name := "known", desc := "(II)LCompiledHouse$Symbol;" } : Jvm.MethodName)) ∈ lw_all := lw_g (lw_at lw_m8 114 rfl) rfl
theorem lk_X18_25 : xLk RX18 25 yX6_known := Or.inl q1990
theorem q1998 : (Jvm.Cond.methodLink "CompiledHouse$Name" (43 : Nat) ({ cls := "CompiledHouse$Symbol", name := "isArray", desc := "()Z" } : Jvm.MethodName)) ∈ lw_all := lw_g (lw_at lw_m8 122 rfl) rfl
theorem lk_X18_43 : xLk RX18 43 yX34_isArray := Or.inl q1998
theorem q1698 : (Jvm.Cond.fieldLinkNest "CompiledHouse$Name" (31 : Nat) "CompiledHouse$Symbol" "kind" "I" "CompiledHouse") ∈ lw_tbl := lw_at lw_m7 62 rfl
theorem f_X18_31_32 : xF RX18 31 32 1 := ⟨_, "CompiledHouse$Symbol", rfl, by decide, Or.inr ⟨_, q1698⟩, Or.inl rfl⟩
theorem q2002 : (Jvm.Cond.methodLink "CompiledHouse$Name" (36 : Nat) ({ cls := "CompiledHouse$Maker", name := "fault", desc := "(II)LCompiledHouse$Stop;" } : Jvm.MethodName)) ∈ lw_all := lw_g (lw_at lw_m8 126 rfl) rfl
theorem lk_X18_36 : xLk RX18 36 yX6_fault := Or.inl q2002
abbrev cX18_value : ByteArray := prog_23_method_3_code
def yX18_value : MethodName := ⟨RX18, "value", "(LCompiledHouse$Maker;)J"⟩
theorem q2086 : (Jvm.Cond.code ({ cls := "CompiledHouse$Name", name := "value", desc := "(LCompiledHouse$Maker;)J" } : Jvm.MethodName) prog_23_method_3_code (3 : Nat) (Option.some Jvm.ClassFile.FieldType.long)) ∈ lw_all := lw_g (lw_at lw_m8 210 rfl) rfl
def kX18_value : xK := (yX18_value, cX18_value, 3, some .long, [])
theorem me_X18_value : xMe kX18_value 1 := ⟨q2086, q229, by decide, by decide, by decide +kernel⟩
theorem q2085 : (Jvm.Cond.instanceMethod ({ cls := "CompiledHouse$Name", name := "value", desc := "(LCompiledHouse$Maker;)J" } : Jvm.MethodName)) ∈ lw_all := lw_g (lw_at lw_m8 209 rfl) rfl
theorem is_X18_value : Cond.instanceMethod kX18_value.y ∈ lw_all := q2085
theorem q2087 : (Jvm.Cond.methodLink "CompiledHouse$Name" (47 : Nat) ({ cls := "CompiledHouse$Maker", name := "load", desc := "(LCompiledHouse$Symbol;)J" } : Jvm.MethodName)) ∈ lw_all := lw_g (lw_at lw_m8 211 rfl) rfl
theorem lk_X18_47 : xLk RX18 47 yX6_load := Or.inl q2087
theorem q2099 : (Jvm.Cond.methodLink "CompiledHouse$Name" (51 : Nat) ({ cls := "CompiledHouse$Maker", name := "index", desc := "(LCompiledHouse$Symbol;LCompiledHouse$Expr;I)J" } : Jvm.MethodName)) ∈ lw_all := lw_g (lw_at lw_m8 223 rfl) rfl
theorem lk_X18_51 : xLk RX18 51 yX6_index := Or.inl q2099
theorem q2100 : (Jvm.Cond.methodLink "CompiledHouse$Name" (54 : Nat) ({ cls := "CompiledHouse$Maker", name := "element", desc := "(LCompiledHouse$Symbol;J)J" } : Jvm.MethodName)) ∈ lw_all := lw_g (lw_at lw_m8 224 rfl) rfl
theorem lk_X18_54 : xLk RX18 54 yX6_element := Or.inl q2100
abbrev cX18_alone : ByteArray := prog_23_method_4_code
def yX18_alone : MethodName := ⟨RX18, "alone", "()LCompiledHouse$Name;"⟩
theorem q2148 : (Jvm.Cond.code ({ cls := "CompiledHouse$Name", name := "alone", desc := "()LCompiledHouse$Name;" } : Jvm.MethodName) prog_23_method_4_code (1 : Nat) (Option.some (Jvm.ClassFile.FieldType.object "CompiledHouse$Name"))) ∈ lw_all := lw_g (lw_at lw_m9 32 rfl) rfl
def kX18_alone : xK := (yX18_alone, cX18_alone, 1, some (.object "CompiledHouse$Name"), [])
theorem me_X18_alone : xMe kX18_alone 0 := ⟨q2148, q229, by decide, by decide, by decide +kernel⟩
theorem q2147 : (Jvm.Cond.instanceMethod ({ cls := "CompiledHouse$Name", name := "alone", desc := "()LCompiledHouse$Name;" } : Jvm.MethodName)) ∈ lw_all := lw_g (lw_at lw_m9 31 rfl) rfl
theorem is_X18_alone : Cond.instanceMethod kX18_alone.y ∈ lw_all := q2147
theorem q1205 : (Jvm.Cond.fieldLink "CompiledHouse$Name" (58 : Nat) "CompiledHouse$Expr" "first" "I") ∈ lw_all := lw_g (lw_at lw_m5 49 rfl) rfl
theorem f_X18_58_14 : xF RX18 58 14 0 := ⟨_, "CompiledHouse$Expr", rfl, by decide, Or.inl q1205, Or.inl rfl⟩
theorem f_X18_58_15 : xF RX18 58 15 0 := ⟨_, "CompiledHouse$Expr", rfl, by decide, Or.inl q1205, Or.inl rfl⟩
theorem f_X18_58_16 : xF RX18 58 16 0 := ⟨_, "CompiledHouse$Expr", rfl, by decide, Or.inl q1205, Or.inl rfl⟩
theorem f_X18_58_17 : xF RX18 58 17 0 := ⟨_, "CompiledHouse$Expr", rfl, by decide, Or.inl q1205, Or.inl rfl⟩
theorem f_X18_58_18 : xF RX18 58 18 0 := ⟨_, "CompiledHouse$Expr", rfl, by decide, Or.inl q1205, Or.inl rfl⟩
theorem f_X18_58_19 : xF RX18 58 19 0 := ⟨_, "CompiledHouse$Expr", rfl, by decide, Or.inl q1205, Or.inl rfl⟩
theorem f_X18_58_20 : xF RX18 58 20 0 := ⟨_, "CompiledHouse$Expr", rfl, by decide, Or.inl q1205, Or.inl rfl⟩
theorem f_X18_58_21 : xF RX18 58 21 0 := ⟨_, "CompiledHouse$Expr", rfl, by decide, Or.inl q1205, Or.inl rfl⟩
abbrev cX18_leading : ByteArray := prog_23_method_5_code
def yX18_leading : MethodName := ⟨RX18, "leading", "()I"⟩
theorem q2169 : (Jvm.Cond.code ({ cls := "CompiledHouse$Name", name := "leading", desc := "()I" } : Jvm.MethodName) prog_23_method_5_code (1 : Nat) (Option.some Jvm.ClassFile.FieldType.int)) ∈ lw_all := lw_g (lw_at lw_m9 53 rfl) rfl
def kX18_leading : xK := (yX18_leading, cX18_leading, 1, some .int, [])
theorem me_X18_leading : xMe kX18_leading 0 := ⟨q2169, q229, by decide, by decide, by decide +kernel⟩
theorem q2168 : (Jvm.Cond.instanceMethod ({ cls := "CompiledHouse$Name", name := "leading", desc := "()I" } : Jvm.MethodName)) ∈ lw_all := lw_g (lw_at lw_m9 52 rfl) rfl
theorem is_X18_leading : Cond.instanceMethod kX18_leading.y ∈ lw_all := q2168
abbrev cX18_constant : ByteArray := prog_23_method_2_code
def yX18_constant : MethodName := ⟨RX18, "constant", "(LCompiledHouse$Maker;)I"⟩
theorem q2328 : (Jvm.Cond.code ({ cls := "CompiledHouse$Name", name := "constant", desc := "(LCompiledHouse$Maker;)I" } : Jvm.MethodName) prog_23_method_2_code (3 : Nat) (Option.some Jvm.ClassFile.FieldType.int)) ∈ lw_all := lw_g (lw_at lw_m9 212 rfl) rfl
def kX18_constant : xK := (yX18_constant, cX18_constant, 3, some .int, [])
theorem me_X18_constant : xMe kX18_constant 1 := ⟨q2328, q229, by decide, by decide, by decide +kernel⟩
theorem q2327 : (Jvm.Cond.instanceMethod ({ cls := "CompiledHouse$Name", name := "constant", desc := "(LCompiledHouse$Maker;)I" } : Jvm.MethodName)) ∈ lw_all := lw_g (lw_at lw_m9 211 rfl) rfl
theorem is_X18_constant : Cond.instanceMethod kX18_constant.y ∈ lw_all := q2327
theorem q1704 : (Jvm.Cond.fieldLinkNest "CompiledHouse$Name" (40 : Nat) "CompiledHouse$Symbol" "value" "I" "CompiledHouse") ∈ lw_tbl := lw_at lw_m7 68 rfl
theorem f_X18_40_32 : xF RX18 40 32 2 := ⟨_, "CompiledHouse$Symbol", rfl, by decide, Or.inr ⟨_, q1704⟩, Or.inl rfl⟩
theorem q1369 : (Jvm.Cond.methodLink "CompiledHouse$Get" (1 : Nat) ({ cls := "CompiledHouse$Expr", name := "<init>", desc := "(I)V" } : Jvm.MethodName)) ∈ lw_all := lw_g (lw_at lw_m5 213 rfl) rfl
theorem lk_X19_1 : xLk RX19 1 yX15_init := Or.inl q1369
theorem q1370 : (Jvm.Cond.fieldLink "CompiledHouse$Get" (7 : Nat) "CompiledHouse$Get" "place" "I") ∈ lw_all := lw_g (lw_at lw_m5 214 rfl) rfl
theorem f_X19_7_17 : xF RX19 7 17 1 := ⟨_, "CompiledHouse$Get", rfl, by decide, Or.inl q1370, Or.inl rfl⟩
abbrev cX19_value : ByteArray := prog_15_method_3_code
def yX19_value : MethodName := ⟨RX19, "value", "(LCompiledHouse$Maker;)J"⟩
theorem q2056 : (Jvm.Cond.code ({ cls := "CompiledHouse$Get", name := "value", desc := "(LCompiledHouse$Maker;)J" } : Jvm.MethodName) prog_15_method_3_code (2 : Nat) (Option.some Jvm.ClassFile.FieldType.long)) ∈ lw_all := lw_g (lw_at lw_m8 180 rfl) rfl
def kX19_value : xK := (yX19_value, cX19_value, 2, some .long, [])
theorem me_X19_value : xMe kX19_value 1 := ⟨q2056, q230, by decide, by decide, by decide +kernel⟩
theorem q2055 : (Jvm.Cond.instanceMethod ({ cls := "CompiledHouse$Get", name := "value", desc := "(LCompiledHouse$Maker;)J" } : Jvm.MethodName)) ∈ lw_all := lw_g (lw_at lw_m8 179 rfl) rfl
theorem is_X19_value : Cond.instanceMethod kX19_value.y ∈ lw_all := q2055
theorem q2057 : (Jvm.Cond.methodLink "CompiledHouse$Get" (19 : Nat) ({ cls := "CompiledHouse$Maker", name := "get", desc := "()J" } : Jvm.MethodName)) ∈ lw_all := lw_g (lw_at lw_m8 181 rfl) rfl
theorem lk_X19_19 : xLk RX19 19 yX6_get := Or.inl q2057
abbrev cX19_constant : ByteArray := prog_15_method_2_code
def yX19_constant : MethodName := ⟨RX19, "constant", "(LCompiledHouse$Maker;)I"⟩
theorem q2322 : (Jvm.Cond.code ({ cls := "CompiledHouse$Get", name := "constant", desc := "(LCompiledHouse$Maker;)I" } : Jvm.MethodName) prog_15_method_2_code (2 : Nat) (Option.some Jvm.ClassFile.FieldType.int)) ∈ lw_all := lw_g (lw_at lw_m9 206 rfl) rfl
def kX19_constant : xK := (yX19_constant, cX19_constant, 2, some .int, [])
theorem me_X19_constant : xMe kX19_constant 1 := ⟨q2322, q230, by decide, by decide, by decide +kernel⟩
theorem q2321 : (Jvm.Cond.instanceMethod ({ cls := "CompiledHouse$Get", name := "constant", desc := "(LCompiledHouse$Maker;)I" } : Jvm.MethodName)) ∈ lw_all := lw_g (lw_at lw_m9 205 rfl) rfl
theorem is_X19_constant : Cond.instanceMethod kX19_constant.y ∈ lw_all := q2321
theorem q2323 : (Jvm.Cond.methodLink "CompiledHouse$Get" (13 : Nat) ({ cls := "CompiledHouse$Maker", name := "fault", desc := "(II)LCompiledHouse$Stop;" } : Jvm.MethodName)) ∈ lw_all := lw_g (lw_at lw_m9 207 rfl) rfl
theorem lk_X19_13 : xLk RX19 13 yX6_fault := Or.inl q2323
theorem q1384 : (Jvm.Cond.methodLink "CompiledHouse$Ahead" (3 : Nat) ({ cls := "CompiledHouse$Expr", name := "<init>", desc := "(I)V" } : Jvm.MethodName)) ∈ lw_all := lw_g (lw_at lw_m5 228 rfl) rfl
theorem lk_X20_3 : xLk RX20 3 yX15_init := Or.inl q1384
theorem q1385 : (Jvm.Cond.fieldLink "CompiledHouse$Ahead" (9 : Nat) "CompiledHouse$Ahead" "signs" "[I") ∈ lw_all := lw_g (lw_at lw_m5 229 rfl) rfl
theorem f_X20_9_18 : xF RX20 9 18 1 := ⟨_, "CompiledHouse$Ahead", rfl, by decide, Or.inl q1385, Or.inl rfl⟩
theorem q1386 : (Jvm.Cond.fieldLink "CompiledHouse$Ahead" (15 : Nat) "CompiledHouse$Ahead" "of" "LCompiledHouse$Expr;") ∈ lw_all := lw_g (lw_at lw_m5 230 rfl) rfl
theorem f_X20_15_18 : xF RX20 15 18 2 := ⟨_, "CompiledHouse$Ahead", rfl, by decide, Or.inl q1386, Or.inl rfl⟩
abbrev cX20_value : ByteArray := prog_3_method_4_code
def yX20_value : MethodName := ⟨RX20, "value", "(LCompiledHouse$Maker;)J"⟩
theorem q2017 : (Jvm.Cond.code ({ cls := "CompiledHouse$Ahead", name := "value", desc := "(LCompiledHouse$Maker;)J" } : Jvm.MethodName) prog_3_method_4_code (5 : Nat) (Option.some Jvm.ClassFile.FieldType.long)) ∈ lw_all := lw_g (lw_at lw_m8 141 rfl) rfl
def kX20_value : xK := (yX20_value, cX20_value, 5, some .long, [])
theorem me_X20_value : xMe kX20_value 1 := ⟨q2017, q231, by decide, by decide, by decide +kernel⟩
theorem q2016 : (Jvm.Cond.instanceMethod ({ cls := "CompiledHouse$Ahead", name := "value", desc := "(LCompiledHouse$Maker;)J" } : Jvm.MethodName)) ∈ lw_all := lw_g (lw_at lw_m8 140 rfl) rfl
theorem is_X20_value : Cond.instanceMethod kX20_value.y ∈ lw_all := q2016
theorem q2018 : (Jvm.Cond.methodLink "CompiledHouse$Ahead" (23 : Nat) ({ cls := "CompiledHouse$Expr", name := "value", desc := "(LCompiledHouse$Maker;)J" } : Jvm.MethodName)) ∈ lw_all := lw_g (lw_at lw_m8 142 rfl) rfl
theorem q2189 : (Jvm.Cond.methodLink "CompiledHouse$Ahead" (27 : Nat) ({ cls := "CompiledHouse$Maker", name := "constant", desc := "(I)J" } : Jvm.MethodName)) ∈ lw_all := lw_g (lw_at lw_m9 73 rfl) rfl
theorem lk_X20_27 : xLk RX20 27 yX6_constant := Or.inl q2189
theorem q2190 : (Jvm.Cond.methodLink "CompiledHouse$Ahead" (32 : Nat) ({ cls := "CompiledHouse$Maker", name := "act", desc := "(IJJ)J" } : Jvm.MethodName)) ∈ lw_all := lw_g (lw_at lw_m9 74 rfl) rfl
theorem lk_X20_32 : xLk RX20 32 yX6_act := Or.inl q2190
theorem q2191 : (Jvm.Cond.methodLink "CompiledHouse$Ahead" (36 : Nat) ({ cls := "CompiledHouse$Ahead", name := "act", desc := "(I)I" } : Jvm.MethodName)) ∈ lw_all := lw_g (lw_at lw_m9 75 rfl) rfl
theorem lk_X20_36 : xLk RX20 36 yX20_act := Or.inl q2191
abbrev cX20_branch : ByteArray := prog_3_method_5_code
def yX20_branch : MethodName := ⟨RX20, "branch", "(LCompiledHouse$Maker;LCompiledHouse$Block;LCompiledHouse$Block;)V"⟩
theorem q2050 : (Jvm.Cond.code ({ cls := "CompiledHouse$Ahead", name := "branch", desc := "(LCompiledHouse$Maker;LCompiledHouse$Block;LCompiledHouse$Block;)V" } : Jvm.MethodName) prog_3_method_5_code (5 : Nat) (Option.none : Option Jvm.ClassFile.FieldType)) ∈ lw_all := lw_g (lw_at lw_m8 174 rfl) rfl
def kX20_branch : xK := (yX20_branch, cX20_branch, 5, none, [])
theorem me_X20_branch : xMe kX20_branch 3 := ⟨q2050, q231, by decide, by decide, by decide +kernel⟩
theorem q2049 : (Jvm.Cond.instanceMethod ({ cls := "CompiledHouse$Ahead", name := "branch", desc := "(LCompiledHouse$Maker;LCompiledHouse$Block;LCompiledHouse$Block;)V" } : Jvm.MethodName)) ∈ lw_all := lw_g (lw_at lw_m8 173 rfl) rfl
theorem is_X20_branch : Cond.instanceMethod kX20_branch.y ∈ lw_all := q2049
theorem q2051 : (Jvm.Cond.methodLink "CompiledHouse$Ahead" (39 : Nat) ({ cls := "CompiledHouse$Expr", name := "branch", desc := "(LCompiledHouse$Maker;LCompiledHouse$Block;LCompiledHouse$Block;)V" } : Jvm.MethodName)) ∈ lw_all := lw_g (lw_at lw_m8 175 rfl) rfl
theorem lk_X20_39 : xLk RX20 39 yX15_branch := Or.inl q2051
abbrev cX20_constant : ByteArray := prog_3_method_3_code
def yX20_constant : MethodName := ⟨RX20, "constant", "(LCompiledHouse$Maker;)I"⟩
theorem q2311 : (Jvm.Cond.code ({ cls := "CompiledHouse$Ahead", name := "constant", desc := "(LCompiledHouse$Maker;)I" } : Jvm.MethodName) prog_3_method_3_code (4 : Nat) (Option.some Jvm.ClassFile.FieldType.int)) ∈ lw_all := lw_g (lw_at lw_m9 195 rfl) rfl
def kX20_constant : xK := (yX20_constant, cX20_constant, 4, some .int, [])
theorem me_X20_constant : xMe kX20_constant 1 := ⟨q2311, q231, by decide, by decide, by decide +kernel⟩
theorem q2310 : (Jvm.Cond.instanceMethod ({ cls := "CompiledHouse$Ahead", name := "constant", desc := "(LCompiledHouse$Maker;)I" } : Jvm.MethodName)) ∈ lw_all := lw_g (lw_at lw_m9 194 rfl) rfl
theorem is_X20_constant : Cond.instanceMethod kX20_constant.y ∈ lw_all := q2310
theorem q2312 : (Jvm.Cond.methodLink "CompiledHouse$Ahead" (19 : Nat) ({ cls := "CompiledHouse$Expr", name := "constant", desc := "(LCompiledHouse$Maker;)I" } : Jvm.MethodName)) ∈ lw_all := lw_g (lw_at lw_m9 196 rfl) rfl
theorem q1401 : (Jvm.Cond.methodLink "CompiledHouse$Logic" (3 : Nat) ({ cls := "java/util/ArrayList", name := "get", desc := "(I)Ljava/lang/Object;" } : Jvm.MethodName)) ∈ lw_all := lw_g (lw_at lw_m6 5 rfl) rfl
theorem lk_X21_3 : xLk RX21 3 yJ5_get := Or.inl q1401
theorem q1413 : (Jvm.Cond.classLink "CompiledHouse$Logic" (9 : Nat) "CompiledHouse$Expr") ∈ lw_all := lw_g (lw_at lw_m6 17 rfl) rfl
theorem q1201 : (Jvm.Cond.fieldLink "CompiledHouse$Logic" (11 : Nat) "CompiledHouse$Expr" "first" "I") ∈ lw_all := lw_g (lw_at lw_m5 45 rfl) rfl
theorem f_X21_11_14 : xF RX21 11 14 0 := ⟨_, "CompiledHouse$Expr", rfl, by decide, Or.inl q1201, Or.inl rfl⟩
theorem f_X21_11_15 : xF RX21 11 15 0 := ⟨_, "CompiledHouse$Expr", rfl, by decide, Or.inl q1201, Or.inl rfl⟩
theorem f_X21_11_16 : xF RX21 11 16 0 := ⟨_, "CompiledHouse$Expr", rfl, by decide, Or.inl q1201, Or.inl rfl⟩
theorem f_X21_11_17 : xF RX21 11 17 0 := ⟨_, "CompiledHouse$Expr", rfl, by decide, Or.inl q1201, Or.inl rfl⟩
theorem f_X21_11_18 : xF RX21 11 18 0 := ⟨_, "CompiledHouse$Expr", rfl, by decide, Or.inl q1201, Or.inl rfl⟩
theorem f_X21_11_19 : xF RX21 11 19 0 := ⟨_, "CompiledHouse$Expr", rfl, by decide, Or.inl q1201, Or.inl rfl⟩
theorem f_X21_11_20 : xF RX21 11 20 0 := ⟨_, "CompiledHouse$Expr", rfl, by decide, Or.inl q1201, Or.inl rfl⟩
theorem f_X21_11_21 : xF RX21 11 21 0 := ⟨_, "CompiledHouse$Expr", rfl, by decide, Or.inl q1201, Or.inl rfl⟩
theorem q1414 : (Jvm.Cond.methodLink "CompiledHouse$Logic" (15 : Nat) ({ cls := "CompiledHouse$Expr", name := "<init>", desc := "(I)V" } : Jvm.MethodName)) ∈ lw_all := lw_g (lw_at lw_m6 18 rfl) rfl
theorem lk_X21_15 : xLk RX21 15 yX15_init := Or.inl q1414
theorem q1415 : (Jvm.Cond.fieldLink "CompiledHouse$Logic" (19 : Nat) "CompiledHouse$Logic" "isAnd" "Z") ∈ lw_all := lw_g (lw_at lw_m6 19 rfl) rfl
theorem f_X21_19_19 : xF RX21 19 19 1 := ⟨_, "CompiledHouse$Logic", rfl, by decide, Or.inl q1415, Or.inl rfl⟩
theorem q1416 : (Jvm.Cond.fieldLink "CompiledHouse$Logic" (25 : Nat) "CompiledHouse$Logic" "parts" "Ljava/util/ArrayList;") ∈ lw_all := lw_g (lw_at lw_m6 20 rfl) rfl
theorem f_X21_25_19 : xF RX21 25 19 2 := ⟨_, "CompiledHouse$Logic", rfl, by decide, Or.inl q1416, Or.inl rfl⟩
abbrev cX21_value : ByteArray := prog_20_method_4_code
def yX21_value : MethodName := ⟨RX21, "value", "(LCompiledHouse$Maker;)J"⟩
theorem q2062 : (Jvm.Cond.code ({ cls := "CompiledHouse$Logic", name := "value", desc := "(LCompiledHouse$Maker;)J" } : Jvm.MethodName) prog_20_method_4_code (6 : Nat) (Option.some Jvm.ClassFile.FieldType.long)) ∈ lw_all := lw_g (lw_at lw_m8 186 rfl) rfl
def kX21_value : xK := (yX21_value, cX21_value, 6, some .long, [])
theorem me_X21_value : xMe kX21_value 1 := ⟨q2062, q232, by decide, by decide, by decide +kernel⟩
theorem q2061 : (Jvm.Cond.instanceMethod ({ cls := "CompiledHouse$Logic", name := "value", desc := "(LCompiledHouse$Maker;)J" } : Jvm.MethodName)) ∈ lw_all := lw_g (lw_at lw_m8 185 rfl) rfl
theorem is_X21_value : Cond.instanceMethod kX21_value.y ∈ lw_all := q2061
theorem q2063 : (Jvm.Cond.methodLink "CompiledHouse$Logic" (40 : Nat) ({ cls := "CompiledHouse$Maker", name := "block", desc := "()LCompiledHouse$Block;" } : Jvm.MethodName)) ∈ lw_all := lw_g (lw_at lw_m8 187 rfl) rfl
theorem lk_X21_40 : xLk RX21 40 yX6_block := Or.inl q2063
theorem q2064 : (Jvm.Cond.methodLink "CompiledHouse$Logic" (46 : Nat) ({ cls := "CompiledHouse$Logic", name := "branch", desc := "(LCompiledHouse$Maker;LCompiledHouse$Block;LCompiledHouse$Block;)V" } : Jvm.MethodName)) ∈ lw_all := lw_g (lw_at lw_m8 188 rfl) rfl
abbrev cX21_branch : ByteArray := prog_20_method_5_code
def yX21_branch : MethodName := ⟨RX21, "branch", "(LCompiledHouse$Maker;LCompiledHouse$Block;LCompiledHouse$Block;)V"⟩
theorem q2067 : (Jvm.Cond.code ({ cls := "CompiledHouse$Logic", name := "branch", desc := "(LCompiledHouse$Maker;LCompiledHouse$Block;LCompiledHouse$Block;)V" } : Jvm.MethodName) prog_20_method_5_code (6 : Nat) (Option.none : Option Jvm.ClassFile.FieldType)) ∈ lw_all := lw_g (lw_at lw_m8 191 rfl) rfl
def kX21_branch : xK := (yX21_branch, cX21_branch, 6, none, [])
theorem me_X21_branch : xMe kX21_branch 3 := ⟨q2067, q232, by decide, by decide, by decide +kernel⟩
theorem q2065 : (Jvm.Cond.instanceMethod ({ cls := "CompiledHouse$Logic", name := "branch", desc := "(LCompiledHouse$Maker;LCompiledHouse$Block;LCompiledHouse$Block;)V" } : Jvm.MethodName)) ∈ lw_all := lw_g (lw_at lw_m8 189 rfl) rfl
theorem is_X21_branch : Cond.instanceMethod kX21_branch.y ∈ lw_all := q2065
theorem se_X21_branch : Cond.selects RX21 kX21_branch.y kX21_branch.y ∈ lw_all := q2066
theorem lk_X21_46 : xLk RX21 46 yX21_branch := Or.inl q2064
theorem q2071 : (Jvm.Cond.methodLink "CompiledHouse$Logic" (50 : Nat) ({ cls := "CompiledHouse$Maker", name := "register", desc := "()I" } : Jvm.MethodName)) ∈ lw_all := lw_g (lw_at lw_m8 195 rfl) rfl
theorem lk_X21_50 : xLk RX21 50 yX6_register := Or.inl q2071
theorem q2070 : (Jvm.Cond.methodLink "CompiledHouse$Logic" (53 : Nat) ({ cls := "CompiledHouse$Maker", name := "at", desc := "(LCompiledHouse$Block;)V" } : Jvm.MethodName)) ∈ lw_all := lw_g (lw_at lw_m8 194 rfl) rfl
theorem lk_X21_53 : xLk RX21 53 yX6_at := Or.inl q2070
theorem q2072 : (Jvm.Cond.methodLink "CompiledHouse$Logic" (57 : Nat) ({ cls := "CompiledHouse$Maker", name := "constant", desc := "(I)J" } : Jvm.MethodName)) ∈ lw_all := lw_g (lw_at lw_m8 196 rfl) rfl
theorem lk_X21_57 : xLk RX21 57 yX6_constant := Or.inl q2072
theorem q2073 : (Jvm.Cond.methodLink "CompiledHouse$Logic" (60 : Nat) ({ cls := "CompiledHouse$Maker", name := "move", desc := "(IJ)V" } : Jvm.MethodName)) ∈ lw_all := lw_g (lw_at lw_m8 197 rfl) rfl
theorem lk_X21_60 : xLk RX21 60 yX6_move := Or.inl q2073
theorem q2077 : (Jvm.Cond.methodLink "CompiledHouse$Logic" (64 : Nat) ({ cls := "CompiledHouse$Maker", name := "jump", desc := "(LCompiledHouse$Block;)V" } : Jvm.MethodName)) ∈ lw_all := lw_g (lw_at lw_m8 201 rfl) rfl
theorem lk_X21_64 : xLk RX21 64 yX6_jump := Or.inl q2077
theorem dX15_init_0 : decode cX15_init 0 = .ok (.aload_n 0, 1) := by decide +kernel
theorem dX15_init_1 : decode cX15_init 1 = .ok (.invokespecial 3, 3) := by decide +kernel
theorem dX15_init_4 : decode cX15_init 4 = .ok (.aload_n 0, 1) := by decide +kernel
theorem dX15_init_5 : decode cX15_init 5 = .ok (.iload_n 1, 1) := by decide +kernel
theorem dX15_init_6 : decode cX15_init 6 = .ok (.putfield 9, 3) := by decide +kernel
theorem dX15_init_9 : decode cX15_init 9 = .ok (.return_, 1) := by decide +kernel
theorem dX15_branch_0 : decode cX15_branch 0 = .ok (.aload_n 1, 1) := by decide +kernel
theorem dX15_branch_1 : decode cX15_branch 1 = .ok (.bipush 12, 2) := by decide +kernel
theorem dX15_branch_3 : decode cX15_branch 3 = .ok (.aload_n 0, 1) := by decide +kernel
theorem dX15_branch_4 : decode cX15_branch 4 = .ok (.aload_n 1, 1) := by decide +kernel
theorem dX15_branch_5 : decode cX15_branch 5 = .ok (.invokevirtual 15, 3) := by decide +kernel
theorem dX15_branch_8 : decode cX15_branch 8 = .ok (.iconst 0, 1) := by decide +kernel
theorem dX15_branch_9 : decode cX15_branch 9 = .ok (.invokestatic 19, 3) := by decide +kernel
theorem dX15_branch_12 : decode cX15_branch 12 = .ok (.aload_n 2, 1) := by decide +kernel
theorem dX15_branch_13 : decode cX15_branch 13 = .ok (.aload_n 3, 1) := by decide +kernel
theorem dX15_branch_14 : decode cX15_branch 14 = .ok (.invokevirtual 25, 3) := by decide +kernel
theorem dX15_branch_17 : decode cX15_branch 17 = .ok (.return_, 1) := by decide +kernel
theorem dX15_alone_0 : decode cX15_alone 0 = .ok (.aconst_null, 1) := by decide +kernel
theorem dX15_alone_1 : decode cX15_alone 1 = .ok (.areturn, 1) := by decide +kernel
theorem dX15_leading_0 : decode cX15_leading 0 = .ok (.iconst (-1), 1) := by decide +kernel
theorem dX15_leading_1 : decode cX15_leading 1 = .ok (.ireturn, 1) := by decide +kernel
theorem dX16_init_0 : decode cX16_init 0 = .ok (.aload_n 0, 1) := by decide +kernel
theorem dX16_init_1 : decode cX16_init 1 = .ok (.iload_n 1, 1) := by decide +kernel
theorem dX16_init_2 : decode cX16_init 2 = .ok (.invokespecial 1, 3) := by decide +kernel
theorem dX16_init_5 : decode cX16_init 5 = .ok (.aload_n 0, 1) := by decide +kernel
theorem dX16_init_6 : decode cX16_init 6 = .ok (.iload_n 2, 1) := by decide +kernel
theorem dX16_init_7 : decode cX16_init 7 = .ok (.putfield 7, 3) := by decide +kernel
theorem dX16_init_10 : decode cX16_init 10 = .ok (.return_, 1) := by decide +kernel
theorem dX16_value_0 : decode cX16_value 0 = .ok (.aload_n 0, 1) := by decide +kernel
theorem dX16_value_1 : decode cX16_value 1 = .ok (.getfield 7, 3) := by decide +kernel
theorem dX16_value_4 : decode cX16_value 4 = .ok (.invokestatic 13, 3) := by decide +kernel
theorem dX16_value_7 : decode cX16_value 7 = .ok (.lreturn, 1) := by decide +kernel
theorem dX16_constant_0 : decode cX16_constant 0 = .ok (.aload_n 0, 1) := by decide +kernel
theorem dX16_constant_1 : decode cX16_constant 1 = .ok (.getfield 7, 3) := by decide +kernel
theorem dX16_constant_4 : decode cX16_constant 4 = .ok (.ireturn, 1) := by decide +kernel
theorem dX17_init_0 : decode cX17_init 0 = .ok (.aload_n 0, 1) := by decide +kernel
theorem dX17_init_1 : decode cX17_init 1 = .ok (.iload_n 1, 1) := by decide +kernel
theorem dX17_init_2 : decode cX17_init 2 = .ok (.invokespecial 3, 3) := by decide +kernel
theorem dX17_init_5 : decode cX17_init 5 = .ok (.aload_n 0, 1) := by decide +kernel
theorem dX17_init_6 : decode cX17_init 6 = .ok (.iload_n 1, 1) := by decide +kernel
theorem dX17_init_7 : decode cX17_init 7 = .ok (.putfield 9, 3) := by decide +kernel
theorem dX17_init_10 : decode cX17_init 10 = .ok (.aload_n 0, 1) := by decide +kernel
theorem dX17_init_11 : decode cX17_init 11 = .ok (.iload_n 2, 1) := by decide +kernel
theorem dX17_init_12 : decode cX17_init 12 = .ok (.putfield 15, 3) := by decide +kernel
theorem dX17_init_15 : decode cX17_init 15 = .ok (.aload_n 0, 1) := by decide +kernel
theorem dX17_init_16 : decode cX17_init 16 = .ok (.aload_n 3, 1) := by decide +kernel
theorem dX17_init_17 : decode cX17_init 17 = .ok (.putfield 18, 3) := by decide +kernel
theorem dX17_init_20 : decode cX17_init 20 = .ok (.aload_n 0, 1) := by decide +kernel
theorem dX17_init_21 : decode cX17_init 21 = .ok (.iload 4, 2) := by decide +kernel
theorem dX17_init_23 : decode cX17_init 23 = .ok (.putfield 22, 3) := by decide +kernel
theorem dX17_init_26 : decode cX17_init 26 = .ok (.return_, 1) := by decide +kernel
theorem dX17_value_0 : decode cX17_value 0 = .ok (.aload_n 0, 1) := by decide +kernel
theorem dX17_value_1 : decode cX17_value 1 = .ok (.aload_n 1, 1) := by decide +kernel
theorem dX17_value_2 : decode cX17_value 2 = .ok (.iconst 1, 1) := by decide +kernel
theorem dX17_value_3 : decode cX17_value 3 = .ok (.invokevirtual 35, 3) := by decide +kernel
theorem dX17_value_6 : decode cX17_value 6 = .ok (.lreturn, 1) := by decide +kernel
theorem dX17_call_0 : decode cX17_call 0 = .ok (.aload_n 1, 1) := by decide +kernel
theorem dX17_call_1 : decode cX17_call 1 = .ok (.aload_n 0, 1) := by decide +kernel
theorem dX17_call_2 : decode cX17_call 2 = .ok (.getfield 15, 3) := by decide +kernel
theorem dX17_call_5 : decode cX17_call 5 = .ok (.aload_n 0, 1) := by decide +kernel
theorem dX17_call_6 : decode cX17_call 6 = .ok (.getfield 9, 3) := by decide +kernel
theorem dX17_call_9 : decode cX17_call 9 = .ok (.invokevirtual 25, 3) := by decide +kernel
theorem dX17_call_12 : decode cX17_call 12 = .ok (.astore_n 3, 1) := by decide +kernel
theorem dX17_call_13 : decode cX17_call 13 = .ok (.aload_n 3, 1) := by decide +kernel
theorem dX17_call_14 : decode cX17_call 14 = .ok (.getfield 42, 3) := by decide +kernel
theorem dX17_call_17 : decode cX17_call 17 = .ok (.bipush 6, 2) := by decide +kernel
theorem dX17_call_19 : decode cX17_call 19 = .ok (.if_icmp .eq 14, 3) := by decide +kernel
theorem dX17_call_22 : decode cX17_call 22 = .ok (.aload_n 1, 1) := by decide +kernel
theorem dX17_call_23 : decode cX17_call 23 = .ok (.bipush 6, 2) := by decide +kernel
theorem dX17_call_25 : decode cX17_call 25 = .ok (.aload_n 0, 1) := by decide +kernel
theorem dX17_call_26 : decode cX17_call 26 = .ok (.getfield 9, 3) := by decide +kernel
theorem dX17_call_29 : decode cX17_call 29 = .ok (.invokevirtual 31, 3) := by decide +kernel
theorem dX17_call_32 : decode cX17_call 32 = .ok (.athrow, 1) := by decide +kernel
theorem dX17_call_33 : decode cX17_call 33 = .ok (.iload_n 2, 1) := by decide +kernel
theorem dX17_call_34 : decode cX17_call 34 = .ok (.ifCond .eq 24, 3) := by decide +kernel
theorem dX17_call_37 : decode cX17_call 37 = .ok (.aload_n 3, 1) := by decide +kernel
theorem dX17_call_38 : decode cX17_call 38 = .ok (.getfield 47, 3) := by decide +kernel
theorem dX17_call_41 : decode cX17_call 41 = .ok (.getfield 51, 3) := by decide +kernel
theorem dX17_call_44 : decode cX17_call 44 = .ok (.ifCond .eq 14, 3) := by decide +kernel
theorem dX17_call_47 : decode cX17_call 47 = .ok (.aload_n 1, 1) := by decide +kernel
theorem dX17_call_48 : decode cX17_call 48 = .ok (.bipush 8, 2) := by decide +kernel
theorem dX17_call_50 : decode cX17_call 50 = .ok (.aload_n 0, 1) := by decide +kernel
theorem dX17_call_51 : decode cX17_call 51 = .ok (.getfield 9, 3) := by decide +kernel
theorem dX17_call_54 : decode cX17_call 54 = .ok (.invokevirtual 31, 3) := by decide +kernel
theorem dX17_call_57 : decode cX17_call 57 = .ok (.athrow, 1) := by decide +kernel
theorem dX17_call_58 : decode cX17_call 58 = .ok (.aload_n 3, 1) := by decide +kernel
theorem dX17_call_59 : decode cX17_call 59 = .ok (.getfield 47, 3) := by decide +kernel
theorem dX17_call_62 : decode cX17_call 62 = .ok (.getfield 57, 3) := by decide +kernel
theorem dX17_call_65 : decode cX17_call 65 = .ok (.astore 4, 2) := by decide +kernel
theorem dX17_call_67 : decode cX17_call 67 = .ok (.aload_n 3, 1) := by decide +kernel
theorem dX17_call_68 : decode cX17_call 68 = .ok (.getfield 47, 3) := by decide +kernel
theorem dX17_call_71 : decode cX17_call 71 = .ok (.invokevirtual 60, 3) := by decide +kernel
theorem dX17_call_74 : decode cX17_call 74 = .ok (.newarray .long, 2) := by decide +kernel
theorem dX17_call_76 : decode cX17_call 76 = .ok (.astore 5, 2) := by decide +kernel
theorem dX17_call_78 : decode cX17_call 78 = .ok (.iconst 0, 1) := by decide +kernel
theorem dX17_call_79 : decode cX17_call 79 = .ok (.istore 6, 2) := by decide +kernel
theorem dX17_call_81 : decode cX17_call 81 = .ok (.iconst 0, 1) := by decide +kernel
theorem dX17_call_82 : decode cX17_call 82 = .ok (.istore 7, 2) := by decide +kernel
theorem dX17_call_84 : decode cX17_call 84 = .ok (.iload 7, 2) := by decide +kernel
theorem dX17_call_86 : decode cX17_call 86 = .ok (.aload_n 0, 1) := by decide +kernel
theorem dX17_call_87 : decode cX17_call 87 = .ok (.getfield 18, 3) := by decide +kernel
theorem dX17_call_90 : decode cX17_call 90 = .ok (.invokevirtual 64, 3) := by decide +kernel
theorem dX17_call_93 : decode cX17_call 93 = .ok (.if_icmp .ge 204, 3) := by decide +kernel
theorem dX17_call_96 : decode cX17_call 96 = .ok (.aload_n 0, 1) := by decide +kernel
theorem dX17_call_97 : decode cX17_call 97 = .ok (.getfield 18, 3) := by decide +kernel
theorem dX17_call_100 : decode cX17_call 100 = .ok (.iload 7, 2) := by decide +kernel
theorem dX17_call_102 : decode cX17_call 102 = .ok (.invokevirtual 69, 3) := by decide +kernel
theorem dX17_call_105 : decode cX17_call 105 = .ok (.checkcast 4, 3) := by decide +kernel
theorem dX17_call_108 : decode cX17_call 108 = .ok (.astore 8, 2) := by decide +kernel
theorem dX17_call_110 : decode cX17_call 110 = .ok (.iload 7, 2) := by decide +kernel
theorem dX17_call_112 : decode cX17_call 112 = .ok (.aload 4, 2) := by decide +kernel
theorem dX17_call_114 : decode cX17_call 114 = .ok (.invokevirtual 64, 3) := by decide +kernel
theorem dX17_call_117 : decode cX17_call 117 = .ok (.if_icmp .ge 16, 3) := by decide +kernel
theorem dX17_call_120 : decode cX17_call 120 = .ok (.aload 4, 2) := by decide +kernel
theorem dX17_call_122 : decode cX17_call 122 = .ok (.iload 7, 2) := by decide +kernel
theorem dX17_call_124 : decode cX17_call 124 = .ok (.invokevirtual 69, 3) := by decide +kernel
theorem dX17_call_127 : decode cX17_call 127 = .ok (.checkcast 73, 3) := by decide +kernel
theorem dX17_call_130 : decode cX17_call 130 = .ok (.goto 4, 3) := by decide +kernel
theorem dX17_call_133 : decode cX17_call 133 = .ok (.aconst_null, 1) := by decide +kernel
theorem dX17_call_134 : decode cX17_call 134 = .ok (.astore 9, 2) := by decide +kernel
theorem dX17_call_136 : decode cX17_call 136 = .ok (.aload 9, 2) := by decide +kernel
theorem dX17_call_138 : decode cX17_call 138 = .ok (.ifnull 28, 3) := by decide +kernel
theorem dX17_call_141 : decode cX17_call 141 = .ok (.aload 9, 2) := by decide +kernel
theorem dX17_call_143 : decode cX17_call 143 = .ok (.getfield 75, 3) := by decide +kernel
theorem dX17_call_146 : decode cX17_call 146 = .ok (.ifCond .ne 20, 3) := by decide +kernel
theorem dX17_call_149 : decode cX17_call 149 = .ok (.aload 5, 2) := by decide +kernel
theorem dX17_call_151 : decode cX17_call 151 = .ok (.iload 6, 2) := by decide +kernel
theorem dX17_call_153 : decode cX17_call 153 = .ok (.aload 8, 2) := by decide +kernel
theorem dX17_call_155 : decode cX17_call 155 = .ok (.aload_n 1, 1) := by decide +kernel
theorem dX17_call_156 : decode cX17_call 156 = .ok (.invokevirtual 78, 3) := by decide +kernel
theorem dX17_call_159 : decode cX17_call 159 = .ok (.lastore, 1) := by decide +kernel
theorem dX17_call_160 : decode cX17_call 160 = .ok (.iinc 6 1, 3) := by decide +kernel
theorem dX17_call_163 : decode cX17_call 163 = .ok (.goto 128, 3) := by decide +kernel
theorem dX17_call_166 : decode cX17_call 166 = .ok (.aload 8, 2) := by decide +kernel
theorem dX17_call_168 : decode cX17_call 168 = .ok (.invokevirtual 82, 3) := by decide +kernel
theorem dX17_call_171 : decode cX17_call 171 = .ok (.astore 10, 2) := by decide +kernel
theorem dX17_call_173 : decode cX17_call 173 = .ok (.aload 8, 2) := by decide +kernel
theorem dX17_call_175 : decode cX17_call 175 = .ok (.invokevirtual 86, 3) := by decide +kernel
theorem dX17_call_178 : decode cX17_call 178 = .ok (.ifCond .lt 18, 3) := by decide +kernel
theorem dX17_call_181 : decode cX17_call 181 = .ok (.aload_n 1, 1) := by decide +kernel
theorem dX17_call_182 : decode cX17_call 182 = .ok (.aload 8, 2) := by decide +kernel
theorem dX17_call_184 : decode cX17_call 184 = .ok (.invokevirtual 86, 3) := by decide +kernel
theorem dX17_call_187 : decode cX17_call 187 = .ok (.aload 8, 2) := by decide +kernel
theorem dX17_call_189 : decode cX17_call 189 = .ok (.getfield 39, 3) := by decide +kernel
theorem dX17_call_192 : decode cX17_call 192 = .ok (.invokevirtual 25, 3) := by decide +kernel
theorem dX17_call_195 : decode cX17_call 195 = .ok (.pop, 1) := by decide +kernel
theorem dX17_call_196 : decode cX17_call 196 = .ok (.aload 9, 2) := by decide +kernel
theorem dX17_call_198 : decode cX17_call 198 = .ok (.ifnull 8, 3) := by decide +kernel
theorem dX17_call_201 : decode cX17_call 201 = .ok (.aload 10, 2) := by decide +kernel
theorem dX17_call_203 : decode cX17_call 203 = .ok (.ifnonnull 7, 3) := by decide +kernel
theorem dX17_call_206 : decode cX17_call 206 = .ok (.aconst_null, 1) := by decide +kernel
theorem dX17_call_207 : decode cX17_call 207 = .ok (.goto 17, 3) := by decide +kernel
theorem dX17_call_210 : decode cX17_call 210 = .ok (.aload_n 1, 1) := by decide +kernel
theorem dX17_call_211 : decode cX17_call 211 = .ok (.aload 10, 2) := by decide +kernel
theorem dX17_call_213 : decode cX17_call 213 = .ok (.getfield 89, 3) := by decide +kernel
theorem dX17_call_216 : decode cX17_call 216 = .ok (.aload 10, 2) := by decide +kernel
theorem dX17_call_218 : decode cX17_call 218 = .ok (.getfield 92, 3) := by decide +kernel
theorem dX17_call_221 : decode cX17_call 221 = .ok (.invokevirtual 25, 3) := by decide +kernel
theorem dX17_call_224 : decode cX17_call 224 = .ok (.astore 11, 2) := by decide +kernel
theorem dX17_call_226 : decode cX17_call 226 = .ok (.aload 11, 2) := by decide +kernel
theorem dX17_call_228 : decode cX17_call 228 = .ok (.ifnull 24, 3) := by decide +kernel
theorem dX17_call_231 : decode cX17_call 231 = .ok (.aload 11, 2) := by decide +kernel
theorem dX17_call_233 : decode cX17_call 233 = .ok (.invokevirtual 93, 3) := by decide +kernel
theorem dX17_call_236 : decode cX17_call 236 = .ok (.ifCond .eq 16, 3) := by decide +kernel
theorem dX17_call_239 : decode cX17_call 239 = .ok (.aload 11, 2) := by decide +kernel
theorem dX17_call_241 : decode cX17_call 241 = .ok (.getfield 96, 3) := by decide +kernel
theorem dX17_call_244 : decode cX17_call 244 = .ok (.aload 9, 2) := by decide +kernel
theorem dX17_call_246 : decode cX17_call 246 = .ok (.getfield 99, 3) := by decide +kernel
theorem dX17_call_249 : decode cX17_call 249 = .ok (.if_icmp .eq 15, 3) := by decide +kernel
theorem dX17_call_252 : decode cX17_call 252 = .ok (.aload_n 1, 1) := by decide +kernel
theorem dX17_call_253 : decode cX17_call 253 = .ok (.bipush 7, 2) := by decide +kernel
theorem dX17_call_255 : decode cX17_call 255 = .ok (.aload 8, 2) := by decide +kernel
theorem dX17_call_257 : decode cX17_call 257 = .ok (.getfield 39, 3) := by decide +kernel
theorem dX17_call_260 : decode cX17_call 260 = .ok (.invokevirtual 31, 3) := by decide +kernel
theorem dX17_call_263 : decode cX17_call 263 = .ok (.athrow, 1) := by decide +kernel
theorem dX17_call_264 : decode cX17_call 264 = .ok (.aload 5, 2) := by decide +kernel
theorem dX17_call_266 : decode cX17_call 266 = .ok (.iload 6, 2) := by decide +kernel
theorem dX17_call_268 : decode cX17_call 268 = .ok (.aload_n 1, 1) := by decide +kernel
theorem dX17_call_269 : decode cX17_call 269 = .ok (.aload 11, 2) := by decide +kernel
theorem dX17_call_271 : decode cX17_call 271 = .ok (.invokevirtual 100, 3) := by decide +kernel
theorem dX17_call_274 : decode cX17_call 274 = .ok (.lastore, 1) := by decide +kernel
theorem dX17_call_275 : decode cX17_call 275 = .ok (.aload 5, 2) := by decide +kernel
theorem dX17_call_277 : decode cX17_call 277 = .ok (.iload 6, 2) := by decide +kernel
theorem dX17_call_279 : decode cX17_call 279 = .ok (.iconst 1, 1) := by decide +kernel
theorem dX17_call_280 : decode cX17_call 280 = .ok (.iadd, 1) := by decide +kernel
theorem dX17_call_281 : decode cX17_call 281 = .ok (.aload_n 1, 1) := by decide +kernel
theorem dX17_call_282 : decode cX17_call 282 = .ok (.aload 11, 2) := by decide +kernel
theorem dX17_call_284 : decode cX17_call 284 = .ok (.invokevirtual 104, 3) := by decide +kernel
theorem dX17_call_287 : decode cX17_call 287 = .ok (.lastore, 1) := by decide +kernel
theorem dX17_call_288 : decode cX17_call 288 = .ok (.iinc 6 2, 3) := by decide +kernel
theorem dX17_call_291 : decode cX17_call 291 = .ok (.iinc 7 1, 3) := by decide +kernel
theorem dX17_call_294 : decode cX17_call 294 = .ok (.goto (-210), 3) := by decide +kernel
theorem dX17_call_297 : decode cX17_call 297 = .ok (.aload_n 0, 1) := by decide +kernel
theorem dX17_call_298 : decode cX17_call 298 = .ok (.getfield 18, 3) := by decide +kernel
theorem dX17_call_301 : decode cX17_call 301 = .ok (.invokevirtual 64, 3) := by decide +kernel
theorem dX17_call_304 : decode cX17_call 304 = .ok (.aload 4, 2) := by decide +kernel
theorem dX17_call_306 : decode cX17_call 306 = .ok (.invokevirtual 64, 3) := by decide +kernel
theorem dX17_call_309 : decode cX17_call 309 = .ok (.if_icmp .ge 14, 3) := by decide +kernel
theorem dX17_call_312 : decode cX17_call 312 = .ok (.aload_n 1, 1) := by decide +kernel
theorem dX17_call_313 : decode cX17_call 313 = .ok (.bipush 7, 2) := by decide +kernel
theorem dX17_call_315 : decode cX17_call 315 = .ok (.aload_n 0, 1) := by decide +kernel
theorem dX17_call_316 : decode cX17_call 316 = .ok (.getfield 22, 3) := by decide +kernel
theorem dX17_call_319 : decode cX17_call 319 = .ok (.invokevirtual 31, 3) := by decide +kernel
theorem dX17_call_322 : decode cX17_call 322 = .ok (.athrow, 1) := by decide +kernel
theorem dX17_call_323 : decode cX17_call 323 = .ok (.aload_n 1, 1) := by decide +kernel
theorem dX17_call_324 : decode cX17_call 324 = .ok (.aload_n 3, 1) := by decide +kernel
theorem dX17_call_325 : decode cX17_call 325 = .ok (.getfield 47, 3) := by decide +kernel
theorem dX17_call_328 : decode cX17_call 328 = .ok (.aload 5, 2) := by decide +kernel
theorem dX17_call_330 : decode cX17_call 330 = .ok (.aload_n 0, 1) := by decide +kernel
theorem dX17_call_331 : decode cX17_call 331 = .ok (.getfield 9, 3) := by decide +kernel
theorem dX17_call_334 : decode cX17_call 334 = .ok (.invokevirtual 107, 3) := by decide +kernel
theorem dX17_call_337 : decode cX17_call 337 = .ok (.lreturn, 1) := by decide +kernel
theorem dX17_leading_0 : decode cX17_leading 0 = .ok (.aload_n 0, 1) := by decide +kernel
theorem dX17_leading_1 : decode cX17_leading 1 = .ok (.getfield 39, 3) := by decide +kernel
theorem dX17_leading_4 : decode cX17_leading 4 = .ok (.aload_n 0, 1) := by decide +kernel
theorem dX17_leading_5 : decode cX17_leading 5 = .ok (.getfield 9, 3) := by decide +kernel
theorem dX17_leading_8 : decode cX17_leading 8 = .ok (.if_icmp .ne 10, 3) := by decide +kernel
theorem dX17_leading_11 : decode cX17_leading 11 = .ok (.aload_n 0, 1) := by decide +kernel
theorem dX17_leading_12 : decode cX17_leading 12 = .ok (.getfield 15, 3) := by decide +kernel
theorem dX17_leading_15 : decode cX17_leading 15 = .ok (.goto 4, 3) := by decide +kernel
theorem dX17_leading_18 : decode cX17_leading 18 = .ok (.iconst (-1), 1) := by decide +kernel
theorem dX17_leading_19 : decode cX17_leading 19 = .ok (.ireturn, 1) := by decide +kernel
theorem dX17_constant_0 : decode cX17_constant 0 = .ok (.aload_n 1, 1) := by decide +kernel
theorem dX17_constant_1 : decode cX17_constant 1 = .ok (.aload_n 0, 1) := by decide +kernel
theorem dX17_constant_2 : decode cX17_constant 2 = .ok (.getfield 15, 3) := by decide +kernel
theorem dX17_constant_5 : decode cX17_constant 5 = .ok (.aload_n 0, 1) := by decide +kernel
theorem dX17_constant_6 : decode cX17_constant 6 = .ok (.getfield 9, 3) := by decide +kernel
theorem dX17_constant_9 : decode cX17_constant 9 = .ok (.invokevirtual 25, 3) := by decide +kernel
theorem dX17_constant_12 : decode cX17_constant 12 = .ok (.pop, 1) := by decide +kernel
theorem dX17_constant_13 : decode cX17_constant 13 = .ok (.aload_n 1, 1) := by decide +kernel
theorem dX17_constant_14 : decode cX17_constant 14 = .ok (.bipush 10, 2) := by decide +kernel
theorem dX17_constant_16 : decode cX17_constant 16 = .ok (.aload_n 0, 1) := by decide +kernel
theorem dX17_constant_17 : decode cX17_constant 17 = .ok (.getfield 9, 3) := by decide +kernel
theorem dX17_constant_20 : decode cX17_constant 20 = .ok (.invokevirtual 31, 3) := by decide +kernel
theorem dX17_constant_23 : decode cX17_constant 23 = .ok (.athrow, 1) := by decide +kernel
theorem dX18_init_0 : decode cX18_init 0 = .ok (.aload_n 0, 1) := by decide +kernel
theorem dX18_init_1 : decode cX18_init 1 = .ok (.iload_n 1, 1) := by decide +kernel
theorem dX18_init_2 : decode cX18_init 2 = .ok (.invokespecial 3, 3) := by decide +kernel
theorem dX18_init_5 : decode cX18_init 5 = .ok (.aload_n 0, 1) := by decide +kernel
theorem dX18_init_6 : decode cX18_init 6 = .ok (.iload_n 1, 1) := by decide +kernel
theorem dX18_init_7 : decode cX18_init 7 = .ok (.putfield 9, 3) := by decide +kernel
theorem dX18_init_10 : decode cX18_init 10 = .ok (.aload_n 0, 1) := by decide +kernel
theorem dX18_init_11 : decode cX18_init 11 = .ok (.iload_n 2, 1) := by decide +kernel
theorem dX18_init_12 : decode cX18_init 12 = .ok (.putfield 15, 3) := by decide +kernel
theorem dX18_init_15 : decode cX18_init 15 = .ok (.aload_n 0, 1) := by decide +kernel
theorem dX18_init_16 : decode cX18_init 16 = .ok (.aload_n 3, 1) := by decide +kernel
theorem dX18_init_17 : decode cX18_init 17 = .ok (.putfield 18, 3) := by decide +kernel
theorem dX18_init_20 : decode cX18_init 20 = .ok (.aload_n 0, 1) := by decide +kernel
theorem dX18_init_21 : decode cX18_init 21 = .ok (.iload 4, 2) := by decide +kernel
theorem dX18_init_23 : decode cX18_init 23 = .ok (.putfield 22, 3) := by decide +kernel
theorem dX18_init_26 : decode cX18_init 26 = .ok (.return_, 1) := by decide +kernel
theorem dX18_target_0 : decode cX18_target 0 = .ok (.aload_n 1, 1) := by decide +kernel
theorem dX18_target_1 : decode cX18_target 1 = .ok (.aload_n 0, 1) := by decide +kernel
theorem dX18_target_2 : decode cX18_target 2 = .ok (.getfield 15, 3) := by decide +kernel
theorem dX18_target_5 : decode cX18_target 5 = .ok (.aload_n 0, 1) := by decide +kernel
theorem dX18_target_6 : decode cX18_target 6 = .ok (.getfield 9, 3) := by decide +kernel
theorem dX18_target_9 : decode cX18_target 9 = .ok (.invokevirtual 25, 3) := by decide +kernel
theorem dX18_target_12 : decode cX18_target 12 = .ok (.astore_n 2, 1) := by decide +kernel
theorem dX18_target_13 : decode cX18_target 13 = .ok (.aload_n 0, 1) := by decide +kernel
theorem dX18_target_14 : decode cX18_target 14 = .ok (.getfield 18, 3) := by decide +kernel
theorem dX18_target_17 : decode cX18_target 17 = .ok (.ifnonnull 29, 3) := by decide +kernel
theorem dX18_target_20 : decode cX18_target 20 = .ok (.aload_n 2, 1) := by decide +kernel
theorem dX18_target_21 : decode cX18_target 21 = .ok (.invokevirtual 43, 3) := by decide +kernel
theorem dX18_target_24 : decode cX18_target 24 = .ok (.ifCond .ne 29, 3) := by decide +kernel
theorem dX18_target_27 : decode cX18_target 27 = .ok (.aload_n 2, 1) := by decide +kernel
theorem dX18_target_28 : decode cX18_target 28 = .ok (.getfield 31, 3) := by decide +kernel
theorem dX18_target_31 : decode cX18_target 31 = .ok (.bipush 6, 2) := by decide +kernel
theorem dX18_target_33 : decode cX18_target 33 = .ok (.if_icmp .eq 20, 3) := by decide +kernel
theorem dX18_target_36 : decode cX18_target 36 = .ok (.aload_n 2, 1) := by decide +kernel
theorem dX18_target_37 : decode cX18_target 37 = .ok (.getfield 31, 3) := by decide +kernel
theorem dX18_target_40 : decode cX18_target 40 = .ok (.ifCond .ne 24, 3) := by decide +kernel
theorem dX18_target_43 : decode cX18_target 43 = .ok (.goto 10, 3) := by decide +kernel
theorem dX18_target_46 : decode cX18_target 46 = .ok (.aload_n 2, 1) := by decide +kernel
theorem dX18_target_47 : decode cX18_target 47 = .ok (.invokevirtual 43, 3) := by decide +kernel
theorem dX18_target_50 : decode cX18_target 50 = .ok (.ifCond .ne 14, 3) := by decide +kernel
theorem dX18_target_53 : decode cX18_target 53 = .ok (.aload_n 1, 1) := by decide +kernel
theorem dX18_target_54 : decode cX18_target 54 = .ok (.bipush 6, 2) := by decide +kernel
theorem dX18_target_56 : decode cX18_target 56 = .ok (.aload_n 0, 1) := by decide +kernel
theorem dX18_target_57 : decode cX18_target 57 = .ok (.getfield 9, 3) := by decide +kernel
theorem dX18_target_60 : decode cX18_target 60 = .ok (.invokevirtual 36, 3) := by decide +kernel
theorem dX18_target_63 : decode cX18_target 63 = .ok (.athrow, 1) := by decide +kernel
theorem dX18_target_64 : decode cX18_target 64 = .ok (.aload_n 2, 1) := by decide +kernel
theorem dX18_target_65 : decode cX18_target 65 = .ok (.areturn, 1) := by decide +kernel
theorem dX18_value_0 : decode cX18_value 0 = .ok (.aload_n 1, 1) := by decide +kernel
theorem dX18_value_1 : decode cX18_value 1 = .ok (.aload_n 0, 1) := by decide +kernel
theorem dX18_value_2 : decode cX18_value 2 = .ok (.getfield 15, 3) := by decide +kernel
theorem dX18_value_5 : decode cX18_value 5 = .ok (.aload_n 0, 1) := by decide +kernel
theorem dX18_value_6 : decode cX18_value 6 = .ok (.getfield 9, 3) := by decide +kernel
theorem dX18_value_9 : decode cX18_value 9 = .ok (.invokevirtual 25, 3) := by decide +kernel
theorem dX18_value_12 : decode cX18_value 12 = .ok (.astore_n 2, 1) := by decide +kernel
theorem dX18_value_13 : decode cX18_value 13 = .ok (.aload_n 0, 1) := by decide +kernel
theorem dX18_value_14 : decode cX18_value 14 = .ok (.getfield 18, 3) := by decide +kernel
theorem dX18_value_17 : decode cX18_value 17 = .ok (.ifnonnull 22, 3) := by decide +kernel
theorem dX18_value_20 : decode cX18_value 20 = .ok (.aload_n 2, 1) := by decide +kernel
theorem dX18_value_21 : decode cX18_value 21 = .ok (.invokevirtual 43, 3) := by decide +kernel
theorem dX18_value_24 : decode cX18_value 24 = .ok (.ifCond .ne 22, 3) := by decide +kernel
theorem dX18_value_27 : decode cX18_value 27 = .ok (.aload_n 2, 1) := by decide +kernel
theorem dX18_value_28 : decode cX18_value 28 = .ok (.getfield 31, 3) := by decide +kernel
theorem dX18_value_31 : decode cX18_value 31 = .ok (.bipush 6, 2) := by decide +kernel
theorem dX18_value_33 : decode cX18_value 33 = .ok (.if_icmp .ne 24, 3) := by decide +kernel
theorem dX18_value_36 : decode cX18_value 36 = .ok (.goto 10, 3) := by decide +kernel
theorem dX18_value_39 : decode cX18_value 39 = .ok (.aload_n 2, 1) := by decide +kernel
theorem dX18_value_40 : decode cX18_value 40 = .ok (.invokevirtual 43, 3) := by decide +kernel
theorem dX18_value_43 : decode cX18_value 43 = .ok (.ifCond .ne 14, 3) := by decide +kernel
theorem dX18_value_46 : decode cX18_value 46 = .ok (.aload_n 1, 1) := by decide +kernel
theorem dX18_value_47 : decode cX18_value 47 = .ok (.bipush 6, 2) := by decide +kernel
theorem dX18_value_49 : decode cX18_value 49 = .ok (.aload_n 0, 1) := by decide +kernel
theorem dX18_value_50 : decode cX18_value 50 = .ok (.getfield 9, 3) := by decide +kernel
theorem dX18_value_53 : decode cX18_value 53 = .ok (.invokevirtual 36, 3) := by decide +kernel
theorem dX18_value_56 : decode cX18_value 56 = .ok (.athrow, 1) := by decide +kernel
theorem dX18_value_57 : decode cX18_value 57 = .ok (.aload_n 0, 1) := by decide +kernel
theorem dX18_value_58 : decode cX18_value 58 = .ok (.getfield 18, 3) := by decide +kernel
theorem dX18_value_61 : decode cX18_value 61 = .ok (.ifnonnull 11, 3) := by decide +kernel
theorem dX18_value_64 : decode cX18_value 64 = .ok (.aload_n 1, 1) := by decide +kernel
theorem dX18_value_65 : decode cX18_value 65 = .ok (.aload_n 2, 1) := by decide +kernel
theorem dX18_value_66 : decode cX18_value 66 = .ok (.invokevirtual 47, 3) := by decide +kernel
theorem dX18_value_69 : decode cX18_value 69 = .ok (.goto 21, 3) := by decide +kernel
theorem dX18_value_72 : decode cX18_value 72 = .ok (.aload_n 1, 1) := by decide +kernel
theorem dX18_value_73 : decode cX18_value 73 = .ok (.aload_n 2, 1) := by decide +kernel
theorem dX18_value_74 : decode cX18_value 74 = .ok (.aload_n 1, 1) := by decide +kernel
theorem dX18_value_75 : decode cX18_value 75 = .ok (.aload_n 2, 1) := by decide +kernel
theorem dX18_value_76 : decode cX18_value 76 = .ok (.aload_n 0, 1) := by decide +kernel
theorem dX18_value_77 : decode cX18_value 77 = .ok (.getfield 18, 3) := by decide +kernel
theorem dX18_value_80 : decode cX18_value 80 = .ok (.aload_n 0, 1) := by decide +kernel
theorem dX18_value_81 : decode cX18_value 81 = .ok (.getfield 22, 3) := by decide +kernel
theorem dX18_value_84 : decode cX18_value 84 = .ok (.invokevirtual 51, 3) := by decide +kernel
theorem dX18_value_87 : decode cX18_value 87 = .ok (.invokevirtual 54, 3) := by decide +kernel
theorem dX18_value_90 : decode cX18_value 90 = .ok (.lreturn, 1) := by decide +kernel
theorem dX18_alone_0 : decode cX18_alone 0 = .ok (.aload_n 0, 1) := by decide +kernel
theorem dX18_alone_1 : decode cX18_alone 1 = .ok (.getfield 18, 3) := by decide +kernel
theorem dX18_alone_4 : decode cX18_alone 4 = .ok (.ifnonnull 18, 3) := by decide +kernel
theorem dX18_alone_7 : decode cX18_alone 7 = .ok (.aload_n 0, 1) := by decide +kernel
theorem dX18_alone_8 : decode cX18_alone 8 = .ok (.getfield 58, 3) := by decide +kernel
theorem dX18_alone_11 : decode cX18_alone 11 = .ok (.aload_n 0, 1) := by decide +kernel
theorem dX18_alone_12 : decode cX18_alone 12 = .ok (.getfield 9, 3) := by decide +kernel
theorem dX18_alone_15 : decode cX18_alone 15 = .ok (.if_icmp .ne 7, 3) := by decide +kernel
theorem dX18_alone_18 : decode cX18_alone 18 = .ok (.aload_n 0, 1) := by decide +kernel
theorem dX18_alone_19 : decode cX18_alone 19 = .ok (.goto 4, 3) := by decide +kernel
theorem dX18_alone_22 : decode cX18_alone 22 = .ok (.aconst_null, 1) := by decide +kernel
theorem dX18_alone_23 : decode cX18_alone 23 = .ok (.areturn, 1) := by decide +kernel
theorem dX18_leading_0 : decode cX18_leading 0 = .ok (.aload_n 0, 1) := by decide +kernel
theorem dX18_leading_1 : decode cX18_leading 1 = .ok (.getfield 58, 3) := by decide +kernel
theorem dX18_leading_4 : decode cX18_leading 4 = .ok (.aload_n 0, 1) := by decide +kernel
theorem dX18_leading_5 : decode cX18_leading 5 = .ok (.getfield 9, 3) := by decide +kernel
theorem dX18_leading_8 : decode cX18_leading 8 = .ok (.if_icmp .ne 10, 3) := by decide +kernel
theorem dX18_leading_11 : decode cX18_leading 11 = .ok (.aload_n 0, 1) := by decide +kernel
theorem dX18_leading_12 : decode cX18_leading 12 = .ok (.getfield 15, 3) := by decide +kernel
theorem dX18_leading_15 : decode cX18_leading 15 = .ok (.goto 4, 3) := by decide +kernel
theorem dX18_leading_18 : decode cX18_leading 18 = .ok (.iconst (-1), 1) := by decide +kernel
theorem dX18_leading_19 : decode cX18_leading 19 = .ok (.ireturn, 1) := by decide +kernel
theorem dX18_constant_0 : decode cX18_constant 0 = .ok (.aload_n 1, 1) := by decide +kernel
theorem dX18_constant_1 : decode cX18_constant 1 = .ok (.aload_n 0, 1) := by decide +kernel
theorem dX18_constant_2 : decode cX18_constant 2 = .ok (.getfield 15, 3) := by decide +kernel
theorem dX18_constant_5 : decode cX18_constant 5 = .ok (.aload_n 0, 1) := by decide +kernel
theorem dX18_constant_6 : decode cX18_constant 6 = .ok (.getfield 9, 3) := by decide +kernel
theorem dX18_constant_9 : decode cX18_constant 9 = .ok (.invokevirtual 25, 3) := by decide +kernel
theorem dX18_constant_12 : decode cX18_constant 12 = .ok (.astore_n 2, 1) := by decide +kernel
theorem dX18_constant_13 : decode cX18_constant 13 = .ok (.aload_n 2, 1) := by decide +kernel
theorem dX18_constant_14 : decode cX18_constant 14 = .ok (.getfield 31, 3) := by decide +kernel
theorem dX18_constant_17 : decode cX18_constant 17 = .ok (.ifCond .ne 10, 3) := by decide +kernel
theorem dX18_constant_20 : decode cX18_constant 20 = .ok (.aload_n 0, 1) := by decide +kernel
theorem dX18_constant_21 : decode cX18_constant 21 = .ok (.getfield 18, 3) := by decide +kernel
theorem dX18_constant_24 : decode cX18_constant 24 = .ok (.ifnull 14, 3) := by decide +kernel
theorem dX18_constant_27 : decode cX18_constant 27 = .ok (.aload_n 1, 1) := by decide +kernel
theorem dX18_constant_28 : decode cX18_constant 28 = .ok (.bipush 10, 2) := by decide +kernel
theorem dX18_constant_30 : decode cX18_constant 30 = .ok (.aload_n 0, 1) := by decide +kernel
theorem dX18_constant_31 : decode cX18_constant 31 = .ok (.getfield 9, 3) := by decide +kernel
theorem dX18_constant_34 : decode cX18_constant 34 = .ok (.invokevirtual 36, 3) := by decide +kernel
theorem dX18_constant_37 : decode cX18_constant 37 = .ok (.athrow, 1) := by decide +kernel
theorem dX18_constant_38 : decode cX18_constant 38 = .ok (.aload_n 2, 1) := by decide +kernel
theorem dX18_constant_39 : decode cX18_constant 39 = .ok (.getfield 40, 3) := by decide +kernel
theorem dX18_constant_42 : decode cX18_constant 42 = .ok (.ireturn, 1) := by decide +kernel
theorem dX19_init_0 : decode cX19_init 0 = .ok (.aload_n 0, 1) := by decide +kernel
theorem dX19_init_1 : decode cX19_init 1 = .ok (.iload_n 1, 1) := by decide +kernel
theorem dX19_init_2 : decode cX19_init 2 = .ok (.invokespecial 1, 3) := by decide +kernel
theorem dX19_init_5 : decode cX19_init 5 = .ok (.aload_n 0, 1) := by decide +kernel
theorem dX19_init_6 : decode cX19_init 6 = .ok (.iload_n 1, 1) := by decide +kernel
theorem dX19_init_7 : decode cX19_init 7 = .ok (.putfield 7, 3) := by decide +kernel
theorem dX19_init_10 : decode cX19_init 10 = .ok (.return_, 1) := by decide +kernel
theorem dX19_value_0 : decode cX19_value 0 = .ok (.aload_n 1, 1) := by decide +kernel
theorem dX19_value_1 : decode cX19_value 1 = .ok (.invokevirtual 19, 3) := by decide +kernel
theorem dX19_value_4 : decode cX19_value 4 = .ok (.lreturn, 1) := by decide +kernel
theorem dX19_constant_0 : decode cX19_constant 0 = .ok (.aload_n 1, 1) := by decide +kernel
theorem dX19_constant_1 : decode cX19_constant 1 = .ok (.bipush 10, 2) := by decide +kernel
theorem dX19_constant_3 : decode cX19_constant 3 = .ok (.aload_n 0, 1) := by decide +kernel
theorem dX19_constant_4 : decode cX19_constant 4 = .ok (.getfield 7, 3) := by decide +kernel
theorem dX19_constant_7 : decode cX19_constant 7 = .ok (.invokevirtual 13, 3) := by decide +kernel
theorem dX19_constant_10 : decode cX19_constant 10 = .ok (.athrow, 1) := by decide +kernel
theorem dX20_init_0 : decode cX20_init 0 = .ok (.aload_n 0, 1) := by decide +kernel
theorem dX20_init_1 : decode cX20_init 1 = .ok (.iload_n 1, 1) := by decide +kernel
theorem dX20_init_2 : decode cX20_init 2 = .ok (.invokespecial 3, 3) := by decide +kernel
theorem dX20_init_5 : decode cX20_init 5 = .ok (.aload_n 0, 1) := by decide +kernel
theorem dX20_init_6 : decode cX20_init 6 = .ok (.aload_n 2, 1) := by decide +kernel
theorem dX20_init_7 : decode cX20_init 7 = .ok (.putfield 9, 3) := by decide +kernel
theorem dX20_init_10 : decode cX20_init 10 = .ok (.aload_n 0, 1) := by decide +kernel
theorem dX20_init_11 : decode cX20_init 11 = .ok (.aload_n 3, 1) := by decide +kernel
theorem dX20_init_12 : decode cX20_init 12 = .ok (.putfield 15, 3) := by decide +kernel
theorem dX20_init_15 : decode cX20_init 15 = .ok (.return_, 1) := by decide +kernel
theorem dX20_value_0 : decode cX20_value 0 = .ok (.aload_n 0, 1) := by decide +kernel
theorem dX20_value_1 : decode cX20_value 1 = .ok (.getfield 15, 3) := by decide +kernel
theorem dX20_value_4 : decode cX20_value 4 = .ok (.aload_n 1, 1) := by decide +kernel
theorem dX20_value_5 : decode cX20_value 5 = .ok (.invokevirtual 23, 3) := by decide +kernel
theorem dX20_value_8 : decode cX20_value 8 = .ok (.lstore_n 2, 1) := by decide +kernel
theorem dX20_value_9 : decode cX20_value 9 = .ok (.aload_n 0, 1) := by decide +kernel
theorem dX20_value_10 : decode cX20_value 10 = .ok (.getfield 9, 3) := by decide +kernel
theorem dX20_value_13 : decode cX20_value 13 = .ok (.arraylength, 1) := by decide +kernel
theorem dX20_value_14 : decode cX20_value 14 = .ok (.iconst 1, 1) := by decide +kernel
theorem dX20_value_15 : decode cX20_value 15 = .ok (.isub, 1) := by decide +kernel
theorem dX20_value_16 : decode cX20_value 16 = .ok (.istore 4, 2) := by decide +kernel
theorem dX20_value_18 : decode cX20_value 18 = .ok (.iload 4, 2) := by decide +kernel
theorem dX20_value_20 : decode cX20_value 20 = .ok (.ifCond .lt 70, 3) := by decide +kernel
theorem dX20_value_23 : decode cX20_value 23 = .ok (.aload_n 0, 1) := by decide +kernel
theorem dX20_value_24 : decode cX20_value 24 = .ok (.getfield 9, 3) := by decide +kernel
theorem dX20_value_27 : decode cX20_value 27 = .ok (.iload 4, 2) := by decide +kernel
theorem dX20_value_29 : decode cX20_value 29 = .ok (.iaload, 1) := by decide +kernel
theorem dX20_value_30 : decode cX20_value 30 = .ok (.bipush 79, 2) := by decide +kernel
theorem dX20_value_32 : decode cX20_value 32 = .ok (.if_icmp .ne 16, 3) := by decide +kernel
theorem dX20_value_35 : decode cX20_value 35 = .ok (.aload_n 1, 1) := by decide +kernel
theorem dX20_value_36 : decode cX20_value 36 = .ok (.iconst 1, 1) := by decide +kernel
theorem dX20_value_37 : decode cX20_value 37 = .ok (.iconst 0, 1) := by decide +kernel
theorem dX20_value_38 : decode cX20_value 38 = .ok (.invokestatic 27, 3) := by decide +kernel
theorem dX20_value_41 : decode cX20_value 41 = .ok (.lload_n 2, 1) := by decide +kernel
theorem dX20_value_42 : decode cX20_value 42 = .ok (.invokevirtual 32, 3) := by decide +kernel
theorem dX20_value_45 : decode cX20_value 45 = .ok (.goto 38, 3) := by decide +kernel
theorem dX20_value_48 : decode cX20_value 48 = .ok (.aload_n 1, 1) := by decide +kernel
theorem dX20_value_49 : decode cX20_value 49 = .ok (.aload_n 0, 1) := by decide +kernel
theorem dX20_value_50 : decode cX20_value 50 = .ok (.getfield 9, 3) := by decide +kernel
theorem dX20_value_53 : decode cX20_value 53 = .ok (.iload 4, 2) := by decide +kernel
theorem dX20_value_55 : decode cX20_value 55 = .ok (.iaload, 1) := by decide +kernel
theorem dX20_value_56 : decode cX20_value 56 = .ok (.invokestatic 36, 3) := by decide +kernel
theorem dX20_value_59 : decode cX20_value 59 = .ok (.lload_n 2, 1) := by decide +kernel
theorem dX20_value_60 : decode cX20_value 60 = .ok (.aload_n 0, 1) := by decide +kernel
theorem dX20_value_61 : decode cX20_value 61 = .ok (.getfield 9, 3) := by decide +kernel
theorem dX20_value_64 : decode cX20_value 64 = .ok (.iload 4, 2) := by decide +kernel
theorem dX20_value_66 : decode cX20_value 66 = .ok (.iaload, 1) := by decide +kernel
theorem dX20_value_67 : decode cX20_value 67 = .ok (.bipush 83, 2) := by decide +kernel
theorem dX20_value_69 : decode cX20_value 69 = .ok (.if_icmp .ne 7, 3) := by decide +kernel
theorem dX20_value_72 : decode cX20_value 72 = .ok (.iconst (-1), 1) := by decide +kernel
theorem dX20_value_73 : decode cX20_value 73 = .ok (.goto 4, 3) := by decide +kernel
theorem dX20_value_76 : decode cX20_value 76 = .ok (.iconst 0, 1) := by decide +kernel
theorem dX20_value_77 : decode cX20_value 77 = .ok (.invokestatic 27, 3) := by decide +kernel
theorem dX20_value_80 : decode cX20_value 80 = .ok (.invokevirtual 32, 3) := by decide +kernel
theorem dX20_value_83 : decode cX20_value 83 = .ok (.lstore_n 2, 1) := by decide +kernel
theorem dX20_value_84 : decode cX20_value 84 = .ok (.iinc 4 (-1), 3) := by decide +kernel
theorem dX20_value_87 : decode cX20_value 87 = .ok (.goto (-69), 3) := by decide +kernel
theorem dX20_value_90 : decode cX20_value 90 = .ok (.lload_n 2, 1) := by decide +kernel
theorem dX20_value_91 : decode cX20_value 91 = .ok (.lreturn, 1) := by decide +kernel
theorem dX20_branch_0 : decode cX20_branch 0 = .ok (.iconst 0, 1) := by decide +kernel
theorem dX20_branch_1 : decode cX20_branch 1 = .ok (.istore 4, 2) := by decide +kernel
theorem dX20_branch_3 : decode cX20_branch 3 = .ok (.iload 4, 2) := by decide +kernel
theorem dX20_branch_5 : decode cX20_branch 5 = .ok (.aload_n 0, 1) := by decide +kernel
theorem dX20_branch_6 : decode cX20_branch 6 = .ok (.getfield 9, 3) := by decide +kernel
theorem dX20_branch_9 : decode cX20_branch 9 = .ok (.arraylength, 1) := by decide +kernel
theorem dX20_branch_10 : decode cX20_branch 10 = .ok (.if_icmp .ge 21, 3) := by decide +kernel
theorem dX20_branch_13 : decode cX20_branch 13 = .ok (.aload_n 0, 1) := by decide +kernel
theorem dX20_branch_14 : decode cX20_branch 14 = .ok (.getfield 9, 3) := by decide +kernel
theorem dX20_branch_17 : decode cX20_branch 17 = .ok (.iload 4, 2) := by decide +kernel
theorem dX20_branch_19 : decode cX20_branch 19 = .ok (.iaload, 1) := by decide +kernel
theorem dX20_branch_20 : decode cX20_branch 20 = .ok (.bipush 84, 2) := by decide +kernel
theorem dX20_branch_22 : decode cX20_branch 22 = .ok (.if_icmp .ne 9, 3) := by decide +kernel
theorem dX20_branch_25 : decode cX20_branch 25 = .ok (.iinc 4 1, 3) := by decide +kernel
theorem dX20_branch_28 : decode cX20_branch 28 = .ok (.goto (-25), 3) := by decide +kernel
theorem dX20_branch_31 : decode cX20_branch 31 = .ok (.iload 4, 2) := by decide +kernel
theorem dX20_branch_33 : decode cX20_branch 33 = .ok (.aload_n 0, 1) := by decide +kernel
theorem dX20_branch_34 : decode cX20_branch 34 = .ok (.getfield 9, 3) := by decide +kernel
theorem dX20_branch_37 : decode cX20_branch 37 = .ok (.arraylength, 1) := by decide +kernel
theorem dX20_branch_38 : decode cX20_branch 38 = .ok (.if_icmp .ge 11, 3) := by decide +kernel
theorem dX20_branch_41 : decode cX20_branch 41 = .ok (.aload_n 0, 1) := by decide +kernel
theorem dX20_branch_42 : decode cX20_branch 42 = .ok (.aload_n 1, 1) := by decide +kernel
theorem dX20_branch_43 : decode cX20_branch 43 = .ok (.aload_n 2, 1) := by decide +kernel
theorem dX20_branch_44 : decode cX20_branch 44 = .ok (.aload_n 3, 1) := by decide +kernel
theorem dX20_branch_45 : decode cX20_branch 45 = .ok (.invokespecial 39, 3) := by decide +kernel
theorem dX20_branch_48 : decode cX20_branch 48 = .ok (.return_, 1) := by decide +kernel
theorem dX20_branch_49 : decode cX20_branch 49 = .ok (.aload_n 0, 1) := by decide +kernel
theorem dX20_branch_50 : decode cX20_branch 50 = .ok (.getfield 15, 3) := by decide +kernel
theorem dX20_branch_53 : decode cX20_branch 53 = .ok (.aload_n 1, 1) := by decide +kernel
theorem dX20_branch_54 : decode cX20_branch 54 = .ok (.iload 4, 2) := by decide +kernel
theorem dX20_branch_56 : decode cX20_branch 56 = .ok (.iconst 2, 1) := by decide +kernel
theorem dX20_branch_57 : decode cX20_branch 57 = .ok (.irem, 1) := by decide +kernel
theorem dX20_branch_58 : decode cX20_branch 58 = .ok (.ifCond .ne 7, 3) := by decide +kernel
theorem dX20_branch_61 : decode cX20_branch 61 = .ok (.aload_n 2, 1) := by decide +kernel
theorem dX20_branch_62 : decode cX20_branch 62 = .ok (.goto 4, 3) := by decide +kernel
theorem dX20_branch_65 : decode cX20_branch 65 = .ok (.aload_n 3, 1) := by decide +kernel
theorem dX20_branch_66 : decode cX20_branch 66 = .ok (.iload 4, 2) := by decide +kernel
theorem dX20_branch_68 : decode cX20_branch 68 = .ok (.iconst 2, 1) := by decide +kernel
theorem dX20_branch_69 : decode cX20_branch 69 = .ok (.irem, 1) := by decide +kernel
theorem dX20_branch_70 : decode cX20_branch 70 = .ok (.ifCond .ne 7, 3) := by decide +kernel
theorem dX20_branch_73 : decode cX20_branch 73 = .ok (.aload_n 3, 1) := by decide +kernel
theorem dX20_branch_74 : decode cX20_branch 74 = .ok (.goto 4, 3) := by decide +kernel
theorem dX20_branch_77 : decode cX20_branch 77 = .ok (.aload_n 2, 1) := by decide +kernel
theorem dX20_branch_78 : decode cX20_branch 78 = .ok (.invokevirtual 39, 3) := by decide +kernel
theorem dX20_branch_81 : decode cX20_branch 81 = .ok (.return_, 1) := by decide +kernel
theorem dX20_constant_0 : decode cX20_constant 0 = .ok (.aload_n 0, 1) := by decide +kernel
theorem dX20_constant_1 : decode cX20_constant 1 = .ok (.getfield 15, 3) := by decide +kernel
theorem dX20_constant_4 : decode cX20_constant 4 = .ok (.aload_n 1, 1) := by decide +kernel
theorem dX20_constant_5 : decode cX20_constant 5 = .ok (.invokevirtual 19, 3) := by decide +kernel
theorem dX20_constant_8 : decode cX20_constant 8 = .ok (.istore_n 2, 1) := by decide +kernel
theorem dX20_constant_9 : decode cX20_constant 9 = .ok (.aload_n 0, 1) := by decide +kernel
theorem dX20_constant_10 : decode cX20_constant 10 = .ok (.getfield 9, 3) := by decide +kernel
theorem dX20_constant_13 : decode cX20_constant 13 = .ok (.arraylength, 1) := by decide +kernel
theorem dX20_constant_14 : decode cX20_constant 14 = .ok (.iconst 1, 1) := by decide +kernel
theorem dX20_constant_15 : decode cX20_constant 15 = .ok (.isub, 1) := by decide +kernel
theorem dX20_constant_16 : decode cX20_constant 16 = .ok (.istore_n 3, 1) := by decide +kernel
theorem dX20_constant_17 : decode cX20_constant 17 = .ok (.iload_n 3, 1) := by decide +kernel
theorem dX20_constant_18 : decode cX20_constant 18 = .ok (.ifCond .lt 52, 3) := by decide +kernel
theorem dX20_constant_21 : decode cX20_constant 21 = .ok (.aload_n 0, 1) := by decide +kernel
theorem dX20_constant_22 : decode cX20_constant 22 = .ok (.getfield 9, 3) := by decide +kernel
theorem dX20_constant_25 : decode cX20_constant 25 = .ok (.iload_n 3, 1) := by decide +kernel
theorem dX20_constant_26 : decode cX20_constant 26 = .ok (.iaload, 1) := by decide +kernel
theorem dX20_constant_27 : decode cX20_constant 27 = .ok (.bipush 79, 2) := by decide +kernel
theorem dX20_constant_29 : decode cX20_constant 29 = .ok (.if_icmp .ne 8, 3) := by decide +kernel
theorem dX20_constant_32 : decode cX20_constant 32 = .ok (.iload_n 2, 1) := by decide +kernel
theorem dX20_constant_33 : decode cX20_constant 33 = .ok (.ineg, 1) := by decide +kernel
theorem dX20_constant_34 : decode cX20_constant 34 = .ok (.goto 29, 3) := by decide +kernel
theorem dX20_constant_37 : decode cX20_constant 37 = .ok (.aload_n 0, 1) := by decide +kernel
theorem dX20_constant_38 : decode cX20_constant 38 = .ok (.getfield 9, 3) := by decide +kernel
theorem dX20_constant_41 : decode cX20_constant 41 = .ok (.iload_n 3, 1) := by decide +kernel
theorem dX20_constant_42 : decode cX20_constant 42 = .ok (.iaload, 1) := by decide +kernel
theorem dX20_constant_43 : decode cX20_constant 43 = .ok (.bipush 83, 2) := by decide +kernel
theorem dX20_constant_45 : decode cX20_constant 45 = .ok (.if_icmp .ne 9, 3) := by decide +kernel
theorem dX20_constant_48 : decode cX20_constant 48 = .ok (.iload_n 2, 1) := by decide +kernel
theorem dX20_constant_49 : decode cX20_constant 49 = .ok (.iconst (-1), 1) := by decide +kernel
theorem dX20_constant_50 : decode cX20_constant 50 = .ok (.ixor, 1) := by decide +kernel
theorem dX20_constant_51 : decode cX20_constant 51 = .ok (.goto 12, 3) := by decide +kernel
theorem dX20_constant_54 : decode cX20_constant 54 = .ok (.iload_n 2, 1) := by decide +kernel
theorem dX20_constant_55 : decode cX20_constant 55 = .ok (.ifCond .ne 7, 3) := by decide +kernel
theorem dX20_constant_58 : decode cX20_constant 58 = .ok (.iconst 1, 1) := by decide +kernel
theorem dX20_constant_59 : decode cX20_constant 59 = .ok (.goto 4, 3) := by decide +kernel
theorem dX20_constant_62 : decode cX20_constant 62 = .ok (.iconst 0, 1) := by decide +kernel
theorem dX20_constant_63 : decode cX20_constant 63 = .ok (.istore_n 2, 1) := by decide +kernel
theorem dX20_constant_64 : decode cX20_constant 64 = .ok (.iinc 3 (-1), 3) := by decide +kernel
theorem dX20_constant_67 : decode cX20_constant 67 = .ok (.goto (-50), 3) := by decide +kernel
theorem dX20_constant_70 : decode cX20_constant 70 = .ok (.iload_n 2, 1) := by decide +kernel
theorem dX20_constant_71 : decode cX20_constant 71 = .ok (.ireturn, 1) := by decide +kernel
theorem dX21_init_0 : decode cX21_init 0 = .ok (.aload_n 0, 1) := by decide +kernel
theorem dX21_init_1 : decode cX21_init 1 = .ok (.aload_n 2, 1) := by decide +kernel
theorem dX21_init_2 : decode cX21_init 2 = .ok (.iconst 0, 1) := by decide +kernel
theorem dX21_init_3 : decode cX21_init 3 = .ok (.invokevirtual 3, 3) := by decide +kernel
theorem dX21_init_6 : decode cX21_init 6 = .ok (.checkcast 9, 3) := by decide +kernel
theorem dX21_init_9 : decode cX21_init 9 = .ok (.getfield 11, 3) := by decide +kernel
theorem dX21_init_12 : decode cX21_init 12 = .ok (.invokespecial 15, 3) := by decide +kernel
theorem dX21_init_15 : decode cX21_init 15 = .ok (.aload_n 0, 1) := by decide +kernel
theorem dX21_init_16 : decode cX21_init 16 = .ok (.iload_n 1, 1) := by decide +kernel
theorem dX21_init_17 : decode cX21_init 17 = .ok (.putfield 19, 3) := by decide +kernel
theorem dX21_init_20 : decode cX21_init 20 = .ok (.aload_n 0, 1) := by decide +kernel
theorem dX21_init_21 : decode cX21_init 21 = .ok (.aload_n 2, 1) := by decide +kernel
theorem dX21_init_22 : decode cX21_init 22 = .ok (.putfield 25, 3) := by decide +kernel
theorem dX21_init_25 : decode cX21_init 25 = .ok (.return_, 1) := by decide +kernel
theorem dX21_value_0 : decode cX21_value 0 = .ok (.aload_n 1, 1) := by decide +kernel
theorem dX21_value_1 : decode cX21_value 1 = .ok (.invokevirtual 40, 3) := by decide +kernel
theorem dX21_value_4 : decode cX21_value 4 = .ok (.astore_n 2, 1) := by decide +kernel
theorem dX21_value_5 : decode cX21_value 5 = .ok (.aload_n 1, 1) := by decide +kernel
theorem dX21_value_6 : decode cX21_value 6 = .ok (.invokevirtual 40, 3) := by decide +kernel
theorem dX21_value_9 : decode cX21_value 9 = .ok (.astore_n 3, 1) := by decide +kernel
theorem dX21_value_10 : decode cX21_value 10 = .ok (.aload_n 1, 1) := by decide +kernel
theorem dX21_value_11 : decode cX21_value 11 = .ok (.invokevirtual 40, 3) := by decide +kernel
theorem dX21_value_14 : decode cX21_value 14 = .ok (.astore 4, 2) := by decide +kernel
theorem dX21_value_16 : decode cX21_value 16 = .ok (.aload_n 0, 1) := by decide +kernel
theorem dX21_value_17 : decode cX21_value 17 = .ok (.aload_n 1, 1) := by decide +kernel
theorem dX21_value_18 : decode cX21_value 18 = .ok (.aload_n 2, 1) := by decide +kernel
theorem dX21_value_19 : decode cX21_value 19 = .ok (.aload_n 3, 1) := by decide +kernel
theorem dX21_value_20 : decode cX21_value 20 = .ok (.invokevirtual 46, 3) := by decide +kernel
theorem dX21_value_23 : decode cX21_value 23 = .ok (.aload_n 1, 1) := by decide +kernel
theorem dX21_value_24 : decode cX21_value 24 = .ok (.invokevirtual 50, 3) := by decide +kernel
theorem dX21_value_27 : decode cX21_value 27 = .ok (.istore 5, 2) := by decide +kernel
theorem dX21_value_29 : decode cX21_value 29 = .ok (.aload_n 1, 1) := by decide +kernel
theorem dX21_value_30 : decode cX21_value 30 = .ok (.aload_n 2, 1) := by decide +kernel
theorem dX21_value_31 : decode cX21_value 31 = .ok (.invokevirtual 53, 3) := by decide +kernel
theorem dX21_value_34 : decode cX21_value 34 = .ok (.aload_n 1, 1) := by decide +kernel
theorem dX21_value_35 : decode cX21_value 35 = .ok (.iload 5, 2) := by decide +kernel
theorem dX21_value_37 : decode cX21_value 37 = .ok (.iconst 1, 1) := by decide +kernel
theorem dX21_value_38 : decode cX21_value 38 = .ok (.invokestatic 57, 3) := by decide +kernel
theorem dX21_value_41 : decode cX21_value 41 = .ok (.invokevirtual 60, 3) := by decide +kernel
theorem dX21_value_44 : decode cX21_value 44 = .ok (.aload_n 1, 1) := by decide +kernel
theorem dX21_value_45 : decode cX21_value 45 = .ok (.aload 4, 2) := by decide +kernel
theorem dX21_value_47 : decode cX21_value 47 = .ok (.invokevirtual 64, 3) := by decide +kernel
theorem dX21_value_50 : decode cX21_value 50 = .ok (.aload_n 1, 1) := by decide +kernel
theorem dX21_value_51 : decode cX21_value 51 = .ok (.aload_n 3, 1) := by decide +kernel
theorem dX21_value_52 : decode cX21_value 52 = .ok (.invokevirtual 53, 3) := by decide +kernel
theorem dX21_value_55 : decode cX21_value 55 = .ok (.aload_n 1, 1) := by decide +kernel
theorem dX21_value_56 : decode cX21_value 56 = .ok (.iload 5, 2) := by decide +kernel
theorem dX21_value_58 : decode cX21_value 58 = .ok (.iconst 0, 1) := by decide +kernel
theorem dX21_value_59 : decode cX21_value 59 = .ok (.invokestatic 57, 3) := by decide +kernel
theorem dX21_value_62 : decode cX21_value 62 = .ok (.invokevirtual 60, 3) := by decide +kernel
theorem dX21_value_65 : decode cX21_value 65 = .ok (.aload_n 1, 1) := by decide +kernel
theorem dX21_value_66 : decode cX21_value 66 = .ok (.aload 4, 2) := by decide +kernel
theorem dX21_value_68 : decode cX21_value 68 = .ok (.invokevirtual 64, 3) := by decide +kernel
theorem dX21_value_71 : decode cX21_value 71 = .ok (.aload_n 1, 1) := by decide +kernel
theorem dX21_value_72 : decode cX21_value 72 = .ok (.aload 4, 2) := by decide +kernel
theorem dX21_value_74 : decode cX21_value 74 = .ok (.invokevirtual 53, 3) := by decide +kernel
theorem dX21_value_77 : decode cX21_value 77 = .ok (.iload 5, 2) := by decide +kernel
theorem dX21_value_79 : decode cX21_value 79 = .ok (.i2l, 1) := by decide +kernel
theorem dX21_value_80 : decode cX21_value 80 = .ok (.lreturn, 1) := by decide +kernel
