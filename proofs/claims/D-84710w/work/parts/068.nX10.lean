/-! names: X1_init X1_read X1_kind X1_told X1_takes X1_is X1_need X1_wrong X1_fail X1_here X1_needName X1_expr X1_row X1_ahead X1_operand X1_call X1_opens X1_closes (tools/chunk.py) -/
set_option maxRecDepth 100000
theorem q268 : (Jvm.Cond.methodLink "CompiledHouse$Parser" (3 : Nat) ({ cls := "java/lang/Object", name := "<init>", desc := "()V" } : Jvm.MethodName)) ∈ lw_all := lw_g (lw_at lw_m1 72 rfl) rfl
theorem lk_X1_3 : xLk RX1 3 yJ18_init := Or.inl q268
theorem q269 : (Jvm.Cond.classLink "CompiledHouse$Parser" (9 : Nat) "CompiledHouse$Tokens") ∈ lw_all := lw_g (lw_at lw_m1 73 rfl) rfl
theorem q271 : (Jvm.Cond.methodLinkNest "CompiledHouse$Parser" (11 : Nat) ({ cls := "CompiledHouse$Tokens", name := "<init>", desc := "()V" } : Jvm.MethodName) "CompiledHouse") ∈ lw_tbl := lw_at lw_m1 75 rfl
abbrev cX2_init : ByteArray := prog_35_method_1_code
def yX2_init : MethodName := ⟨RX2, "<init>", "()V"⟩
theorem q273 : (Jvm.Cond.code ({ cls := "CompiledHouse$Tokens", name := "<init>", desc := "()V" } : Jvm.MethodName) prog_35_method_1_code (1 : Nat) (Option.none : Option Jvm.ClassFile.FieldType)) ∈ lw_all := lw_g (lw_at lw_m1 77 rfl) rfl
def kX2_init : xK := (yX2_init, cX2_init, 1, none, [])
theorem me_X2_init : xMe kX2_init 0 := ⟨q273, q199, by decide, by decide, by decide +kernel⟩
theorem q272 : (Jvm.Cond.instanceMethod ({ cls := "CompiledHouse$Tokens", name := "<init>", desc := "()V" } : Jvm.MethodName)) ∈ lw_all := lw_g (lw_at lw_m1 76 rfl) rfl
theorem is_X2_init : Cond.instanceMethod kX2_init.y ∈ lw_all := q272
theorem lk_X1_11 : xLk RX1 11 yX2_init := Or.inr ⟨_, q271⟩
theorem q484 : (Jvm.Cond.fieldLink "CompiledHouse$Parser" (12 : Nat) "CompiledHouse$Parser" "tokens" "LCompiledHouse$Tokens;") ∈ lw_all := lw_g (lw_at lw_m2 48 rfl) rfl
theorem f_X1_12_1 : xF RX1 12 1 0 := ⟨_, "CompiledHouse$Parser", rfl, by decide, Or.inl q484, Or.inl rfl⟩
theorem q379 : (Jvm.Cond.classLink "CompiledHouse$Parser" (18 : Nat) "CompiledHouse$Stop") ∈ lw_all := lw_g (lw_at lw_m1 183 rfl) rfl
theorem q419 : (Jvm.Cond.methodLink "CompiledHouse$Parser" (20 : Nat) ({ cls := "CompiledHouse$Stop", name := "<init>", desc := "()V" } : Jvm.MethodName)) ∈ lw_all := lw_g (lw_at lw_m1 223 rfl) rfl
theorem lk_X1_20 : xLk RX1 20 yX3_init := Or.inl q419
theorem q485 : (Jvm.Cond.fieldLink "CompiledHouse$Parser" (21 : Nat) "CompiledHouse$Parser" "stop" "LCompiledHouse$Stop;") ∈ lw_all := lw_g (lw_at lw_m2 49 rfl) rfl
theorem f_X1_21_1 : xF RX1 21 1 1 := ⟨_, "CompiledHouse$Parser", rfl, by decide, Or.inl q485, Or.inl rfl⟩
theorem q444 : (Jvm.Cond.classLink "CompiledHouse$Parser" (25 : Nat) "CompiledHouse$Block0") ∈ lw_all := lw_g (lw_at lw_m2 8 rfl) rfl
theorem q446 : (Jvm.Cond.methodLinkNest "CompiledHouse$Parser" (27 : Nat) ({ cls := "CompiledHouse$Block0", name := "<init>", desc := "()V" } : Jvm.MethodName) "CompiledHouse") ∈ lw_tbl := lw_at lw_m2 10 rfl
abbrev cX5_init : ByteArray := prog_6_method_1_code
def yX5_init : MethodName := ⟨RX5, "<init>", "()V"⟩
theorem q448 : (Jvm.Cond.code ({ cls := "CompiledHouse$Block0", name := "<init>", desc := "()V" } : Jvm.MethodName) prog_6_method_1_code (1 : Nat) (Option.none : Option Jvm.ClassFile.FieldType)) ∈ lw_all := lw_g (lw_at lw_m2 12 rfl) rfl
def kX5_init : xK := (yX5_init, cX5_init, 1, none, [])
theorem me_X5_init : xMe kX5_init 0 := ⟨q448, q205, by decide, by decide, by decide +kernel⟩
theorem q447 : (Jvm.Cond.instanceMethod ({ cls := "CompiledHouse$Block0", name := "<init>", desc := "()V" } : Jvm.MethodName)) ∈ lw_all := lw_g (lw_at lw_m2 11 rfl) rfl
theorem is_X5_init : Cond.instanceMethod kX5_init.y ∈ lw_all := q447
theorem lk_X1_27 : xLk RX1 27 yX5_init := Or.inr ⟨_, q446⟩
theorem q486 : (Jvm.Cond.fieldLink "CompiledHouse$Parser" (28 : Nat) "CompiledHouse$Parser" "nothing" "LCompiledHouse$Block0;") ∈ lw_all := lw_g (lw_at lw_m2 50 rfl) rfl
theorem f_X1_28_1 : xF RX1 28 1 2 := ⟨_, "CompiledHouse$Parser", rfl, by decide, Or.inl q486, Or.inl rfl⟩
theorem q966 : (Jvm.Cond.methodLink "CompiledHouse$Parser" (32 : Nat) ({ cls := "CompiledHouse$Tokens", name := "scan", desc := "([BI)V" } : Jvm.MethodName)) ∈ lw_all := lw_g (lw_at lw_m4 50 rfl) rfl
abbrev cX2_scan : ByteArray := prog_35_method_2_code
def yX2_scan : MethodName := ⟨RX2, "scan", "([BI)V"⟩
theorem q969 : (Jvm.Cond.code ({ cls := "CompiledHouse$Tokens", name := "scan", desc := "([BI)V" } : Jvm.MethodName) prog_35_method_2_code (5 : Nat) (Option.none : Option Jvm.ClassFile.FieldType)) ∈ lw_all := lw_g (lw_at lw_m4 53 rfl) rfl
def kX2_scan : xK := (yX2_scan, cX2_scan, 5, none, [])
theorem me_X2_scan : xMe kX2_scan 2 := ⟨q969, q199, by decide, by decide, by decide +kernel⟩
theorem q967 : (Jvm.Cond.instanceMethod ({ cls := "CompiledHouse$Tokens", name := "scan", desc := "([BI)V" } : Jvm.MethodName)) ∈ lw_all := lw_g (lw_at lw_m4 51 rfl) rfl
theorem is_X2_scan : Cond.instanceMethod kX2_scan.y ∈ lw_all := q967
theorem se_X2_scan : Cond.selects RX2 kX2_scan.y kX2_scan.y ∈ lw_all := q968
theorem lk_X1_32 : xLk RX1 32 yX2_scan := Or.inl q966
theorem q487 : (Jvm.Cond.fieldLink "CompiledHouse$Parser" (36 : Nat) "CompiledHouse$Parser" "at" "I") ∈ lw_all := lw_g (lw_at lw_m2 51 rfl) rfl
theorem f_X1_36_1 : xF RX1 36 1 3 := ⟨_, "CompiledHouse$Parser", rfl, by decide, Or.inl q487, Or.inl rfl⟩
theorem q488 : (Jvm.Cond.fieldLink "CompiledHouse$Parser" (40 : Nat) "CompiledHouse$Parser" "open" "I") ∈ lw_all := lw_g (lw_at lw_m2 52 rfl) rfl
theorem f_X1_40_1 : xF RX1 40 1 4 := ⟨_, "CompiledHouse$Parser", rfl, by decide, Or.inl q488, Or.inl rfl⟩
theorem q489 : (Jvm.Cond.fieldLink "CompiledHouse$Parser" (43 : Nat) "CompiledHouse$Parser" "fault" "I") ∈ lw_all := lw_g (lw_at lw_m2 53 rfl) rfl
theorem f_X1_43_1 : xF RX1 43 1 5 := ⟨_, "CompiledHouse$Parser", rfl, by decide, Or.inl q489, Or.inl rfl⟩
theorem q1062 : (Jvm.Cond.classLink "CompiledHouse$Parser" (46 : Nat) "java/util/ArrayList") ∈ lw_all := lw_g (lw_at lw_m4 146 rfl) rfl
theorem q1063 : (Jvm.Cond.methodLink "CompiledHouse$Parser" (48 : Nat) ({ cls := "java/util/ArrayList", name := "<init>", desc := "()V" } : Jvm.MethodName)) ∈ lw_all := lw_g (lw_at lw_m4 147 rfl) rfl
theorem lk_X1_48 : xLk RX1 48 yJ5_init := Or.inl q1063
theorem q493 : (Jvm.Cond.fieldLink "CompiledHouse$Parser" (49 : Nat) "CompiledHouse$Parser" "all" "Ljava/util/ArrayList;") ∈ lw_all := lw_g (lw_at lw_m2 57 rfl) rfl
theorem f_X1_49_1 : xF RX1 49 1 7 := ⟨_, "CompiledHouse$Parser", rfl, by decide, Or.inl q493, Or.inl rfl⟩
theorem q1064 : (Jvm.Cond.methodLink "CompiledHouse$Parser" (53 : Nat) ({ cls := "CompiledHouse$Parser", name := "kind", desc := "()I" } : Jvm.MethodName)) ∈ lw_all := lw_g (lw_at lw_m4 148 rfl) rfl
abbrev cX1_kind : ByteArray := prog_27_method_3_code
def yX1_kind : MethodName := ⟨RX1, "kind", "()I"⟩
theorem q1067 : (Jvm.Cond.code ({ cls := "CompiledHouse$Parser", name := "kind", desc := "()I" } : Jvm.MethodName) prog_27_method_3_code (1 : Nat) (Option.some Jvm.ClassFile.FieldType.int)) ∈ lw_all := lw_g (lw_at lw_m4 151 rfl) rfl
def kX1_kind : xK := (yX1_kind, cX1_kind, 1, some .int, [])
theorem me_X1_kind : xMe kX1_kind 0 := ⟨q1067, q198, by decide, by decide, by decide +kernel⟩
theorem q1066 : (Jvm.Cond.instanceMethod ({ cls := "CompiledHouse$Parser", name := "kind", desc := "()I" } : Jvm.MethodName)) ∈ lw_all := lw_g (lw_at lw_m4 150 rfl) rfl
theorem is_X1_kind : Cond.instanceMethod kX1_kind.y ∈ lw_all := q1066
theorem se_X1_kind : Cond.selects RX1 kX1_kind.y kX1_kind.y ∈ lw_all := qs10
theorem lk_X1_53 : xLk RX1 53 yX1_kind := Or.inl q1064
theorem q1068 : (Jvm.Cond.methodLink "CompiledHouse$Parser" (57 : Nat) ({ cls := "CompiledHouse$Parser", name := "told", desc := "()V" } : Jvm.MethodName)) ∈ lw_all := lw_g (lw_at lw_m4 152 rfl) rfl
abbrev cX1_told : ByteArray := prog_27_method_13_code
def yX1_told : MethodName := ⟨RX1, "told", "()V"⟩
theorem q1071 : (Jvm.Cond.code ({ cls := "CompiledHouse$Parser", name := "told", desc := "()V" } : Jvm.MethodName) prog_27_method_13_code (6 : Nat) (Option.none : Option Jvm.ClassFile.FieldType)) ∈ lw_all := lw_g (lw_at lw_m4 155 rfl) rfl
def kX1_told : xK := (yX1_told, cX1_told, 6, none, [])
theorem me_X1_told : xMe kX1_told 0 := ⟨q1071, q198, by decide, by decide, by decide +kernel⟩
theorem q1070 : (Jvm.Cond.instanceMethod ({ cls := "CompiledHouse$Parser", name := "told", desc := "()V" } : Jvm.MethodName)) ∈ lw_all := lw_g (lw_at lw_m4 154 rfl) rfl
theorem is_X1_told : Cond.instanceMethod kX1_told.y ∈ lw_all := q1070
theorem se_X1_told : Cond.selects RX1 kX1_told.y kX1_told.y ∈ lw_all := qs11
theorem lk_X1_57 : xLk RX1 57 yX1_told := Or.inl q1068
theorem q340 : (Jvm.Cond.fieldLinkNest "CompiledHouse$Parser" (60 : Nat) "CompiledHouse$Tokens" "kind" "[I" "CompiledHouse") ∈ lw_tbl := lw_at lw_m1 144 rfl
theorem f_X1_60_2 : xF RX1 60 2 2 := ⟨_, "CompiledHouse$Tokens", rfl, by decide, Or.inr ⟨_, q340⟩, Or.inl rfl⟩
theorem q1072 : (Jvm.Cond.methodLink "CompiledHouse$Parser" (79 : Nat) ({ cls := "CompiledHouse$Parser", name := "takes", desc := "(I)Z" } : Jvm.MethodName)) ∈ lw_all := lw_g (lw_at lw_m4 156 rfl) rfl
abbrev cX1_takes : ByteArray := prog_27_method_8_code
def yX1_takes : MethodName := ⟨RX1, "takes", "(I)Z"⟩
theorem q1075 : (Jvm.Cond.code ({ cls := "CompiledHouse$Parser", name := "takes", desc := "(I)Z" } : Jvm.MethodName) prog_27_method_8_code (2 : Nat) (Option.some Jvm.ClassFile.FieldType.boolean)) ∈ lw_all := lw_g (lw_at lw_m4 159 rfl) rfl
def kX1_takes : xK := (yX1_takes, cX1_takes, 2, some .boolean, [])
theorem me_X1_takes : xMe kX1_takes 1 := ⟨q1075, q198, by decide, by decide, by decide +kernel⟩
theorem q1074 : (Jvm.Cond.instanceMethod ({ cls := "CompiledHouse$Parser", name := "takes", desc := "(I)Z" } : Jvm.MethodName)) ∈ lw_all := lw_g (lw_at lw_m4 158 rfl) rfl
theorem is_X1_takes : Cond.instanceMethod kX1_takes.y ∈ lw_all := q1074
theorem se_X1_takes : Cond.selects RX1 kX1_takes.y kX1_takes.y ∈ lw_all := qs12
theorem lk_X1_79 : xLk RX1 79 yX1_takes := Or.inl q1072
theorem q1080 : (Jvm.Cond.methodLink "CompiledHouse$Parser" (89 : Nat) ({ cls := "CompiledHouse$Parser", name := "need", desc := "(I)V" } : Jvm.MethodName)) ∈ lw_all := lw_g (lw_at lw_m4 164 rfl) rfl
abbrev cX1_need : ByteArray := prog_27_method_9_code
def yX1_need : MethodName := ⟨RX1, "need", "(I)V"⟩
theorem q1083 : (Jvm.Cond.code ({ cls := "CompiledHouse$Parser", name := "need", desc := "(I)V" } : Jvm.MethodName) prog_27_method_9_code (2 : Nat) (Option.none : Option Jvm.ClassFile.FieldType)) ∈ lw_all := lw_g (lw_at lw_m4 167 rfl) rfl
def kX1_need : xK := (yX1_need, cX1_need, 2, none, [])
theorem me_X1_need : xMe kX1_need 1 := ⟨q1083, q198, by decide, by decide, by decide +kernel⟩
theorem q1082 : (Jvm.Cond.instanceMethod ({ cls := "CompiledHouse$Parser", name := "need", desc := "(I)V" } : Jvm.MethodName)) ∈ lw_all := lw_g (lw_at lw_m4 166 rfl) rfl
theorem is_X1_need : Cond.instanceMethod kX1_need.y ∈ lw_all := q1082
theorem se_X1_need : Cond.selects RX1 kX1_need.y kX1_need.y ∈ lw_all := qs14
theorem lk_X1_89 : xLk RX1 89 yX1_need := Or.inl q1080
theorem q1096 : (Jvm.Cond.classLink "CompiledHouse$Parser" (93 : Nat) "CompiledHouse$Told") ∈ lw_all := lw_g (lw_at lw_m4 180 rfl) rfl
theorem q1092 : (Jvm.Cond.methodLink "CompiledHouse$Parser" (66 : Nat) ({ cls := "CompiledHouse$Parser", name := "here", desc := "()I" } : Jvm.MethodName)) ∈ lw_all := lw_g (lw_at lw_m4 176 rfl) rfl
abbrev cX1_here : ByteArray := prog_27_method_4_code
def yX1_here : MethodName := ⟨RX1, "here", "()I"⟩
theorem q1095 : (Jvm.Cond.code ({ cls := "CompiledHouse$Parser", name := "here", desc := "()I" } : Jvm.MethodName) prog_27_method_4_code (1 : Nat) (Option.some Jvm.ClassFile.FieldType.int)) ∈ lw_all := lw_g (lw_at lw_m4 179 rfl) rfl
def kX1_here : xK := (yX1_here, cX1_here, 1, some .int, [])
theorem me_X1_here : xMe kX1_here 0 := ⟨q1095, q198, by decide, by decide, by decide +kernel⟩
theorem q1094 : (Jvm.Cond.instanceMethod ({ cls := "CompiledHouse$Parser", name := "here", desc := "()I" } : Jvm.MethodName)) ∈ lw_all := lw_g (lw_at lw_m4 178 rfl) rfl
theorem is_X1_here : Cond.instanceMethod kX1_here.y ∈ lw_all := q1094
theorem se_X1_here : Cond.selects RX1 kX1_here.y kX1_here.y ∈ lw_all := qs17
theorem lk_X1_66 : xLk RX1 66 yX1_here := Or.inl q1092
theorem q1098 : (Jvm.Cond.methodLink "CompiledHouse$Parser" (95 : Nat) ({ cls := "CompiledHouse$Parser", name := "needName", desc := "()I" } : Jvm.MethodName)) ∈ lw_all := lw_g (lw_at lw_m4 182 rfl) rfl
abbrev cX1_needName : ByteArray := prog_27_method_10_code
def yX1_needName : MethodName := ⟨RX1, "needName", "()I"⟩
theorem q1101 : (Jvm.Cond.code ({ cls := "CompiledHouse$Parser", name := "needName", desc := "()I" } : Jvm.MethodName) prog_27_method_10_code (1 : Nat) (Option.some Jvm.ClassFile.FieldType.int)) ∈ lw_all := lw_g (lw_at lw_m4 185 rfl) rfl
def kX1_needName : xK := (yX1_needName, cX1_needName, 1, some .int, [])
theorem me_X1_needName : xMe kX1_needName 0 := ⟨q1101, q198, by decide, by decide, by decide +kernel⟩
theorem q1100 : (Jvm.Cond.instanceMethod ({ cls := "CompiledHouse$Parser", name := "needName", desc := "()I" } : Jvm.MethodName)) ∈ lw_all := lw_g (lw_at lw_m4 184 rfl) rfl
theorem is_X1_needName : Cond.instanceMethod kX1_needName.y ∈ lw_all := q1100
theorem se_X1_needName : Cond.selects RX1 kX1_needName.y kX1_needName.y ∈ lw_all := qs18
theorem lk_X1_95 : xLk RX1 95 yX1_needName := Or.inl q1098
theorem q1102 : (Jvm.Cond.methodLink "CompiledHouse$Parser" (98 : Nat) ({ cls := "CompiledHouse$Told", name := "<init>", desc := "(III)V" } : Jvm.MethodName)) ∈ lw_all := lw_g (lw_at lw_m4 186 rfl) rfl
theorem lk_X1_98 : xLk RX1 98 yX14_init := Or.inl q1102
theorem q1173 : (Jvm.Cond.methodLink "CompiledHouse$Parser" (101 : Nat) ({ cls := "CompiledHouse$Parser", name := "expr", desc := "()LCompiledHouse$Expr;" } : Jvm.MethodName)) ∈ lw_all := lw_g (lw_at lw_m5 17 rfl) rfl
abbrev cX1_expr : ByteArray := prog_27_method_28_code
def yX1_expr : MethodName := ⟨RX1, "expr", "()LCompiledHouse$Expr;"⟩
theorem q1176 : (Jvm.Cond.code ({ cls := "CompiledHouse$Parser", name := "expr", desc := "()LCompiledHouse$Expr;" } : Jvm.MethodName) prog_27_method_28_code (4 : Nat) (Option.some (Jvm.ClassFile.FieldType.object "CompiledHouse$Expr"))) ∈ lw_all := lw_g (lw_at lw_m5 20 rfl) rfl
def kX1_expr : xK := (yX1_expr, cX1_expr, 4, some (.object "CompiledHouse$Expr"), [])
theorem me_X1_expr : xMe kX1_expr 0 := ⟨q1176, q198, by decide, by decide, by decide +kernel⟩
theorem q1175 : (Jvm.Cond.instanceMethod ({ cls := "CompiledHouse$Parser", name := "expr", desc := "()LCompiledHouse$Expr;" } : Jvm.MethodName)) ∈ lw_all := lw_g (lw_at lw_m5 19 rfl) rfl
theorem is_X1_expr : Cond.instanceMethod kX1_expr.y ∈ lw_all := q1175
theorem se_X1_expr : Cond.selects RX1 kX1_expr.y kX1_expr.y ∈ lw_all := qs19
theorem lk_X1_101 : xLk RX1 101 yX1_expr := Or.inl q1173
theorem q1123 : (Jvm.Cond.fieldLinkNest "CompiledHouse$Parser" (105 : Nat) "CompiledHouse$Told" "value" "LCompiledHouse$Expr;" "CompiledHouse") ∈ lw_tbl := lw_at lw_m4 207 rfl
theorem f_X1_105_13 : xF RX1 105 13 6 := ⟨_, "CompiledHouse$Told", rfl, by decide, Or.inr ⟨_, q1123⟩, Or.inl rfl⟩
theorem q1459 : (Jvm.Cond.methodLink "CompiledHouse$Parser" (109 : Nat) ({ cls := "CompiledHouse$Parser", name := "end", desc := "(LCompiledHouse$Told;)V" } : Jvm.MethodName)) ∈ lw_all := lw_g (lw_at lw_m6 63 rfl) rfl
abbrev cX1_end : ByteArray := prog_27_method_14_code
def yX1_end : MethodName := ⟨RX1, "end", "(LCompiledHouse$Told;)V"⟩
theorem q1462 : (Jvm.Cond.code ({ cls := "CompiledHouse$Parser", name := "end", desc := "(LCompiledHouse$Told;)V" } : Jvm.MethodName) prog_27_method_14_code (2 : Nat) (Option.none : Option Jvm.ClassFile.FieldType)) ∈ lw_all := lw_g (lw_at lw_m6 66 rfl) rfl
def kX1_end : xK := (yX1_end, cX1_end, 2, none, [])
theorem me_X1_end : xMe kX1_end 1 := ⟨q1462, q198, by decide, by decide, by decide +kernel⟩
theorem q1461 : (Jvm.Cond.instanceMethod ({ cls := "CompiledHouse$Parser", name := "end", desc := "(LCompiledHouse$Told;)V" } : Jvm.MethodName)) ∈ lw_all := lw_g (lw_at lw_m6 65 rfl) rfl
theorem is_X1_end : Cond.instanceMethod kX1_end.y ∈ lw_all := q1461
theorem se_X1_end : Cond.selects RX1 kX1_end.y kX1_end.y ∈ lw_all := qs31
theorem lk_X1_109 : xLk RX1 109 yX1_end := Or.inl q1459
theorem q1076 : (Jvm.Cond.methodLink "CompiledHouse$Parser" (71 : Nat) ({ cls := "CompiledHouse$Parser", name := "is", desc := "(I)Z" } : Jvm.MethodName)) ∈ lw_all := lw_g (lw_at lw_m4 160 rfl) rfl
abbrev cX1_is : ByteArray := prog_27_method_5_code
def yX1_is : MethodName := ⟨RX1, "is", "(I)Z"⟩
theorem q1079 : (Jvm.Cond.code ({ cls := "CompiledHouse$Parser", name := "is", desc := "(I)Z" } : Jvm.MethodName) prog_27_method_5_code (2 : Nat) (Option.some Jvm.ClassFile.FieldType.boolean)) ∈ lw_all := lw_g (lw_at lw_m4 163 rfl) rfl
def kX1_is : xK := (yX1_is, cX1_is, 2, some .boolean, [])
theorem me_X1_is : xMe kX1_is 1 := ⟨q1079, q198, by decide, by decide, by decide +kernel⟩
theorem q1078 : (Jvm.Cond.instanceMethod ({ cls := "CompiledHouse$Parser", name := "is", desc := "(I)Z" } : Jvm.MethodName)) ∈ lw_all := lw_g (lw_at lw_m4 162 rfl) rfl
theorem is_X1_is : Cond.instanceMethod kX1_is.y ∈ lw_all := q1078
theorem se_X1_is : Cond.selects RX1 kX1_is.y kX1_is.y ∈ lw_all := qs13
theorem lk_X1_71 : xLk RX1 71 yX1_is := Or.inl q1076
theorem q1084 : (Jvm.Cond.methodLink "CompiledHouse$Parser" (82 : Nat) ({ cls := "CompiledHouse$Parser", name := "wrong", desc := "()LCompiledHouse$Stop;" } : Jvm.MethodName)) ∈ lw_all := lw_g (lw_at lw_m4 168 rfl) rfl
abbrev cX1_wrong : ByteArray := prog_27_method_7_code
def yX1_wrong : MethodName := ⟨RX1, "wrong", "()LCompiledHouse$Stop;"⟩
theorem q1087 : (Jvm.Cond.code ({ cls := "CompiledHouse$Parser", name := "wrong", desc := "()LCompiledHouse$Stop;" } : Jvm.MethodName) prog_27_method_7_code (1 : Nat) (Option.some (Jvm.ClassFile.FieldType.object "CompiledHouse$Stop"))) ∈ lw_all := lw_g (lw_at lw_m4 171 rfl) rfl
def kX1_wrong : xK := (yX1_wrong, cX1_wrong, 1, some (.object "CompiledHouse$Stop"), [])
theorem me_X1_wrong : xMe kX1_wrong 0 := ⟨q1087, q198, by decide, by decide, by decide +kernel⟩
theorem q1086 : (Jvm.Cond.instanceMethod ({ cls := "CompiledHouse$Parser", name := "wrong", desc := "()LCompiledHouse$Stop;" } : Jvm.MethodName)) ∈ lw_all := lw_g (lw_at lw_m4 170 rfl) rfl
theorem is_X1_wrong : Cond.instanceMethod kX1_wrong.y ∈ lw_all := q1086
theorem se_X1_wrong : Cond.selects RX1 kX1_wrong.y kX1_wrong.y ∈ lw_all := qs15
theorem lk_X1_82 : xLk RX1 82 yX1_wrong := Or.inl q1084
theorem q1463 : (Jvm.Cond.methodLink "CompiledHouse$Parser" (113 : Nat) ({ cls := "CompiledHouse$Parser", name := "function", desc := "(LCompiledHouse$Told;Z)V" } : Jvm.MethodName)) ∈ lw_all := lw_g (lw_at lw_m6 67 rfl) rfl
abbrev cX1_function : ByteArray := prog_27_method_16_code
def yX1_function : MethodName := ⟨RX1, "function", "(LCompiledHouse$Told;Z)V"⟩
theorem q1466 : (Jvm.Cond.code ({ cls := "CompiledHouse$Parser", name := "function", desc := "(LCompiledHouse$Told;Z)V" } : Jvm.MethodName) prog_27_method_16_code (3 : Nat) (Option.none : Option Jvm.ClassFile.FieldType)) ∈ lw_all := lw_g (lw_at lw_m6 70 rfl) rfl
def kX1_function : xK := (yX1_function, cX1_function, 3, none, [])
theorem me_X1_function : xMe kX1_function 2 := ⟨q1466, q198, by decide, by decide, by decide +kernel⟩
theorem q1465 : (Jvm.Cond.instanceMethod ({ cls := "CompiledHouse$Parser", name := "function", desc := "(LCompiledHouse$Told;Z)V" } : Jvm.MethodName)) ∈ lw_all := lw_g (lw_at lw_m6 69 rfl) rfl
theorem is_X1_function : Cond.instanceMethod kX1_function.y ∈ lw_all := q1465
theorem se_X1_function : Cond.selects RX1 kX1_function.y kX1_function.y ∈ lw_all := qs32
theorem lk_X1_113 : xLk RX1 113 yX1_function := Or.inl q1463
theorem q1674 : (Jvm.Cond.methodLink "CompiledHouse$Parser" (117 : Nat) ({ cls := "CompiledHouse$Parser", name := "row", desc := "(LCompiledHouse$Told;Z)V" } : Jvm.MethodName)) ∈ lw_all := lw_g (lw_at lw_m7 38 rfl) rfl
abbrev cX1_row_2 : ByteArray := prog_27_method_15_code
def yX1_row_2 : MethodName := ⟨RX1, "row", "(LCompiledHouse$Told;Z)V"⟩
theorem q1677 : (Jvm.Cond.code ({ cls := "CompiledHouse$Parser", name := "row", desc := "(LCompiledHouse$Told;Z)V" } : Jvm.MethodName) prog_27_method_15_code (3 : Nat) (Option.none : Option Jvm.ClassFile.FieldType)) ∈ lw_all := lw_g (lw_at lw_m7 41 rfl) rfl
def kX1_row_2 : xK := (yX1_row_2, cX1_row_2, 3, none, [])
theorem me_X1_row_2 : xMe kX1_row_2 2 := ⟨q1677, q198, by decide, by decide, by decide +kernel⟩
theorem q1676 : (Jvm.Cond.instanceMethod ({ cls := "CompiledHouse$Parser", name := "row", desc := "(LCompiledHouse$Told;Z)V" } : Jvm.MethodName)) ∈ lw_all := lw_g (lw_at lw_m7 40 rfl) rfl
theorem is_X1_row_2 : Cond.instanceMethod kX1_row_2.y ∈ lw_all := q1676
theorem se_X1_row_2 : Cond.selects RX1 kX1_row_2.y kX1_row_2.y ∈ lw_all := qs41
theorem lk_X1_117 : xLk RX1 117 yX1_row_2 := Or.inl q1674
theorem q1088 : (Jvm.Cond.methodLink "CompiledHouse$Parser" (75 : Nat) ({ cls := "CompiledHouse$Parser", name := "fail", desc := "(I)LCompiledHouse$Stop;" } : Jvm.MethodName)) ∈ lw_all := lw_g (lw_at lw_m4 172 rfl) rfl
abbrev cX1_fail : ByteArray := prog_27_method_6_code
def yX1_fail : MethodName := ⟨RX1, "fail", "(I)LCompiledHouse$Stop;"⟩
theorem q1091 : (Jvm.Cond.code ({ cls := "CompiledHouse$Parser", name := "fail", desc := "(I)LCompiledHouse$Stop;" } : Jvm.MethodName) prog_27_method_6_code (2 : Nat) (Option.some (Jvm.ClassFile.FieldType.object "CompiledHouse$Stop"))) ∈ lw_all := lw_g (lw_at lw_m4 175 rfl) rfl
def kX1_fail : xK := (yX1_fail, cX1_fail, 2, some (.object "CompiledHouse$Stop"), [])
theorem me_X1_fail : xMe kX1_fail 1 := ⟨q1091, q198, by decide, by decide, by decide +kernel⟩
theorem q1090 : (Jvm.Cond.instanceMethod ({ cls := "CompiledHouse$Parser", name := "fail", desc := "(I)LCompiledHouse$Stop;" } : Jvm.MethodName)) ∈ lw_all := lw_g (lw_at lw_m4 174 rfl) rfl
theorem is_X1_fail : Cond.instanceMethod kX1_fail.y ∈ lw_all := q1090
theorem se_X1_fail : Cond.selects RX1 kX1_fail.y kX1_fail.y ∈ lw_all := qs16
theorem lk_X1_75 : xLk RX1 75 yX1_fail := Or.inl q1088
theorem q491 : (Jvm.Cond.fieldLink "CompiledHouse$Parser" (69 : Nat) "CompiledHouse$Parser" "place" "I") ∈ lw_all := lw_g (lw_at lw_m2 55 rfl) rfl
theorem f_X1_69_1 : xF RX1 69 1 6 := ⟨_, "CompiledHouse$Parser", rfl, by decide, Or.inl q491, Or.inl rfl⟩
theorem q342 : (Jvm.Cond.fieldLinkNest "CompiledHouse$Parser" (63 : Nat) "CompiledHouse$Tokens" "place" "[I" "CompiledHouse") ∈ lw_tbl := lw_at lw_m1 146 rfl
theorem f_X1_63_2 : xF RX1 63 2 3 := ⟨_, "CompiledHouse$Tokens", rfl, by decide, Or.inr ⟨_, q342⟩, Or.inl rfl⟩
theorem q344 : (Jvm.Cond.fieldLinkNest "CompiledHouse$Parser" (86 : Nat) "CompiledHouse$Tokens" "what" "[I" "CompiledHouse") ∈ lw_tbl := lw_at lw_m1 148 rfl
theorem f_X1_86_2 : xF RX1 86 2 4 := ⟨_, "CompiledHouse$Tokens", rfl, by decide, Or.inr ⟨_, q344⟩, Or.inl rfl⟩
theorem q1177 : (Jvm.Cond.methodLink "CompiledHouse$Parser" (259 : Nat) ({ cls := "CompiledHouse$Parser", name := "row", desc := "(I)LCompiledHouse$Expr;" } : Jvm.MethodName)) ∈ lw_all := lw_g (lw_at lw_m5 21 rfl) rfl
abbrev cX1_row : ByteArray := prog_27_method_30_code
def yX1_row : MethodName := ⟨RX1, "row", "(I)LCompiledHouse$Expr;"⟩
theorem q1180 : (Jvm.Cond.code ({ cls := "CompiledHouse$Parser", name := "row", desc := "(I)LCompiledHouse$Expr;" } : Jvm.MethodName) prog_27_method_30_code (9 : Nat) (Option.some (Jvm.ClassFile.FieldType.object "CompiledHouse$Expr"))) ∈ lw_all := lw_g (lw_at lw_m5 24 rfl) rfl
def kX1_row : xK := (yX1_row, cX1_row, 9, some (.object "CompiledHouse$Expr"), [])
theorem me_X1_row : xMe kX1_row 1 := ⟨q1180, q198, by decide, by decide, by decide +kernel⟩
theorem q1179 : (Jvm.Cond.instanceMethod ({ cls := "CompiledHouse$Parser", name := "row", desc := "(I)LCompiledHouse$Expr;" } : Jvm.MethodName)) ∈ lw_all := lw_g (lw_at lw_m5 23 rfl) rfl
theorem is_X1_row : Cond.instanceMethod kX1_row.y ∈ lw_all := q1179
theorem se_X1_row : Cond.selects RX1 kX1_row.y kX1_row.y ∈ lw_all := qs20
theorem lk_X1_259 : xLk RX1 259 yX1_row := Or.inl q1177
theorem q1224 : (Jvm.Cond.methodLink "CompiledHouse$Parser" (128 : Nat) ({ cls := "CompiledHouse$Parser", name := "opens", desc := "(I)V" } : Jvm.MethodName)) ∈ lw_all := lw_g (lw_at lw_m5 68 rfl) rfl
abbrev cX1_opens : ByteArray := prog_27_method_11_code
def yX1_opens : MethodName := ⟨RX1, "opens", "(I)V"⟩
theorem q1227 : (Jvm.Cond.code ({ cls := "CompiledHouse$Parser", name := "opens", desc := "(I)V" } : Jvm.MethodName) prog_27_method_11_code (2 : Nat) (Option.none : Option Jvm.ClassFile.FieldType)) ∈ lw_all := lw_g (lw_at lw_m5 71 rfl) rfl
def kX1_opens : xK := (yX1_opens, cX1_opens, 2, none, [])
theorem me_X1_opens : xMe kX1_opens 1 := ⟨q1227, q198, by decide, by decide, by decide +kernel⟩
theorem q1226 : (Jvm.Cond.instanceMethod ({ cls := "CompiledHouse$Parser", name := "opens", desc := "(I)V" } : Jvm.MethodName)) ∈ lw_all := lw_g (lw_at lw_m5 70 rfl) rfl
theorem is_X1_opens : Cond.instanceMethod kX1_opens.y ∈ lw_all := q1226
theorem se_X1_opens : Cond.selects RX1 kX1_opens.y kX1_opens.y ∈ lw_all := qs24
theorem lk_X1_128 : xLk RX1 128 yX1_opens := Or.inl q1224
theorem q1442 : (Jvm.Cond.classLink "CompiledHouse$Parser" (262 : Nat) "CompiledHouse$Choice") ∈ lw_all := lw_g (lw_at lw_m6 46 rfl) rfl
theorem q1444 : (Jvm.Cond.methodLink "CompiledHouse$Parser" (264 : Nat) ({ cls := "CompiledHouse$Choice", name := "<init>", desc := "(LCompiledHouse$Expr;LCompiledHouse$Expr;LCompiledHouse$Expr;)V" } : Jvm.MethodName)) ∈ lw_all := lw_g (lw_at lw_m6 48 rfl) rfl
abbrev cX23_init : ByteArray := prog_9_method_1_code
def yX23_init : MethodName := ⟨RX23, "<init>", "(LCompiledHouse$Expr;LCompiledHouse$Expr;LCompiledHouse$Expr;)V"⟩
theorem q1446 : (Jvm.Cond.code ({ cls := "CompiledHouse$Choice", name := "<init>", desc := "(LCompiledHouse$Expr;LCompiledHouse$Expr;LCompiledHouse$Expr;)V" } : Jvm.MethodName) prog_9_method_1_code (4 : Nat) (Option.none : Option Jvm.ClassFile.FieldType)) ∈ lw_all := lw_g (lw_at lw_m6 50 rfl) rfl
def kX23_init : xK := (yX23_init, cX23_init, 4, none, [])
theorem me_X23_init : xMe kX23_init 3 := ⟨q1446, q235, by decide, by decide, by decide +kernel⟩
theorem q1445 : (Jvm.Cond.instanceMethod ({ cls := "CompiledHouse$Choice", name := "<init>", desc := "(LCompiledHouse$Expr;LCompiledHouse$Expr;LCompiledHouse$Expr;)V" } : Jvm.MethodName)) ∈ lw_all := lw_g (lw_at lw_m6 49 rfl) rfl
theorem is_X23_init : Cond.instanceMethod kX23_init.y ∈ lw_all := q1445
theorem lk_X1_264 : xLk RX1 264 yX23_init := Or.inl q1444
theorem q1181 : (Jvm.Cond.methodLink "CompiledHouse$Parser" (267 : Nat) ({ cls := "CompiledHouse$Parser", name := "ahead", desc := "()LCompiledHouse$Expr;" } : Jvm.MethodName)) ∈ lw_all := lw_g (lw_at lw_m5 25 rfl) rfl
abbrev cX1_ahead : ByteArray := prog_27_method_32_code
def yX1_ahead : MethodName := ⟨RX1, "ahead", "()LCompiledHouse$Expr;"⟩
theorem q1184 : (Jvm.Cond.code ({ cls := "CompiledHouse$Parser", name := "ahead", desc := "()LCompiledHouse$Expr;" } : Jvm.MethodName) prog_27_method_32_code (6 : Nat) (Option.some (Jvm.ClassFile.FieldType.object "CompiledHouse$Expr"))) ∈ lw_all := lw_g (lw_at lw_m5 28 rfl) rfl
def kX1_ahead : xK := (yX1_ahead, cX1_ahead, 6, some (.object "CompiledHouse$Expr"), [])
theorem me_X1_ahead : xMe kX1_ahead 0 := ⟨q1184, q198, by decide, by decide, by decide +kernel⟩
theorem q1183 : (Jvm.Cond.instanceMethod ({ cls := "CompiledHouse$Parser", name := "ahead", desc := "()LCompiledHouse$Expr;" } : Jvm.MethodName)) ∈ lw_all := lw_g (lw_at lw_m5 27 rfl) rfl
theorem is_X1_ahead : Cond.instanceMethod kX1_ahead.y ∈ lw_all := q1183
theorem se_X1_ahead : Cond.selects RX1 kX1_ahead.y kX1_ahead.y ∈ lw_all := qs21
theorem lk_X1_267 : xLk RX1 267 yX1_ahead := Or.inl q1181
theorem q1393 : (Jvm.Cond.methodLink "CompiledHouse$Parser" (270 : Nat) ({ cls := "CompiledHouse$Parser", name := "actOf", desc := "(II)I" } : Jvm.MethodName)) ∈ lw_all := lw_g (lw_at lw_m5 237 rfl) rfl
theorem lk_X1_270 : xLk RX1 270 yX1_actOf := Or.inl q1393
theorem q1217 : (Jvm.Cond.methodLink "CompiledHouse$Parser" (134 : Nat) ({ cls := "java/util/ArrayList", name := "<init>", desc := "(I)V" } : Jvm.MethodName)) ∈ lw_all := lw_g (lw_at lw_m5 61 rfl) rfl
theorem lk_X1_134 : xLk RX1 134 yJ5_init_2 := Or.inl q1217
theorem q1228 : (Jvm.Cond.methodLink "CompiledHouse$Parser" (120 : Nat) ({ cls := "java/util/ArrayList", name := "add", desc := "(Ljava/lang/Object;)Z" } : Jvm.MethodName)) ∈ lw_all := lw_g (lw_at lw_m5 72 rfl) rfl
theorem lk_X1_120 : xLk RX1 120 yJ5_add := Or.inl q1228
theorem q1396 : (Jvm.Cond.classLink "CompiledHouse$Parser" (274 : Nat) "CompiledHouse$Logic") ∈ lw_all := lw_g (lw_at lw_m6 0 rfl) rfl
theorem q1398 : (Jvm.Cond.methodLink "CompiledHouse$Parser" (276 : Nat) ({ cls := "CompiledHouse$Logic", name := "<init>", desc := "(ZLjava/util/ArrayList;)V" } : Jvm.MethodName)) ∈ lw_all := lw_g (lw_at lw_m6 2 rfl) rfl
abbrev cX21_init : ByteArray := prog_20_method_1_code
def yX21_init : MethodName := ⟨RX21, "<init>", "(ZLjava/util/ArrayList;)V"⟩
theorem q1400 : (Jvm.Cond.code ({ cls := "CompiledHouse$Logic", name := "<init>", desc := "(ZLjava/util/ArrayList;)V" } : Jvm.MethodName) prog_20_method_1_code (3 : Nat) (Option.none : Option Jvm.ClassFile.FieldType)) ∈ lw_all := lw_g (lw_at lw_m6 4 rfl) rfl
def kX21_init : xK := (yX21_init, cX21_init, 3, none, [])
theorem me_X21_init : xMe kX21_init 2 := ⟨q1400, q232, by decide, by decide, by decide +kernel⟩
theorem q1399 : (Jvm.Cond.instanceMethod ({ cls := "CompiledHouse$Logic", name := "<init>", desc := "(ZLjava/util/ArrayList;)V" } : Jvm.MethodName)) ∈ lw_all := lw_g (lw_at lw_m6 3 rfl) rfl
theorem is_X21_init : Cond.instanceMethod kX21_init.y ∈ lw_all := q1399
theorem lk_X1_276 : xLk RX1 276 yX21_init := Or.inl q1398
theorem q1423 : (Jvm.Cond.classLink "CompiledHouse$Parser" (279 : Nat) "CompiledHouse$Chain") ∈ lw_all := lw_g (lw_at lw_m6 27 rfl) rfl
theorem q1425 : (Jvm.Cond.methodLink "CompiledHouse$Parser" (281 : Nat) ({ cls := "CompiledHouse$Parser", name := "cut", desc := "([II)[I" } : Jvm.MethodName)) ∈ lw_all := lw_g (lw_at lw_m6 29 rfl) rfl
abbrev cX1_cut : ByteArray := prog_27_method_31_code
def yX1_cut : MethodName := ⟨RX1, "cut", "([II)[I"⟩
theorem q1427 : (Jvm.Cond.code ({ cls := "CompiledHouse$Parser", name := "cut", desc := "([II)[I" } : Jvm.MethodName) prog_27_method_31_code (4 : Nat) (Option.some (Jvm.ClassFile.FieldType.array Jvm.ClassFile.FieldType.int))) ∈ lw_all := lw_g (lw_at lw_m6 31 rfl) rfl
def kX1_cut : xK := (yX1_cut, cX1_cut, 4, some (.array .int), [])
theorem me_X1_cut : xMe kX1_cut 2 := ⟨q1427, q198, by decide, by decide, by decide +kernel⟩
theorem q1426 : (Jvm.Cond.static ({ cls := "CompiledHouse$Parser", name := "cut", desc := "([II)[I" } : Jvm.MethodName)) ∈ lw_all := lw_g (lw_at lw_m6 30 rfl) rfl
theorem st_X1_cut : Cond.static kX1_cut.y ∈ lw_all := q1426
theorem lk_X1_281 : xLk RX1 281 yX1_cut := Or.inl q1425
theorem q1428 : (Jvm.Cond.methodLink "CompiledHouse$Parser" (285 : Nat) ({ cls := "CompiledHouse$Chain", name := "<init>", desc := "([ILjava/util/ArrayList;)V" } : Jvm.MethodName)) ∈ lw_all := lw_g (lw_at lw_m6 32 rfl) rfl
abbrev cX22_init : ByteArray := prog_8_method_1_code
def yX22_init : MethodName := ⟨RX22, "<init>", "([ILjava/util/ArrayList;)V"⟩
theorem q1430 : (Jvm.Cond.code ({ cls := "CompiledHouse$Chain", name := "<init>", desc := "([ILjava/util/ArrayList;)V" } : Jvm.MethodName) prog_8_method_1_code (3 : Nat) (Option.none : Option Jvm.ClassFile.FieldType)) ∈ lw_all := lw_g (lw_at lw_m6 34 rfl) rfl
def kX22_init : xK := (yX22_init, cX22_init, 3, none, [])
theorem me_X22_init : xMe kX22_init 2 := ⟨q1430, q234, by decide, by decide, by decide +kernel⟩
theorem q1429 : (Jvm.Cond.instanceMethod ({ cls := "CompiledHouse$Chain", name := "<init>", desc := "([ILjava/util/ArrayList;)V" } : Jvm.MethodName)) ∈ lw_all := lw_g (lw_at lw_m6 33 rfl) rfl
theorem is_X22_init : Cond.instanceMethod kX22_init.y ∈ lw_all := q1429
theorem lk_X1_285 : xLk RX1 285 yX22_init := Or.inl q1428
theorem q1185 : (Jvm.Cond.methodLink "CompiledHouse$Parser" (288 : Nat) ({ cls := "CompiledHouse$Parser", name := "operand", desc := "()LCompiledHouse$Expr;" } : Jvm.MethodName)) ∈ lw_all := lw_g (lw_at lw_m5 29 rfl) rfl
abbrev cX1_operand : ByteArray := prog_27_method_33_code
def yX1_operand : MethodName := ⟨RX1, "operand", "()LCompiledHouse$Expr;"⟩
theorem q1188 : (Jvm.Cond.code ({ cls := "CompiledHouse$Parser", name := "operand", desc := "()LCompiledHouse$Expr;" } : Jvm.MethodName) prog_27_method_33_code (3 : Nat) (Option.some (Jvm.ClassFile.FieldType.object "CompiledHouse$Expr"))) ∈ lw_all := lw_g (lw_at lw_m5 32 rfl) rfl
def kX1_operand : xK := (yX1_operand, cX1_operand, 3, some (.object "CompiledHouse$Expr"), [])
theorem me_X1_operand : xMe kX1_operand 0 := ⟨q1188, q198, by decide, by decide, by decide +kernel⟩
theorem q1187 : (Jvm.Cond.instanceMethod ({ cls := "CompiledHouse$Parser", name := "operand", desc := "()LCompiledHouse$Expr;" } : Jvm.MethodName)) ∈ lw_all := lw_g (lw_at lw_m5 31 rfl) rfl
theorem is_X1_operand : Cond.instanceMethod kX1_operand.y ∈ lw_all := q1187
theorem se_X1_operand : Cond.selects RX1 kX1_operand.y kX1_operand.y ∈ lw_all := qs22
theorem lk_X1_288 : xLk RX1 288 yX1_operand := Or.inl q1185
theorem q1379 : (Jvm.Cond.classLink "CompiledHouse$Parser" (291 : Nat) "CompiledHouse$Ahead") ∈ lw_all := lw_g (lw_at lw_m5 223 rfl) rfl
theorem q1381 : (Jvm.Cond.methodLink "CompiledHouse$Parser" (293 : Nat) ({ cls := "CompiledHouse$Ahead", name := "<init>", desc := "(I[ILCompiledHouse$Expr;)V" } : Jvm.MethodName)) ∈ lw_all := lw_g (lw_at lw_m5 225 rfl) rfl
abbrev cX20_init : ByteArray := prog_3_method_1_code
def yX20_init : MethodName := ⟨RX20, "<init>", "(I[ILCompiledHouse$Expr;)V"⟩
theorem q1383 : (Jvm.Cond.code ({ cls := "CompiledHouse$Ahead", name := "<init>", desc := "(I[ILCompiledHouse$Expr;)V" } : Jvm.MethodName) prog_3_method_1_code (4 : Nat) (Option.none : Option Jvm.ClassFile.FieldType)) ∈ lw_all := lw_g (lw_at lw_m5 227 rfl) rfl
def kX20_init : xK := (yX20_init, cX20_init, 4, none, [])
theorem me_X20_init : xMe kX20_init 3 := ⟨q1383, q231, by decide, by decide, by decide +kernel⟩
theorem q1382 : (Jvm.Cond.instanceMethod ({ cls := "CompiledHouse$Ahead", name := "<init>", desc := "(I[ILCompiledHouse$Expr;)V" } : Jvm.MethodName)) ∈ lw_all := lw_g (lw_at lw_m5 226 rfl) rfl
theorem is_X20_init : Cond.instanceMethod kX20_init.y ∈ lw_all := q1382
theorem lk_X1_293 : xLk RX1 293 yX20_init := Or.inl q1381
theorem q1189 : (Jvm.Cond.classLink "CompiledHouse$Parser" (296 : Nat) "CompiledHouse$Num") ∈ lw_all := lw_g (lw_at lw_m5 33 rfl) rfl
theorem q1191 : (Jvm.Cond.methodLink "CompiledHouse$Parser" (298 : Nat) ({ cls := "CompiledHouse$Num", name := "<init>", desc := "(II)V" } : Jvm.MethodName)) ∈ lw_all := lw_g (lw_at lw_m5 35 rfl) rfl
abbrev cX16_init : ByteArray := prog_24_method_1_code
def yX16_init : MethodName := ⟨RX16, "<init>", "(II)V"⟩
theorem q1193 : (Jvm.Cond.code ({ cls := "CompiledHouse$Num", name := "<init>", desc := "(II)V" } : Jvm.MethodName) prog_24_method_1_code (3 : Nat) (Option.none : Option Jvm.ClassFile.FieldType)) ∈ lw_all := lw_g (lw_at lw_m5 37 rfl) rfl
def kX16_init : xK := (yX16_init, cX16_init, 3, none, [])
theorem me_X16_init : xMe kX16_init 2 := ⟨q1193, q223, by decide, by decide, by decide +kernel⟩
theorem q1192 : (Jvm.Cond.instanceMethod ({ cls := "CompiledHouse$Num", name := "<init>", desc := "(II)V" } : Jvm.MethodName)) ∈ lw_all := lw_g (lw_at lw_m5 36 rfl) rfl
theorem is_X16_init : Cond.instanceMethod kX16_init.y ∈ lw_all := q1192
theorem lk_X1_298 : xLk RX1 298 yX16_init := Or.inl q1191
theorem q1213 : (Jvm.Cond.methodLink "CompiledHouse$Parser" (231 : Nat) ({ cls := "CompiledHouse$Parser", name := "call", desc := "(II)LCompiledHouse$Call;" } : Jvm.MethodName)) ∈ lw_all := lw_g (lw_at lw_m5 57 rfl) rfl
abbrev cX1_call : ByteArray := prog_27_method_27_code
def yX1_call : MethodName := ⟨RX1, "call", "(II)LCompiledHouse$Call;"⟩
theorem q1216 : (Jvm.Cond.code ({ cls := "CompiledHouse$Parser", name := "call", desc := "(II)LCompiledHouse$Call;" } : Jvm.MethodName) prog_27_method_27_code (5 : Nat) (Option.some (Jvm.ClassFile.FieldType.object "CompiledHouse$Call"))) ∈ lw_all := lw_g (lw_at lw_m5 60 rfl) rfl
def kX1_call : xK := (yX1_call, cX1_call, 5, some (.object "CompiledHouse$Call"), [])
theorem me_X1_call : xMe kX1_call 2 := ⟨q1216, q198, by decide, by decide, by decide +kernel⟩
theorem q1215 : (Jvm.Cond.instanceMethod ({ cls := "CompiledHouse$Parser", name := "call", desc := "(II)LCompiledHouse$Call;" } : Jvm.MethodName)) ∈ lw_all := lw_g (lw_at lw_m5 59 rfl) rfl
theorem is_X1_call : Cond.instanceMethod kX1_call.y ∈ lw_all := q1215
theorem se_X1_call : Cond.selects RX1 kX1_call.y kX1_call.y ∈ lw_all := qs23
theorem lk_X1_231 : xLk RX1 231 yX1_call := Or.inl q1213
theorem q1336 : (Jvm.Cond.methodLink "CompiledHouse$Parser" (238 : Nat) ({ cls := "CompiledHouse$Parser", name := "place", desc := "(II)LCompiledHouse$Name;" } : Jvm.MethodName)) ∈ lw_all := lw_g (lw_at lw_m5 180 rfl) rfl
abbrev cX1_place : ByteArray := prog_27_method_26_code
def yX1_place : MethodName := ⟨RX1, "place", "(II)LCompiledHouse$Name;"⟩
theorem q1339 : (Jvm.Cond.code ({ cls := "CompiledHouse$Parser", name := "place", desc := "(II)LCompiledHouse$Name;" } : Jvm.MethodName) prog_27_method_26_code (5 : Nat) (Option.some (Jvm.ClassFile.FieldType.object "CompiledHouse$Name"))) ∈ lw_all := lw_g (lw_at lw_m5 183 rfl) rfl
def kX1_place : xK := (yX1_place, cX1_place, 5, some (.object "CompiledHouse$Name"), [])
theorem me_X1_place : xMe kX1_place 2 := ⟨q1339, q198, by decide, by decide, by decide +kernel⟩
theorem q1338 : (Jvm.Cond.instanceMethod ({ cls := "CompiledHouse$Parser", name := "place", desc := "(II)LCompiledHouse$Name;" } : Jvm.MethodName)) ∈ lw_all := lw_g (lw_at lw_m5 182 rfl) rfl
theorem is_X1_place : Cond.instanceMethod kX1_place.y ∈ lw_all := q1338
theorem se_X1_place : Cond.selects RX1 kX1_place.y kX1_place.y ∈ lw_all := qs29
theorem lk_X1_238 : xLk RX1 238 yX1_place := Or.inl q1336
theorem q1312 : (Jvm.Cond.methodLink "CompiledHouse$Parser" (131 : Nat) ({ cls := "CompiledHouse$Parser", name := "closes", desc := "(I)V" } : Jvm.MethodName)) ∈ lw_all := lw_g (lw_at lw_m5 156 rfl) rfl
abbrev cX1_closes : ByteArray := prog_27_method_12_code
def yX1_closes : MethodName := ⟨RX1, "closes", "(I)V"⟩
theorem q1315 : (Jvm.Cond.code ({ cls := "CompiledHouse$Parser", name := "closes", desc := "(I)V" } : Jvm.MethodName) prog_27_method_12_code (2 : Nat) (Option.none : Option Jvm.ClassFile.FieldType)) ∈ lw_all := lw_g (lw_at lw_m5 159 rfl) rfl
def kX1_closes : xK := (yX1_closes, cX1_closes, 2, none, [])
theorem me_X1_closes : xMe kX1_closes 1 := ⟨q1315, q198, by decide, by decide, by decide +kernel⟩
theorem q1314 : (Jvm.Cond.instanceMethod ({ cls := "CompiledHouse$Parser", name := "closes", desc := "(I)V" } : Jvm.MethodName)) ∈ lw_all := lw_g (lw_at lw_m5 158 rfl) rfl
theorem is_X1_closes : Cond.instanceMethod kX1_closes.y ∈ lw_all := q1314
theorem se_X1_closes : Cond.selects RX1 kX1_closes.y kX1_closes.y ∈ lw_all := qs28
theorem lk_X1_131 : xLk RX1 131 yX1_closes := Or.inl q1312
theorem q1364 : (Jvm.Cond.classLink "CompiledHouse$Parser" (301 : Nat) "CompiledHouse$Get") ∈ lw_all := lw_g (lw_at lw_m5 208 rfl) rfl
theorem q1366 : (Jvm.Cond.methodLink "CompiledHouse$Parser" (303 : Nat) ({ cls := "CompiledHouse$Get", name := "<init>", desc := "(I)V" } : Jvm.MethodName)) ∈ lw_all := lw_g (lw_at lw_m5 210 rfl) rfl
abbrev cX19_init : ByteArray := prog_15_method_1_code
def yX19_init : MethodName := ⟨RX19, "<init>", "(I)V"⟩
theorem q1368 : (Jvm.Cond.code ({ cls := "CompiledHouse$Get", name := "<init>", desc := "(I)V" } : Jvm.MethodName) prog_15_method_1_code (2 : Nat) (Option.none : Option Jvm.ClassFile.FieldType)) ∈ lw_all := lw_g (lw_at lw_m5 212 rfl) rfl
def kX19_init : xK := (yX19_init, cX19_init, 2, none, [])
theorem me_X19_init : xMe kX19_init 1 := ⟨q1368, q230, by decide, by decide, by decide +kernel⟩
theorem q1367 : (Jvm.Cond.instanceMethod ({ cls := "CompiledHouse$Get", name := "<init>", desc := "(I)V" } : Jvm.MethodName)) ∈ lw_all := lw_g (lw_at lw_m5 211 rfl) rfl
theorem is_X19_init : Cond.instanceMethod kX19_init.y ∈ lw_all := q1367
theorem lk_X1_303 : xLk RX1 303 yX19_init := Or.inl q1366
theorem q1375 : (Jvm.Cond.methodLink "CompiledHouse$Parser" (197 : Nat) ({ cls := "CompiledHouse$Parser", name := "inside", desc := "()LCompiledHouse$Expr;" } : Jvm.MethodName)) ∈ lw_all := lw_g (lw_at lw_m5 219 rfl) rfl
abbrev cX1_inside : ByteArray := prog_27_method_21_code
def yX1_inside : MethodName := ⟨RX1, "inside", "()LCompiledHouse$Expr;"⟩
theorem q1378 : (Jvm.Cond.code ({ cls := "CompiledHouse$Parser", name := "inside", desc := "()LCompiledHouse$Expr;" } : Jvm.MethodName) prog_27_method_21_code (2 : Nat) (Option.some (Jvm.ClassFile.FieldType.object "CompiledHouse$Expr"))) ∈ lw_all := lw_g (lw_at lw_m5 222 rfl) rfl
def kX1_inside : xK := (yX1_inside, cX1_inside, 2, some (.object "CompiledHouse$Expr"), [])
theorem me_X1_inside : xMe kX1_inside 0 := ⟨q1378, q198, by decide, by decide, by decide +kernel⟩
theorem q1377 : (Jvm.Cond.instanceMethod ({ cls := "CompiledHouse$Parser", name := "inside", desc := "()LCompiledHouse$Expr;" } : Jvm.MethodName)) ∈ lw_all := lw_g (lw_at lw_m5 221 rfl) rfl
theorem is_X1_inside : Cond.instanceMethod kX1_inside.y ∈ lw_all := q1377
theorem se_X1_inside : Cond.selects RX1 kX1_inside.y kX1_inside.y ∈ lw_all := qs30
theorem lk_X1_197 : xLk RX1 197 yX1_inside := Or.inl q1375
theorem q1207 : (Jvm.Cond.fieldLink "CompiledHouse$Parser" (304 : Nat) "CompiledHouse$Expr" "first" "I") ∈ lw_all := lw_g (lw_at lw_m5 51 rfl) rfl
theorem f_X1_304_14 : xF RX1 304 14 0 := ⟨_, "CompiledHouse$Expr", rfl, by decide, Or.inl q1207, Or.inl rfl⟩
theorem f_X1_304_15 : xF RX1 304 15 0 := ⟨_, "CompiledHouse$Expr", rfl, by decide, Or.inl q1207, Or.inl rfl⟩
theorem f_X1_304_16 : xF RX1 304 16 0 := ⟨_, "CompiledHouse$Expr", rfl, by decide, Or.inl q1207, Or.inl rfl⟩
theorem f_X1_304_17 : xF RX1 304 17 0 := ⟨_, "CompiledHouse$Expr", rfl, by decide, Or.inl q1207, Or.inl rfl⟩
theorem f_X1_304_18 : xF RX1 304 18 0 := ⟨_, "CompiledHouse$Expr", rfl, by decide, Or.inl q1207, Or.inl rfl⟩
theorem f_X1_304_19 : xF RX1 304 19 0 := ⟨_, "CompiledHouse$Expr", rfl, by decide, Or.inl q1207, Or.inl rfl⟩
theorem f_X1_304_20 : xF RX1 304 20 0 := ⟨_, "CompiledHouse$Expr", rfl, by decide, Or.inl q1207, Or.inl rfl⟩
theorem f_X1_304_21 : xF RX1 304 21 0 := ⟨_, "CompiledHouse$Expr", rfl, by decide, Or.inl q1207, Or.inl rfl⟩
theorem q1316 : (Jvm.Cond.classLink "CompiledHouse$Parser" (254 : Nat) "CompiledHouse$Call") ∈ lw_all := lw_g (lw_at lw_m5 160 rfl) rfl
theorem q1318 : (Jvm.Cond.methodLink "CompiledHouse$Parser" (256 : Nat) ({ cls := "CompiledHouse$Call", name := "<init>", desc := "(IILjava/util/ArrayList;I)V" } : Jvm.MethodName)) ∈ lw_all := lw_g (lw_at lw_m5 162 rfl) rfl
abbrev cX17_init : ByteArray := prog_7_method_1_code
def yX17_init : MethodName := ⟨RX17, "<init>", "(IILjava/util/ArrayList;I)V"⟩
theorem q1320 : (Jvm.Cond.code ({ cls := "CompiledHouse$Call", name := "<init>", desc := "(IILjava/util/ArrayList;I)V" } : Jvm.MethodName) prog_7_method_1_code (5 : Nat) (Option.none : Option Jvm.ClassFile.FieldType)) ∈ lw_all := lw_g (lw_at lw_m5 164 rfl) rfl
def kX17_init : xK := (yX17_init, cX17_init, 5, none, [])
theorem me_X17_init : xMe kX17_init 4 := ⟨q1320, q228, by decide, by decide, by decide +kernel⟩
theorem q1319 : (Jvm.Cond.instanceMethod ({ cls := "CompiledHouse$Call", name := "<init>", desc := "(IILjava/util/ArrayList;I)V" } : Jvm.MethodName)) ∈ lw_all := lw_g (lw_at lw_m5 163 rfl) rfl
theorem is_X17_init : Cond.instanceMethod kX17_init.y ∈ lw_all := q1319
theorem lk_X1_256 : xLk RX1 256 yX17_init := Or.inl q1318
theorem dX1_init_0 : decode cX1_init 0 = .ok (.aload_n 0, 1) := by decide +kernel
theorem dX1_init_1 : decode cX1_init 1 = .ok (.invokespecial 3, 3) := by decide +kernel
theorem dX1_init_4 : decode cX1_init 4 = .ok (.aload_n 0, 1) := by decide +kernel
theorem dX1_init_5 : decode cX1_init 5 = .ok (.new 9, 3) := by decide +kernel
theorem dX1_init_8 : decode cX1_init 8 = .ok (.dup, 1) := by decide +kernel
theorem dX1_init_9 : decode cX1_init 9 = .ok (.invokespecial 11, 3) := by decide +kernel
theorem dX1_init_12 : decode cX1_init 12 = .ok (.putfield 12, 3) := by decide +kernel
theorem dX1_init_15 : decode cX1_init 15 = .ok (.aload_n 0, 1) := by decide +kernel
theorem dX1_init_16 : decode cX1_init 16 = .ok (.new 18, 3) := by decide +kernel
theorem dX1_init_19 : decode cX1_init 19 = .ok (.dup, 1) := by decide +kernel
theorem dX1_init_20 : decode cX1_init 20 = .ok (.invokespecial 20, 3) := by decide +kernel
theorem dX1_init_23 : decode cX1_init 23 = .ok (.putfield 21, 3) := by decide +kernel
theorem dX1_init_26 : decode cX1_init 26 = .ok (.aload_n 0, 1) := by decide +kernel
theorem dX1_init_27 : decode cX1_init 27 = .ok (.new 25, 3) := by decide +kernel
theorem dX1_init_30 : decode cX1_init 30 = .ok (.dup, 1) := by decide +kernel
theorem dX1_init_31 : decode cX1_init 31 = .ok (.invokespecial 27, 3) := by decide +kernel
theorem dX1_init_34 : decode cX1_init 34 = .ok (.putfield 28, 3) := by decide +kernel
theorem dX1_init_37 : decode cX1_init 37 = .ok (.return_, 1) := by decide +kernel
theorem dX1_read_0 : decode cX1_read 0 = .ok (.aload_n 0, 1) := by decide +kernel
theorem dX1_read_1 : decode cX1_read 1 = .ok (.getfield 12, 3) := by decide +kernel
theorem dX1_read_4 : decode cX1_read 4 = .ok (.aload_n 1, 1) := by decide +kernel
theorem dX1_read_5 : decode cX1_read 5 = .ok (.iload_n 2, 1) := by decide +kernel
theorem dX1_read_6 : decode cX1_read 6 = .ok (.invokevirtual 32, 3) := by decide +kernel
theorem dX1_read_9 : decode cX1_read 9 = .ok (.aload_n 0, 1) := by decide +kernel
theorem dX1_read_10 : decode cX1_read 10 = .ok (.iconst 0, 1) := by decide +kernel
theorem dX1_read_11 : decode cX1_read 11 = .ok (.putfield 36, 3) := by decide +kernel
theorem dX1_read_14 : decode cX1_read 14 = .ok (.aload_n 0, 1) := by decide +kernel
theorem dX1_read_15 : decode cX1_read 15 = .ok (.iconst 0, 1) := by decide +kernel
theorem dX1_read_16 : decode cX1_read 16 = .ok (.putfield 40, 3) := by decide +kernel
theorem dX1_read_19 : decode cX1_read 19 = .ok (.aload_n 0, 1) := by decide +kernel
theorem dX1_read_20 : decode cX1_read 20 = .ok (.iconst 0, 1) := by decide +kernel
theorem dX1_read_21 : decode cX1_read 21 = .ok (.putfield 43, 3) := by decide +kernel
theorem dX1_read_24 : decode cX1_read 24 = .ok (.aload_n 0, 1) := by decide +kernel
theorem dX1_read_25 : decode cX1_read 25 = .ok (.new 46, 3) := by decide +kernel
theorem dX1_read_28 : decode cX1_read 28 = .ok (.dup, 1) := by decide +kernel
theorem dX1_read_29 : decode cX1_read 29 = .ok (.invokespecial 48, 3) := by decide +kernel
theorem dX1_read_32 : decode cX1_read 32 = .ok (.putfield 49, 3) := by decide +kernel
theorem dX1_read_35 : decode cX1_read 35 = .ok (.aload_n 0, 1) := by decide +kernel
theorem dX1_read_36 : decode cX1_read 36 = .ok (.invokevirtual 53, 3) := by decide +kernel
theorem dX1_read_39 : decode cX1_read 39 = .ok (.ifCond .eq 10, 3) := by decide +kernel
theorem dX1_read_42 : decode cX1_read 42 = .ok (.aload_n 0, 1) := by decide +kernel
theorem dX1_read_43 : decode cX1_read 43 = .ok (.invokevirtual 57, 3) := by decide +kernel
theorem dX1_read_46 : decode cX1_read 46 = .ok (.goto (-11), 3) := by decide +kernel
theorem dX1_read_49 : decode cX1_read 49 = .ok (.goto 6, 3) := by decide +kernel
theorem dX1_read_52 : decode cX1_read 52 = .ok (.astore_n 3, 1) := by decide +kernel
theorem dX1_read_53 : decode cX1_read 53 = .ok (.aconst_null, 1) := by decide +kernel
theorem dX1_read_54 : decode cX1_read 54 = .ok (.areturn, 1) := by decide +kernel
theorem dX1_read_55 : decode cX1_read 55 = .ok (.aload_n 0, 1) := by decide +kernel
theorem dX1_read_56 : decode cX1_read 56 = .ok (.getfield 49, 3) := by decide +kernel
theorem dX1_read_59 : decode cX1_read 59 = .ok (.areturn, 1) := by decide +kernel
theorem dX1_kind_0 : decode cX1_kind 0 = .ok (.aload_n 0, 1) := by decide +kernel
theorem dX1_kind_1 : decode cX1_kind 1 = .ok (.getfield 12, 3) := by decide +kernel
theorem dX1_kind_4 : decode cX1_kind 4 = .ok (.getfield 60, 3) := by decide +kernel
theorem dX1_kind_7 : decode cX1_kind 7 = .ok (.aload_n 0, 1) := by decide +kernel
theorem dX1_kind_8 : decode cX1_kind 8 = .ok (.getfield 36, 3) := by decide +kernel
theorem dX1_kind_11 : decode cX1_kind 11 = .ok (.iaload, 1) := by decide +kernel
theorem dX1_kind_12 : decode cX1_kind 12 = .ok (.ireturn, 1) := by decide +kernel
theorem dX1_told_0 : decode cX1_told 0 = .ok (.aload_n 0, 1) := by decide +kernel
theorem dX1_told_1 : decode cX1_told 1 = .ok (.bipush 13, 2) := by decide +kernel
theorem dX1_told_3 : decode cX1_told 3 = .ok (.invokevirtual 79, 3) := by decide +kernel
theorem dX1_told_6 : decode cX1_told 6 = .ok (.ifCond .eq 46, 3) := by decide +kernel
theorem dX1_told_9 : decode cX1_told 9 = .ok (.aload_n 0, 1) := by decide +kernel
theorem dX1_told_10 : decode cX1_told 10 = .ok (.bipush 10, 2) := by decide +kernel
theorem dX1_told_12 : decode cX1_told 12 = .ok (.invokevirtual 89, 3) := by decide +kernel
theorem dX1_told_15 : decode cX1_told 15 = .ok (.new 93, 3) := by decide +kernel
theorem dX1_told_18 : decode cX1_told 18 = .ok (.dup, 1) := by decide +kernel
theorem dX1_told_19 : decode cX1_told 19 = .ok (.iconst 0, 1) := by decide +kernel
theorem dX1_told_20 : decode cX1_told 20 = .ok (.aload_n 0, 1) := by decide +kernel
theorem dX1_told_21 : decode cX1_told 21 = .ok (.invokevirtual 66, 3) := by decide +kernel
theorem dX1_told_24 : decode cX1_told 24 = .ok (.aload_n 0, 1) := by decide +kernel
theorem dX1_told_25 : decode cX1_told 25 = .ok (.invokevirtual 95, 3) := by decide +kernel
theorem dX1_told_28 : decode cX1_told 28 = .ok (.invokespecial 98, 3) := by decide +kernel
theorem dX1_told_31 : decode cX1_told 31 = .ok (.astore_n 1, 1) := by decide +kernel
theorem dX1_told_32 : decode cX1_told 32 = .ok (.aload_n 0, 1) := by decide +kernel
theorem dX1_told_33 : decode cX1_told 33 = .ok (.bipush 72, 2) := by decide +kernel
theorem dX1_told_35 : decode cX1_told 35 = .ok (.invokevirtual 89, 3) := by decide +kernel
theorem dX1_told_38 : decode cX1_told 38 = .ok (.aload_n 1, 1) := by decide +kernel
theorem dX1_told_39 : decode cX1_told 39 = .ok (.aload_n 0, 1) := by decide +kernel
theorem dX1_told_40 : decode cX1_told 40 = .ok (.invokevirtual 101, 3) := by decide +kernel
theorem dX1_told_43 : decode cX1_told 43 = .ok (.putfield 105, 3) := by decide +kernel
theorem dX1_told_46 : decode cX1_told 46 = .ok (.aload_n 0, 1) := by decide +kernel
theorem dX1_told_47 : decode cX1_told 47 = .ok (.aload_n 1, 1) := by decide +kernel
theorem dX1_told_48 : decode cX1_told 48 = .ok (.invokevirtual 109, 3) := by decide +kernel
theorem dX1_told_51 : decode cX1_told 51 = .ok (.return_, 1) := by decide +kernel
theorem dX1_told_52 : decode cX1_told 52 = .ok (.aload_n 0, 1) := by decide +kernel
theorem dX1_told_53 : decode cX1_told 53 = .ok (.bipush 12, 2) := by decide +kernel
theorem dX1_told_55 : decode cX1_told 55 = .ok (.invokevirtual 71, 3) := by decide +kernel
theorem dX1_told_58 : decode cX1_told 58 = .ok (.istore_n 1, 1) := by decide +kernel
theorem dX1_told_59 : decode cX1_told 59 = .ok (.aload_n 0, 1) := by decide +kernel
theorem dX1_told_60 : decode cX1_told 60 = .ok (.bipush 11, 2) := by decide +kernel
theorem dX1_told_62 : decode cX1_told 62 = .ok (.invokevirtual 71, 3) := by decide +kernel
theorem dX1_told_65 : decode cX1_told 65 = .ok (.istore_n 2, 1) := by decide +kernel
theorem dX1_told_66 : decode cX1_told 66 = .ok (.iload_n 1, 1) := by decide +kernel
theorem dX1_told_67 : decode cX1_told 67 = .ok (.ifCond .ne 21, 3) := by decide +kernel
theorem dX1_told_70 : decode cX1_told 70 = .ok (.iload_n 2, 1) := by decide +kernel
theorem dX1_told_71 : decode cX1_told 71 = .ok (.ifCond .ne 17, 3) := by decide +kernel
theorem dX1_told_74 : decode cX1_told 74 = .ok (.aload_n 0, 1) := by decide +kernel
theorem dX1_told_75 : decode cX1_told 75 = .ok (.bipush 10, 2) := by decide +kernel
theorem dX1_told_77 : decode cX1_told 77 = .ok (.invokevirtual 71, 3) := by decide +kernel
theorem dX1_told_80 : decode cX1_told 80 = .ok (.ifCond .ne 8, 3) := by decide +kernel
theorem dX1_told_83 : decode cX1_told 83 = .ok (.aload_n 0, 1) := by decide +kernel
theorem dX1_told_84 : decode cX1_told 84 = .ok (.invokevirtual 82, 3) := by decide +kernel
theorem dX1_told_87 : decode cX1_told 87 = .ok (.athrow, 1) := by decide +kernel
theorem dX1_told_88 : decode cX1_told 88 = .ok (.aload_n 0, 1) := by decide +kernel
theorem dX1_told_89 : decode cX1_told 89 = .ok (.dup, 1) := by decide +kernel
theorem dX1_told_90 : decode cX1_told 90 = .ok (.getfield 36, 3) := by decide +kernel
theorem dX1_told_93 : decode cX1_told 93 = .ok (.iconst 1, 1) := by decide +kernel
theorem dX1_told_94 : decode cX1_told 94 = .ok (.iadd, 1) := by decide +kernel
theorem dX1_told_95 : decode cX1_told 95 = .ok (.putfield 36, 3) := by decide +kernel
theorem dX1_told_98 : decode cX1_told 98 = .ok (.aload_n 0, 1) := by decide +kernel
theorem dX1_told_99 : decode cX1_told 99 = .ok (.invokevirtual 66, 3) := by decide +kernel
theorem dX1_told_102 : decode cX1_told 102 = .ok (.istore_n 3, 1) := by decide +kernel
theorem dX1_told_103 : decode cX1_told 103 = .ok (.aload_n 0, 1) := by decide +kernel
theorem dX1_told_104 : decode cX1_told 104 = .ok (.invokevirtual 95, 3) := by decide +kernel
theorem dX1_told_107 : decode cX1_told 107 = .ok (.istore 4, 2) := by decide +kernel
theorem dX1_told_109 : decode cX1_told 109 = .ok (.iload_n 2, 1) := by decide +kernel
theorem dX1_told_110 : decode cX1_told 110 = .ok (.ifCond .ne 36, 3) := by decide +kernel
theorem dX1_told_113 : decode cX1_told 113 = .ok (.iload_n 1, 1) := by decide +kernel
theorem dX1_told_114 : decode cX1_told 114 = .ok (.ifCond .ne 12, 3) := by decide +kernel
theorem dX1_told_117 : decode cX1_told 117 = .ok (.aload_n 0, 1) := by decide +kernel
theorem dX1_told_118 : decode cX1_told 118 = .ok (.bipush 62, 2) := by decide +kernel
theorem dX1_told_120 : decode cX1_told 120 = .ok (.invokevirtual 71, 3) := by decide +kernel
theorem dX1_told_123 : decode cX1_told 123 = .ok (.ifCond .eq 23, 3) := by decide +kernel
theorem dX1_told_126 : decode cX1_told 126 = .ok (.aload_n 0, 1) := by decide +kernel
theorem dX1_told_127 : decode cX1_told 127 = .ok (.new 93, 3) := by decide +kernel
theorem dX1_told_130 : decode cX1_told 130 = .ok (.dup, 1) := by decide +kernel
theorem dX1_told_131 : decode cX1_told 131 = .ok (.bipush 6, 2) := by decide +kernel
theorem dX1_told_133 : decode cX1_told 133 = .ok (.iload_n 3, 1) := by decide +kernel
theorem dX1_told_134 : decode cX1_told 134 = .ok (.iload 4, 2) := by decide +kernel
theorem dX1_told_136 : decode cX1_told 136 = .ok (.invokespecial 98, 3) := by decide +kernel
theorem dX1_told_139 : decode cX1_told 139 = .ok (.iload_n 1, 1) := by decide +kernel
theorem dX1_told_140 : decode cX1_told 140 = .ok (.invokevirtual 113, 3) := by decide +kernel
theorem dX1_told_143 : decode cX1_told 143 = .ok (.goto 76, 3) := by decide +kernel
theorem dX1_told_146 : decode cX1_told 146 = .ok (.iload_n 2, 1) := by decide +kernel
theorem dX1_told_147 : decode cX1_told 147 = .ok (.ifCond .ne 12, 3) := by decide +kernel
theorem dX1_told_150 : decode cX1_told 150 = .ok (.aload_n 0, 1) := by decide +kernel
theorem dX1_told_151 : decode cX1_told 151 = .ok (.bipush 64, 2) := by decide +kernel
theorem dX1_told_153 : decode cX1_told 153 = .ok (.invokevirtual 71, 3) := by decide +kernel
theorem dX1_told_156 : decode cX1_told 156 = .ok (.ifCond .eq 22, 3) := by decide +kernel
theorem dX1_told_159 : decode cX1_told 159 = .ok (.aload_n 0, 1) := by decide +kernel
theorem dX1_told_160 : decode cX1_told 160 = .ok (.new 93, 3) := by decide +kernel
theorem dX1_told_163 : decode cX1_told 163 = .ok (.dup, 1) := by decide +kernel
theorem dX1_told_164 : decode cX1_told 164 = .ok (.iconst 2, 1) := by decide +kernel
theorem dX1_told_165 : decode cX1_told 165 = .ok (.iload_n 3, 1) := by decide +kernel
theorem dX1_told_166 : decode cX1_told 166 = .ok (.iload 4, 2) := by decide +kernel
theorem dX1_told_168 : decode cX1_told 168 = .ok (.invokespecial 98, 3) := by decide +kernel
theorem dX1_told_171 : decode cX1_told 171 = .ok (.iload_n 2, 1) := by decide +kernel
theorem dX1_told_172 : decode cX1_told 172 = .ok (.invokevirtual 117, 3) := by decide +kernel
theorem dX1_told_175 : decode cX1_told 175 = .ok (.goto 44, 3) := by decide +kernel
theorem dX1_told_178 : decode cX1_told 178 = .ok (.new 93, 3) := by decide +kernel
theorem dX1_told_181 : decode cX1_told 181 = .ok (.dup, 1) := by decide +kernel
theorem dX1_told_182 : decode cX1_told 182 = .ok (.iconst 1, 1) := by decide +kernel
theorem dX1_told_183 : decode cX1_told 183 = .ok (.iload_n 3, 1) := by decide +kernel
theorem dX1_told_184 : decode cX1_told 184 = .ok (.iload 4, 2) := by decide +kernel
theorem dX1_told_186 : decode cX1_told 186 = .ok (.invokespecial 98, 3) := by decide +kernel
theorem dX1_told_189 : decode cX1_told 189 = .ok (.astore 5, 2) := by decide +kernel
theorem dX1_told_191 : decode cX1_told 191 = .ok (.aload 5, 2) := by decide +kernel
theorem dX1_told_193 : decode cX1_told 193 = .ok (.aload_n 0, 1) := by decide +kernel
theorem dX1_told_194 : decode cX1_told 194 = .ok (.bipush 72, 2) := by decide +kernel
theorem dX1_told_196 : decode cX1_told 196 = .ok (.invokevirtual 79, 3) := by decide +kernel
theorem dX1_told_199 : decode cX1_told 199 = .ok (.ifCond .eq 10, 3) := by decide +kernel
theorem dX1_told_202 : decode cX1_told 202 = .ok (.aload_n 0, 1) := by decide +kernel
theorem dX1_told_203 : decode cX1_told 203 = .ok (.invokevirtual 101, 3) := by decide +kernel
theorem dX1_told_206 : decode cX1_told 206 = .ok (.goto 4, 3) := by decide +kernel
theorem dX1_told_209 : decode cX1_told 209 = .ok (.aconst_null, 1) := by decide +kernel
theorem dX1_told_210 : decode cX1_told 210 = .ok (.putfield 105, 3) := by decide +kernel
theorem dX1_told_213 : decode cX1_told 213 = .ok (.aload_n 0, 1) := by decide +kernel
theorem dX1_told_214 : decode cX1_told 214 = .ok (.aload 5, 2) := by decide +kernel
theorem dX1_told_216 : decode cX1_told 216 = .ok (.invokevirtual 109, 3) := by decide +kernel
theorem dX1_told_219 : decode cX1_told 219 = .ok (.return_, 1) := by decide +kernel
theorem dX1_takes_0 : decode cX1_takes 0 = .ok (.aload_n 0, 1) := by decide +kernel
theorem dX1_takes_1 : decode cX1_takes 1 = .ok (.iload_n 1, 1) := by decide +kernel
theorem dX1_takes_2 : decode cX1_takes 2 = .ok (.invokevirtual 71, 3) := by decide +kernel
theorem dX1_takes_5 : decode cX1_takes 5 = .ok (.ifCond .ne 5, 3) := by decide +kernel
theorem dX1_takes_8 : decode cX1_takes 8 = .ok (.iconst 0, 1) := by decide +kernel
theorem dX1_takes_9 : decode cX1_takes 9 = .ok (.ireturn, 1) := by decide +kernel
theorem dX1_takes_10 : decode cX1_takes 10 = .ok (.aload_n 0, 1) := by decide +kernel
theorem dX1_takes_11 : decode cX1_takes 11 = .ok (.dup, 1) := by decide +kernel
theorem dX1_takes_12 : decode cX1_takes 12 = .ok (.getfield 36, 3) := by decide +kernel
theorem dX1_takes_15 : decode cX1_takes 15 = .ok (.iconst 1, 1) := by decide +kernel
theorem dX1_takes_16 : decode cX1_takes 16 = .ok (.iadd, 1) := by decide +kernel
theorem dX1_takes_17 : decode cX1_takes 17 = .ok (.putfield 36, 3) := by decide +kernel
theorem dX1_takes_20 : decode cX1_takes 20 = .ok (.iconst 1, 1) := by decide +kernel
theorem dX1_takes_21 : decode cX1_takes 21 = .ok (.ireturn, 1) := by decide +kernel
theorem dX1_is_0 : decode cX1_is 0 = .ok (.aload_n 0, 1) := by decide +kernel
theorem dX1_is_1 : decode cX1_is 1 = .ok (.invokevirtual 53, 3) := by decide +kernel
theorem dX1_is_4 : decode cX1_is 4 = .ok (.iload_n 1, 1) := by decide +kernel
theorem dX1_is_5 : decode cX1_is 5 = .ok (.if_icmp .ne 7, 3) := by decide +kernel
theorem dX1_is_8 : decode cX1_is 8 = .ok (.iconst 1, 1) := by decide +kernel
theorem dX1_is_9 : decode cX1_is 9 = .ok (.goto 4, 3) := by decide +kernel
theorem dX1_is_12 : decode cX1_is 12 = .ok (.iconst 0, 1) := by decide +kernel
theorem dX1_is_13 : decode cX1_is 13 = .ok (.ireturn, 1) := by decide +kernel
theorem dX1_need_0 : decode cX1_need 0 = .ok (.aload_n 0, 1) := by decide +kernel
theorem dX1_need_1 : decode cX1_need 1 = .ok (.iload_n 1, 1) := by decide +kernel
theorem dX1_need_2 : decode cX1_need 2 = .ok (.invokevirtual 79, 3) := by decide +kernel
theorem dX1_need_5 : decode cX1_need 5 = .ok (.ifCond .ne 8, 3) := by decide +kernel
theorem dX1_need_8 : decode cX1_need 8 = .ok (.aload_n 0, 1) := by decide +kernel
theorem dX1_need_9 : decode cX1_need 9 = .ok (.invokevirtual 82, 3) := by decide +kernel
theorem dX1_need_12 : decode cX1_need 12 = .ok (.athrow, 1) := by decide +kernel
theorem dX1_need_13 : decode cX1_need 13 = .ok (.return_, 1) := by decide +kernel
theorem dX1_wrong_0 : decode cX1_wrong 0 = .ok (.aload_n 0, 1) := by decide +kernel
theorem dX1_wrong_1 : decode cX1_wrong 1 = .ok (.aload_n 0, 1) := by decide +kernel
theorem dX1_wrong_2 : decode cX1_wrong 2 = .ok (.iconst 1, 1) := by decide +kernel
theorem dX1_wrong_3 : decode cX1_wrong 3 = .ok (.invokevirtual 71, 3) := by decide +kernel
theorem dX1_wrong_6 : decode cX1_wrong 6 = .ok (.ifCond .eq 7, 3) := by decide +kernel
theorem dX1_wrong_9 : decode cX1_wrong 9 = .ok (.iconst 1, 1) := by decide +kernel
theorem dX1_wrong_10 : decode cX1_wrong 10 = .ok (.goto 4, 3) := by decide +kernel
theorem dX1_wrong_13 : decode cX1_wrong 13 = .ok (.iconst 2, 1) := by decide +kernel
theorem dX1_wrong_14 : decode cX1_wrong 14 = .ok (.invokevirtual 75, 3) := by decide +kernel
theorem dX1_wrong_17 : decode cX1_wrong 17 = .ok (.areturn, 1) := by decide +kernel
theorem dX1_fail_0 : decode cX1_fail 0 = .ok (.aload_n 0, 1) := by decide +kernel
theorem dX1_fail_1 : decode cX1_fail 1 = .ok (.iload_n 1, 1) := by decide +kernel
theorem dX1_fail_2 : decode cX1_fail 2 = .ok (.putfield 43, 3) := by decide +kernel
theorem dX1_fail_5 : decode cX1_fail 5 = .ok (.aload_n 0, 1) := by decide +kernel
theorem dX1_fail_6 : decode cX1_fail 6 = .ok (.aload_n 0, 1) := by decide +kernel
theorem dX1_fail_7 : decode cX1_fail 7 = .ok (.invokevirtual 66, 3) := by decide +kernel
theorem dX1_fail_10 : decode cX1_fail 10 = .ok (.putfield 69, 3) := by decide +kernel
theorem dX1_fail_13 : decode cX1_fail 13 = .ok (.aload_n 0, 1) := by decide +kernel
theorem dX1_fail_14 : decode cX1_fail 14 = .ok (.getfield 21, 3) := by decide +kernel
theorem dX1_fail_17 : decode cX1_fail 17 = .ok (.areturn, 1) := by decide +kernel
theorem dX1_here_0 : decode cX1_here 0 = .ok (.aload_n 0, 1) := by decide +kernel
theorem dX1_here_1 : decode cX1_here 1 = .ok (.getfield 12, 3) := by decide +kernel
theorem dX1_here_4 : decode cX1_here 4 = .ok (.getfield 63, 3) := by decide +kernel
theorem dX1_here_7 : decode cX1_here 7 = .ok (.aload_n 0, 1) := by decide +kernel
theorem dX1_here_8 : decode cX1_here 8 = .ok (.getfield 36, 3) := by decide +kernel
theorem dX1_here_11 : decode cX1_here 11 = .ok (.iaload, 1) := by decide +kernel
theorem dX1_here_12 : decode cX1_here 12 = .ok (.ireturn, 1) := by decide +kernel
theorem dX1_needName_0 : decode cX1_needName 0 = .ok (.aload_n 0, 1) := by decide +kernel
theorem dX1_needName_1 : decode cX1_needName 1 = .ok (.iconst 2, 1) := by decide +kernel
theorem dX1_needName_2 : decode cX1_needName 2 = .ok (.invokevirtual 71, 3) := by decide +kernel
theorem dX1_needName_5 : decode cX1_needName 5 = .ok (.ifCond .ne 8, 3) := by decide +kernel
theorem dX1_needName_8 : decode cX1_needName 8 = .ok (.aload_n 0, 1) := by decide +kernel
theorem dX1_needName_9 : decode cX1_needName 9 = .ok (.invokevirtual 82, 3) := by decide +kernel
theorem dX1_needName_12 : decode cX1_needName 12 = .ok (.athrow, 1) := by decide +kernel
theorem dX1_needName_13 : decode cX1_needName 13 = .ok (.aload_n 0, 1) := by decide +kernel
theorem dX1_needName_14 : decode cX1_needName 14 = .ok (.dup, 1) := by decide +kernel
theorem dX1_needName_15 : decode cX1_needName 15 = .ok (.getfield 36, 3) := by decide +kernel
theorem dX1_needName_18 : decode cX1_needName 18 = .ok (.iconst 1, 1) := by decide +kernel
theorem dX1_needName_19 : decode cX1_needName 19 = .ok (.iadd, 1) := by decide +kernel
theorem dX1_needName_20 : decode cX1_needName 20 = .ok (.putfield 36, 3) := by decide +kernel
theorem dX1_needName_23 : decode cX1_needName 23 = .ok (.aload_n 0, 1) := by decide +kernel
theorem dX1_needName_24 : decode cX1_needName 24 = .ok (.getfield 12, 3) := by decide +kernel
theorem dX1_needName_27 : decode cX1_needName 27 = .ok (.getfield 86, 3) := by decide +kernel
theorem dX1_needName_30 : decode cX1_needName 30 = .ok (.aload_n 0, 1) := by decide +kernel
theorem dX1_needName_31 : decode cX1_needName 31 = .ok (.getfield 36, 3) := by decide +kernel
theorem dX1_needName_34 : decode cX1_needName 34 = .ok (.iconst 1, 1) := by decide +kernel
theorem dX1_needName_35 : decode cX1_needName 35 = .ok (.isub, 1) := by decide +kernel
theorem dX1_needName_36 : decode cX1_needName 36 = .ok (.iaload, 1) := by decide +kernel
theorem dX1_needName_37 : decode cX1_needName 37 = .ok (.ireturn, 1) := by decide +kernel
theorem dX1_expr_0 : decode cX1_expr 0 = .ok (.aload_n 0, 1) := by decide +kernel
theorem dX1_expr_1 : decode cX1_expr 1 = .ok (.iconst 0, 1) := by decide +kernel
theorem dX1_expr_2 : decode cX1_expr 2 = .ok (.invokevirtual 259, 3) := by decide +kernel
theorem dX1_expr_5 : decode cX1_expr 5 = .ok (.astore_n 1, 1) := by decide +kernel
theorem dX1_expr_6 : decode cX1_expr 6 = .ok (.aload_n 0, 1) := by decide +kernel
theorem dX1_expr_7 : decode cX1_expr 7 = .ok (.bipush 70, 2) := by decide +kernel
theorem dX1_expr_9 : decode cX1_expr 9 = .ok (.invokevirtual 71, 3) := by decide +kernel
theorem dX1_expr_12 : decode cX1_expr 12 = .ok (.ifCond .ne 5, 3) := by decide +kernel
theorem dX1_expr_15 : decode cX1_expr 15 = .ok (.aload_n 1, 1) := by decide +kernel
theorem dX1_expr_16 : decode cX1_expr 16 = .ok (.areturn, 1) := by decide +kernel
theorem dX1_expr_17 : decode cX1_expr 17 = .ok (.aload_n 0, 1) := by decide +kernel
theorem dX1_expr_18 : decode cX1_expr 18 = .ok (.bipush 70, 2) := by decide +kernel
theorem dX1_expr_20 : decode cX1_expr 20 = .ok (.invokevirtual 128, 3) := by decide +kernel
theorem dX1_expr_23 : decode cX1_expr 23 = .ok (.aload_n 0, 1) := by decide +kernel
theorem dX1_expr_24 : decode cX1_expr 24 = .ok (.invokevirtual 101, 3) := by decide +kernel
theorem dX1_expr_27 : decode cX1_expr 27 = .ok (.astore_n 2, 1) := by decide +kernel
theorem dX1_expr_28 : decode cX1_expr 28 = .ok (.aload_n 0, 1) := by decide +kernel
theorem dX1_expr_29 : decode cX1_expr 29 = .ok (.bipush 71, 2) := by decide +kernel
theorem dX1_expr_31 : decode cX1_expr 31 = .ok (.invokevirtual 89, 3) := by decide +kernel
theorem dX1_expr_34 : decode cX1_expr 34 = .ok (.aload_n 0, 1) := by decide +kernel
theorem dX1_expr_35 : decode cX1_expr 35 = .ok (.invokevirtual 101, 3) := by decide +kernel
theorem dX1_expr_38 : decode cX1_expr 38 = .ok (.astore_n 3, 1) := by decide +kernel
theorem dX1_expr_39 : decode cX1_expr 39 = .ok (.aload_n 0, 1) := by decide +kernel
theorem dX1_expr_40 : decode cX1_expr 40 = .ok (.dup, 1) := by decide +kernel
theorem dX1_expr_41 : decode cX1_expr 41 = .ok (.getfield 40, 3) := by decide +kernel
theorem dX1_expr_44 : decode cX1_expr 44 = .ok (.iconst 1, 1) := by decide +kernel
theorem dX1_expr_45 : decode cX1_expr 45 = .ok (.isub, 1) := by decide +kernel
theorem dX1_expr_46 : decode cX1_expr 46 = .ok (.putfield 40, 3) := by decide +kernel
theorem dX1_expr_49 : decode cX1_expr 49 = .ok (.new 262, 3) := by decide +kernel
theorem dX1_expr_52 : decode cX1_expr 52 = .ok (.dup, 1) := by decide +kernel
theorem dX1_expr_53 : decode cX1_expr 53 = .ok (.aload_n 1, 1) := by decide +kernel
theorem dX1_expr_54 : decode cX1_expr 54 = .ok (.aload_n 2, 1) := by decide +kernel
theorem dX1_expr_55 : decode cX1_expr 55 = .ok (.aload_n 3, 1) := by decide +kernel
theorem dX1_expr_56 : decode cX1_expr 56 = .ok (.invokespecial 264, 3) := by decide +kernel
theorem dX1_expr_59 : decode cX1_expr 59 = .ok (.areturn, 1) := by decide +kernel
theorem dX1_row_0 : decode cX1_row 0 = .ok (.iload_n 1, 1) := by decide +kernel
theorem dX1_row_1 : decode cX1_row 1 = .ok (.bipush 10, 2) := by decide +kernel
theorem dX1_row_3 : decode cX1_row 3 = .ok (.if_icmp .ne 8, 3) := by decide +kernel
theorem dX1_row_6 : decode cX1_row 6 = .ok (.aload_n 0, 1) := by decide +kernel
theorem dX1_row_7 : decode cX1_row 7 = .ok (.invokevirtual 267, 3) := by decide +kernel
theorem dX1_row_10 : decode cX1_row 10 = .ok (.areturn, 1) := by decide +kernel
theorem dX1_row_11 : decode cX1_row 11 = .ok (.aload_n 0, 1) := by decide +kernel
theorem dX1_row_12 : decode cX1_row 12 = .ok (.iload_n 1, 1) := by decide +kernel
theorem dX1_row_13 : decode cX1_row 13 = .ok (.iconst 1, 1) := by decide +kernel
theorem dX1_row_14 : decode cX1_row 14 = .ok (.iadd, 1) := by decide +kernel
theorem dX1_row_15 : decode cX1_row 15 = .ok (.invokevirtual 259, 3) := by decide +kernel
theorem dX1_row_18 : decode cX1_row 18 = .ok (.astore_n 2, 1) := by decide +kernel
theorem dX1_row_19 : decode cX1_row 19 = .ok (.aload_n 0, 1) := by decide +kernel
theorem dX1_row_20 : decode cX1_row 20 = .ok (.invokevirtual 53, 3) := by decide +kernel
theorem dX1_row_23 : decode cX1_row 23 = .ok (.iload_n 1, 1) := by decide +kernel
theorem dX1_row_24 : decode cX1_row 24 = .ok (.invokestatic 270, 3) := by decide +kernel
theorem dX1_row_27 : decode cX1_row 27 = .ok (.istore_n 3, 1) := by decide +kernel
theorem dX1_row_28 : decode cX1_row 28 = .ok (.iload_n 3, 1) := by decide +kernel
theorem dX1_row_29 : decode cX1_row 29 = .ok (.ifCond .ge 5, 3) := by decide +kernel
theorem dX1_row_32 : decode cX1_row 32 = .ok (.aload_n 2, 1) := by decide +kernel
theorem dX1_row_33 : decode cX1_row 33 = .ok (.areturn, 1) := by decide +kernel
theorem dX1_row_34 : decode cX1_row 34 = .ok (.new 46, 3) := by decide +kernel
theorem dX1_row_37 : decode cX1_row 37 = .ok (.dup, 1) := by decide +kernel
theorem dX1_row_38 : decode cX1_row 38 = .ok (.iconst 2, 1) := by decide +kernel
theorem dX1_row_39 : decode cX1_row 39 = .ok (.invokespecial 134, 3) := by decide +kernel
theorem dX1_row_42 : decode cX1_row 42 = .ok (.astore 4, 2) := by decide +kernel
theorem dX1_row_44 : decode cX1_row 44 = .ok (.aload 4, 2) := by decide +kernel
theorem dX1_row_46 : decode cX1_row 46 = .ok (.aload_n 2, 1) := by decide +kernel
theorem dX1_row_47 : decode cX1_row 47 = .ok (.invokevirtual 120, 3) := by decide +kernel
theorem dX1_row_50 : decode cX1_row 50 = .ok (.pop, 1) := by decide +kernel
theorem dX1_row_51 : decode cX1_row 51 = .ok (.iconst 2, 1) := by decide +kernel
theorem dX1_row_52 : decode cX1_row 52 = .ok (.newarray .int, 2) := by decide +kernel
theorem dX1_row_54 : decode cX1_row 54 = .ok (.astore 5, 2) := by decide +kernel
theorem dX1_row_56 : decode cX1_row 56 = .ok (.iconst 0, 1) := by decide +kernel
theorem dX1_row_57 : decode cX1_row 57 = .ok (.istore 6, 2) := by decide +kernel
theorem dX1_row_59 : decode cX1_row 59 = .ok (.iload_n 3, 1) := by decide +kernel
theorem dX1_row_60 : decode cX1_row 60 = .ok (.ifCond .lt 93, 3) := by decide +kernel
theorem dX1_row_63 : decode cX1_row 63 = .ok (.iload 6, 2) := by decide +kernel
theorem dX1_row_65 : decode cX1_row 65 = .ok (.aload 5, 2) := by decide +kernel
theorem dX1_row_67 : decode cX1_row 67 = .ok (.arraylength, 1) := by decide +kernel
theorem dX1_row_68 : decode cX1_row 68 = .ok (.if_icmp .ne 41, 3) := by decide +kernel
theorem dX1_row_71 : decode cX1_row 71 = .ok (.iconst 2, 1) := by decide +kernel
theorem dX1_row_72 : decode cX1_row 72 = .ok (.iload 6, 2) := by decide +kernel
theorem dX1_row_74 : decode cX1_row 74 = .ok (.imul, 1) := by decide +kernel
theorem dX1_row_75 : decode cX1_row 75 = .ok (.newarray .int, 2) := by decide +kernel
theorem dX1_row_77 : decode cX1_row 77 = .ok (.astore 7, 2) := by decide +kernel
theorem dX1_row_79 : decode cX1_row 79 = .ok (.iconst 0, 1) := by decide +kernel
theorem dX1_row_80 : decode cX1_row 80 = .ok (.istore 8, 2) := by decide +kernel
theorem dX1_row_82 : decode cX1_row 82 = .ok (.iload 8, 2) := by decide +kernel
theorem dX1_row_84 : decode cX1_row 84 = .ok (.iload 6, 2) := by decide +kernel
theorem dX1_row_86 : decode cX1_row 86 = .ok (.if_icmp .ge 19, 3) := by decide +kernel
theorem dX1_row_89 : decode cX1_row 89 = .ok (.aload 7, 2) := by decide +kernel
theorem dX1_row_91 : decode cX1_row 91 = .ok (.iload 8, 2) := by decide +kernel
theorem dX1_row_93 : decode cX1_row 93 = .ok (.aload 5, 2) := by decide +kernel
theorem dX1_row_95 : decode cX1_row 95 = .ok (.iload 8, 2) := by decide +kernel
theorem dX1_row_97 : decode cX1_row 97 = .ok (.iaload, 1) := by decide +kernel
theorem dX1_row_98 : decode cX1_row 98 = .ok (.iastore, 1) := by decide +kernel
theorem dX1_row_99 : decode cX1_row 99 = .ok (.iinc 8 1, 3) := by decide +kernel
theorem dX1_row_102 : decode cX1_row 102 = .ok (.goto (-20), 3) := by decide +kernel
theorem dX1_row_105 : decode cX1_row 105 = .ok (.aload 7, 2) := by decide +kernel
theorem dX1_row_107 : decode cX1_row 107 = .ok (.astore 5, 2) := by decide +kernel
theorem dX1_row_109 : decode cX1_row 109 = .ok (.aload 5, 2) := by decide +kernel
theorem dX1_row_111 : decode cX1_row 111 = .ok (.iload 6, 2) := by decide +kernel
theorem dX1_row_113 : decode cX1_row 113 = .ok (.iload_n 3, 1) := by decide +kernel
theorem dX1_row_114 : decode cX1_row 114 = .ok (.iastore, 1) := by decide +kernel
theorem dX1_row_115 : decode cX1_row 115 = .ok (.iinc 6 1, 3) := by decide +kernel
theorem dX1_row_118 : decode cX1_row 118 = .ok (.aload_n 0, 1) := by decide +kernel
theorem dX1_row_119 : decode cX1_row 119 = .ok (.dup, 1) := by decide +kernel
theorem dX1_row_120 : decode cX1_row 120 = .ok (.getfield 36, 3) := by decide +kernel
theorem dX1_row_123 : decode cX1_row 123 = .ok (.iconst 1, 1) := by decide +kernel
theorem dX1_row_124 : decode cX1_row 124 = .ok (.iadd, 1) := by decide +kernel
theorem dX1_row_125 : decode cX1_row 125 = .ok (.putfield 36, 3) := by decide +kernel
theorem dX1_row_128 : decode cX1_row 128 = .ok (.aload 4, 2) := by decide +kernel
theorem dX1_row_130 : decode cX1_row 130 = .ok (.aload_n 0, 1) := by decide +kernel
theorem dX1_row_131 : decode cX1_row 131 = .ok (.iload_n 1, 1) := by decide +kernel
theorem dX1_row_132 : decode cX1_row 132 = .ok (.iconst 1, 1) := by decide +kernel
theorem dX1_row_133 : decode cX1_row 133 = .ok (.iadd, 1) := by decide +kernel
theorem dX1_row_134 : decode cX1_row 134 = .ok (.invokevirtual 259, 3) := by decide +kernel
theorem dX1_row_137 : decode cX1_row 137 = .ok (.invokevirtual 120, 3) := by decide +kernel
theorem dX1_row_140 : decode cX1_row 140 = .ok (.pop, 1) := by decide +kernel
theorem dX1_row_141 : decode cX1_row 141 = .ok (.aload_n 0, 1) := by decide +kernel
theorem dX1_row_142 : decode cX1_row 142 = .ok (.invokevirtual 53, 3) := by decide +kernel
theorem dX1_row_145 : decode cX1_row 145 = .ok (.iload_n 1, 1) := by decide +kernel
theorem dX1_row_146 : decode cX1_row 146 = .ok (.invokestatic 270, 3) := by decide +kernel
theorem dX1_row_149 : decode cX1_row 149 = .ok (.istore_n 3, 1) := by decide +kernel
theorem dX1_row_150 : decode cX1_row 150 = .ok (.goto (-91), 3) := by decide +kernel
theorem dX1_row_153 : decode cX1_row 153 = .ok (.iload_n 1, 1) := by decide +kernel
theorem dX1_row_154 : decode cX1_row 154 = .ok (.iconst 2, 1) := by decide +kernel
theorem dX1_row_155 : decode cX1_row 155 = .ok (.if_icmp .ge 23, 3) := by decide +kernel
theorem dX1_row_158 : decode cX1_row 158 = .ok (.new 274, 3) := by decide +kernel
theorem dX1_row_161 : decode cX1_row 161 = .ok (.dup, 1) := by decide +kernel
theorem dX1_row_162 : decode cX1_row 162 = .ok (.iload_n 1, 1) := by decide +kernel
theorem dX1_row_163 : decode cX1_row 163 = .ok (.iconst 1, 1) := by decide +kernel
theorem dX1_row_164 : decode cX1_row 164 = .ok (.if_icmp .ne 7, 3) := by decide +kernel
theorem dX1_row_167 : decode cX1_row 167 = .ok (.iconst 1, 1) := by decide +kernel
theorem dX1_row_168 : decode cX1_row 168 = .ok (.goto 4, 3) := by decide +kernel
theorem dX1_row_171 : decode cX1_row 171 = .ok (.iconst 0, 1) := by decide +kernel
theorem dX1_row_172 : decode cX1_row 172 = .ok (.aload 4, 2) := by decide +kernel
theorem dX1_row_174 : decode cX1_row 174 = .ok (.invokespecial 276, 3) := by decide +kernel
theorem dX1_row_177 : decode cX1_row 177 = .ok (.areturn, 1) := by decide +kernel
theorem dX1_row_178 : decode cX1_row 178 = .ok (.new 279, 3) := by decide +kernel
theorem dX1_row_181 : decode cX1_row 181 = .ok (.dup, 1) := by decide +kernel
theorem dX1_row_182 : decode cX1_row 182 = .ok (.aload 5, 2) := by decide +kernel
theorem dX1_row_184 : decode cX1_row 184 = .ok (.iload 6, 2) := by decide +kernel
theorem dX1_row_186 : decode cX1_row 186 = .ok (.invokestatic 281, 3) := by decide +kernel
theorem dX1_row_189 : decode cX1_row 189 = .ok (.aload 4, 2) := by decide +kernel
theorem dX1_row_191 : decode cX1_row 191 = .ok (.invokespecial 285, 3) := by decide +kernel
theorem dX1_row_194 : decode cX1_row 194 = .ok (.areturn, 1) := by decide +kernel
theorem dX1_ahead_0 : decode cX1_ahead 0 = .ok (.aload_n 0, 1) := by decide +kernel
theorem dX1_ahead_1 : decode cX1_ahead 1 = .ok (.invokevirtual 66, 3) := by decide +kernel
theorem dX1_ahead_4 : decode cX1_ahead 4 = .ok (.istore_n 1, 1) := by decide +kernel
theorem dX1_ahead_5 : decode cX1_ahead 5 = .ok (.aload_n 0, 1) := by decide +kernel
theorem dX1_ahead_6 : decode cX1_ahead 6 = .ok (.getfield 36, 3) := by decide +kernel
theorem dX1_ahead_9 : decode cX1_ahead 9 = .ok (.istore_n 2, 1) := by decide +kernel
theorem dX1_ahead_10 : decode cX1_ahead 10 = .ok (.aload_n 0, 1) := by decide +kernel
theorem dX1_ahead_11 : decode cX1_ahead 11 = .ok (.bipush 79, 2) := by decide +kernel
theorem dX1_ahead_13 : decode cX1_ahead 13 = .ok (.invokevirtual 71, 3) := by decide +kernel
theorem dX1_ahead_16 : decode cX1_ahead 16 = .ok (.ifCond .ne 21, 3) := by decide +kernel
theorem dX1_ahead_19 : decode cX1_ahead 19 = .ok (.aload_n 0, 1) := by decide +kernel
theorem dX1_ahead_20 : decode cX1_ahead 20 = .ok (.bipush 83, 2) := by decide +kernel
theorem dX1_ahead_22 : decode cX1_ahead 22 = .ok (.invokevirtual 71, 3) := by decide +kernel
theorem dX1_ahead_25 : decode cX1_ahead 25 = .ok (.ifCond .ne 12, 3) := by decide +kernel
theorem dX1_ahead_28 : decode cX1_ahead 28 = .ok (.aload_n 0, 1) := by decide +kernel
theorem dX1_ahead_29 : decode cX1_ahead 29 = .ok (.bipush 84, 2) := by decide +kernel
theorem dX1_ahead_31 : decode cX1_ahead 31 = .ok (.invokevirtual 71, 3) := by decide +kernel
theorem dX1_ahead_34 : decode cX1_ahead 34 = .ok (.ifCond .eq 16, 3) := by decide +kernel
theorem dX1_ahead_37 : decode cX1_ahead 37 = .ok (.aload_n 0, 1) := by decide +kernel
theorem dX1_ahead_38 : decode cX1_ahead 38 = .ok (.dup, 1) := by decide +kernel
theorem dX1_ahead_39 : decode cX1_ahead 39 = .ok (.getfield 36, 3) := by decide +kernel
theorem dX1_ahead_42 : decode cX1_ahead 42 = .ok (.iconst 1, 1) := by decide +kernel
theorem dX1_ahead_43 : decode cX1_ahead 43 = .ok (.iadd, 1) := by decide +kernel
theorem dX1_ahead_44 : decode cX1_ahead 44 = .ok (.putfield 36, 3) := by decide +kernel
theorem dX1_ahead_47 : decode cX1_ahead 47 = .ok (.goto (-37), 3) := by decide +kernel
theorem dX1_ahead_50 : decode cX1_ahead 50 = .ok (.aload_n 0, 1) := by decide +kernel
theorem dX1_ahead_51 : decode cX1_ahead 51 = .ok (.getfield 36, 3) := by decide +kernel
theorem dX1_ahead_54 : decode cX1_ahead 54 = .ok (.iload_n 2, 1) := by decide +kernel
theorem dX1_ahead_55 : decode cX1_ahead 55 = .ok (.isub, 1) := by decide +kernel
theorem dX1_ahead_56 : decode cX1_ahead 56 = .ok (.istore_n 3, 1) := by decide +kernel
theorem dX1_ahead_57 : decode cX1_ahead 57 = .ok (.iload_n 3, 1) := by decide +kernel
theorem dX1_ahead_58 : decode cX1_ahead 58 = .ok (.ifCond .ne 8, 3) := by decide +kernel
theorem dX1_ahead_61 : decode cX1_ahead 61 = .ok (.aload_n 0, 1) := by decide +kernel
theorem dX1_ahead_62 : decode cX1_ahead 62 = .ok (.invokevirtual 288, 3) := by decide +kernel
theorem dX1_ahead_65 : decode cX1_ahead 65 = .ok (.areturn, 1) := by decide +kernel
theorem dX1_ahead_66 : decode cX1_ahead 66 = .ok (.iload_n 3, 1) := by decide +kernel
theorem dX1_ahead_67 : decode cX1_ahead 67 = .ok (.newarray .int, 2) := by decide +kernel
theorem dX1_ahead_69 : decode cX1_ahead 69 = .ok (.astore 4, 2) := by decide +kernel
theorem dX1_ahead_71 : decode cX1_ahead 71 = .ok (.iconst 0, 1) := by decide +kernel
theorem dX1_ahead_72 : decode cX1_ahead 72 = .ok (.istore 5, 2) := by decide +kernel
theorem dX1_ahead_74 : decode cX1_ahead 74 = .ok (.iload 5, 2) := by decide +kernel
theorem dX1_ahead_76 : decode cX1_ahead 76 = .ok (.iload_n 3, 1) := by decide +kernel
theorem dX1_ahead_77 : decode cX1_ahead 77 = .ok (.if_icmp .ge 26, 3) := by decide +kernel
theorem dX1_ahead_80 : decode cX1_ahead 80 = .ok (.aload 4, 2) := by decide +kernel
theorem dX1_ahead_82 : decode cX1_ahead 82 = .ok (.iload 5, 2) := by decide +kernel
theorem dX1_ahead_84 : decode cX1_ahead 84 = .ok (.aload_n 0, 1) := by decide +kernel
theorem dX1_ahead_85 : decode cX1_ahead 85 = .ok (.getfield 12, 3) := by decide +kernel
theorem dX1_ahead_88 : decode cX1_ahead 88 = .ok (.getfield 60, 3) := by decide +kernel
theorem dX1_ahead_91 : decode cX1_ahead 91 = .ok (.iload_n 2, 1) := by decide +kernel
theorem dX1_ahead_92 : decode cX1_ahead 92 = .ok (.iload 5, 2) := by decide +kernel
theorem dX1_ahead_94 : decode cX1_ahead 94 = .ok (.iadd, 1) := by decide +kernel
theorem dX1_ahead_95 : decode cX1_ahead 95 = .ok (.iaload, 1) := by decide +kernel
theorem dX1_ahead_96 : decode cX1_ahead 96 = .ok (.iastore, 1) := by decide +kernel
theorem dX1_ahead_97 : decode cX1_ahead 97 = .ok (.iinc 5 1, 3) := by decide +kernel
theorem dX1_ahead_100 : decode cX1_ahead 100 = .ok (.goto (-26), 3) := by decide +kernel
theorem dX1_ahead_103 : decode cX1_ahead 103 = .ok (.new 291, 3) := by decide +kernel
theorem dX1_ahead_106 : decode cX1_ahead 106 = .ok (.dup, 1) := by decide +kernel
theorem dX1_ahead_107 : decode cX1_ahead 107 = .ok (.iload_n 1, 1) := by decide +kernel
theorem dX1_ahead_108 : decode cX1_ahead 108 = .ok (.aload 4, 2) := by decide +kernel
theorem dX1_ahead_110 : decode cX1_ahead 110 = .ok (.aload_n 0, 1) := by decide +kernel
theorem dX1_ahead_111 : decode cX1_ahead 111 = .ok (.invokevirtual 288, 3) := by decide +kernel
theorem dX1_ahead_114 : decode cX1_ahead 114 = .ok (.invokespecial 293, 3) := by decide +kernel
theorem dX1_ahead_117 : decode cX1_ahead 117 = .ok (.areturn, 1) := by decide +kernel
theorem dX1_operand_0 : decode cX1_operand 0 = .ok (.aload_n 0, 1) := by decide +kernel
theorem dX1_operand_1 : decode cX1_operand 1 = .ok (.invokevirtual 66, 3) := by decide +kernel
theorem dX1_operand_4 : decode cX1_operand 4 = .ok (.istore_n 1, 1) := by decide +kernel
theorem dX1_operand_5 : decode cX1_operand 5 = .ok (.aload_n 0, 1) := by decide +kernel
theorem dX1_operand_6 : decode cX1_operand 6 = .ok (.iconst 3, 1) := by decide +kernel
theorem dX1_operand_7 : decode cX1_operand 7 = .ok (.invokevirtual 79, 3) := by decide +kernel
theorem dX1_operand_10 : decode cX1_operand 10 = .ok (.ifCond .eq 26, 3) := by decide +kernel
theorem dX1_operand_13 : decode cX1_operand 13 = .ok (.new 296, 3) := by decide +kernel
theorem dX1_operand_16 : decode cX1_operand 16 = .ok (.dup, 1) := by decide +kernel
theorem dX1_operand_17 : decode cX1_operand 17 = .ok (.iload_n 1, 1) := by decide +kernel
theorem dX1_operand_18 : decode cX1_operand 18 = .ok (.aload_n 0, 1) := by decide +kernel
theorem dX1_operand_19 : decode cX1_operand 19 = .ok (.getfield 12, 3) := by decide +kernel
theorem dX1_operand_22 : decode cX1_operand 22 = .ok (.getfield 86, 3) := by decide +kernel
theorem dX1_operand_25 : decode cX1_operand 25 = .ok (.aload_n 0, 1) := by decide +kernel
theorem dX1_operand_26 : decode cX1_operand 26 = .ok (.getfield 36, 3) := by decide +kernel
theorem dX1_operand_29 : decode cX1_operand 29 = .ok (.iconst 1, 1) := by decide +kernel
theorem dX1_operand_30 : decode cX1_operand 30 = .ok (.isub, 1) := by decide +kernel
theorem dX1_operand_31 : decode cX1_operand 31 = .ok (.iaload, 1) := by decide +kernel
theorem dX1_operand_32 : decode cX1_operand 32 = .ok (.invokespecial 298, 3) := by decide +kernel
theorem dX1_operand_35 : decode cX1_operand 35 = .ok (.areturn, 1) := by decide +kernel
theorem dX1_operand_36 : decode cX1_operand 36 = .ok (.aload_n 0, 1) := by decide +kernel
theorem dX1_operand_37 : decode cX1_operand 37 = .ok (.iconst 2, 1) := by decide +kernel
theorem dX1_operand_38 : decode cX1_operand 38 = .ok (.invokevirtual 79, 3) := by decide +kernel
theorem dX1_operand_41 : decode cX1_operand 41 = .ok (.ifCond .eq 43, 3) := by decide +kernel
theorem dX1_operand_44 : decode cX1_operand 44 = .ok (.aload_n 0, 1) := by decide +kernel
theorem dX1_operand_45 : decode cX1_operand 45 = .ok (.getfield 12, 3) := by decide +kernel
theorem dX1_operand_48 : decode cX1_operand 48 = .ok (.getfield 86, 3) := by decide +kernel
theorem dX1_operand_51 : decode cX1_operand 51 = .ok (.aload_n 0, 1) := by decide +kernel
theorem dX1_operand_52 : decode cX1_operand 52 = .ok (.getfield 36, 3) := by decide +kernel
theorem dX1_operand_55 : decode cX1_operand 55 = .ok (.iconst 1, 1) := by decide +kernel
theorem dX1_operand_56 : decode cX1_operand 56 = .ok (.isub, 1) := by decide +kernel
theorem dX1_operand_57 : decode cX1_operand 57 = .ok (.iaload, 1) := by decide +kernel
theorem dX1_operand_58 : decode cX1_operand 58 = .ok (.istore_n 2, 1) := by decide +kernel
theorem dX1_operand_59 : decode cX1_operand 59 = .ok (.aload_n 0, 1) := by decide +kernel
theorem dX1_operand_60 : decode cX1_operand 60 = .ok (.bipush 62, 2) := by decide +kernel
theorem dX1_operand_62 : decode cX1_operand 62 = .ok (.invokevirtual 71, 3) := by decide +kernel
theorem dX1_operand_65 : decode cX1_operand 65 = .ok (.ifCond .eq 12, 3) := by decide +kernel
theorem dX1_operand_68 : decode cX1_operand 68 = .ok (.aload_n 0, 1) := by decide +kernel
theorem dX1_operand_69 : decode cX1_operand 69 = .ok (.iload_n 1, 1) := by decide +kernel
theorem dX1_operand_70 : decode cX1_operand 70 = .ok (.iload_n 2, 1) := by decide +kernel
theorem dX1_operand_71 : decode cX1_operand 71 = .ok (.invokevirtual 231, 3) := by decide +kernel
theorem dX1_operand_74 : decode cX1_operand 74 = .ok (.goto 9, 3) := by decide +kernel
theorem dX1_operand_77 : decode cX1_operand 77 = .ok (.aload_n 0, 1) := by decide +kernel
theorem dX1_operand_78 : decode cX1_operand 78 = .ok (.iload_n 1, 1) := by decide +kernel
theorem dX1_operand_79 : decode cX1_operand 79 = .ok (.iload_n 2, 1) := by decide +kernel
theorem dX1_operand_80 : decode cX1_operand 80 = .ok (.invokevirtual 238, 3) := by decide +kernel
theorem dX1_operand_83 : decode cX1_operand 83 = .ok (.areturn, 1) := by decide +kernel
theorem dX1_operand_84 : decode cX1_operand 84 = .ok (.aload_n 0, 1) := by decide +kernel
theorem dX1_operand_85 : decode cX1_operand 85 = .ok (.bipush 23, 2) := by decide +kernel
theorem dX1_operand_87 : decode cX1_operand 87 = .ok (.invokevirtual 79, 3) := by decide +kernel
theorem dX1_operand_90 : decode cX1_operand 90 = .ok (.ifCond .eq 24, 3) := by decide +kernel
theorem dX1_operand_93 : decode cX1_operand 93 = .ok (.aload_n 0, 1) := by decide +kernel
theorem dX1_operand_94 : decode cX1_operand 94 = .ok (.bipush 62, 2) := by decide +kernel
theorem dX1_operand_96 : decode cX1_operand 96 = .ok (.invokevirtual 128, 3) := by decide +kernel
theorem dX1_operand_99 : decode cX1_operand 99 = .ok (.aload_n 0, 1) := by decide +kernel
theorem dX1_operand_100 : decode cX1_operand 100 = .ok (.bipush 63, 2) := by decide +kernel
theorem dX1_operand_102 : decode cX1_operand 102 = .ok (.invokevirtual 131, 3) := by decide +kernel
theorem dX1_operand_105 : decode cX1_operand 105 = .ok (.new 301, 3) := by decide +kernel
theorem dX1_operand_108 : decode cX1_operand 108 = .ok (.dup, 1) := by decide +kernel
theorem dX1_operand_109 : decode cX1_operand 109 = .ok (.iload_n 1, 1) := by decide +kernel
theorem dX1_operand_110 : decode cX1_operand 110 = .ok (.invokespecial 303, 3) := by decide +kernel
theorem dX1_operand_113 : decode cX1_operand 113 = .ok (.areturn, 1) := by decide +kernel
theorem dX1_operand_114 : decode cX1_operand 114 = .ok (.aload_n 0, 1) := by decide +kernel
theorem dX1_operand_115 : decode cX1_operand 115 = .ok (.invokevirtual 197, 3) := by decide +kernel
theorem dX1_operand_118 : decode cX1_operand 118 = .ok (.astore_n 2, 1) := by decide +kernel
theorem dX1_operand_119 : decode cX1_operand 119 = .ok (.aload_n 2, 1) := by decide +kernel
theorem dX1_operand_120 : decode cX1_operand 120 = .ok (.iload_n 1, 1) := by decide +kernel
theorem dX1_operand_121 : decode cX1_operand 121 = .ok (.putfield 304, 3) := by decide +kernel
theorem dX1_operand_124 : decode cX1_operand 124 = .ok (.aload_n 2, 1) := by decide +kernel
theorem dX1_operand_125 : decode cX1_operand 125 = .ok (.areturn, 1) := by decide +kernel
theorem dX1_call_0 : decode cX1_call 0 = .ok (.new 46, 3) := by decide +kernel
theorem dX1_call_3 : decode cX1_call 3 = .ok (.dup, 1) := by decide +kernel
theorem dX1_call_4 : decode cX1_call 4 = .ok (.iconst 2, 1) := by decide +kernel
theorem dX1_call_5 : decode cX1_call 5 = .ok (.invokespecial 134, 3) := by decide +kernel
theorem dX1_call_8 : decode cX1_call 8 = .ok (.astore_n 3, 1) := by decide +kernel
theorem dX1_call_9 : decode cX1_call 9 = .ok (.aload_n 0, 1) := by decide +kernel
theorem dX1_call_10 : decode cX1_call 10 = .ok (.bipush 62, 2) := by decide +kernel
theorem dX1_call_12 : decode cX1_call 12 = .ok (.invokevirtual 128, 3) := by decide +kernel
theorem dX1_call_15 : decode cX1_call 15 = .ok (.aload_n 0, 1) := by decide +kernel
theorem dX1_call_16 : decode cX1_call 16 = .ok (.bipush 63, 2) := by decide +kernel
theorem dX1_call_18 : decode cX1_call 18 = .ok (.invokevirtual 71, 3) := by decide +kernel
theorem dX1_call_21 : decode cX1_call 21 = .ok (.ifCond .ne 21, 3) := by decide +kernel
theorem dX1_call_24 : decode cX1_call 24 = .ok (.aload_n 3, 1) := by decide +kernel
theorem dX1_call_25 : decode cX1_call 25 = .ok (.aload_n 0, 1) := by decide +kernel
theorem dX1_call_26 : decode cX1_call 26 = .ok (.invokevirtual 101, 3) := by decide +kernel
theorem dX1_call_29 : decode cX1_call 29 = .ok (.invokevirtual 120, 3) := by decide +kernel
theorem dX1_call_32 : decode cX1_call 32 = .ok (.pop, 1) := by decide +kernel
theorem dX1_call_33 : decode cX1_call 33 = .ok (.aload_n 0, 1) := by decide +kernel
theorem dX1_call_34 : decode cX1_call 34 = .ok (.bipush 68, 2) := by decide +kernel
theorem dX1_call_36 : decode cX1_call 36 = .ok (.invokevirtual 79, 3) := by decide +kernel
theorem dX1_call_39 : decode cX1_call 39 = .ok (.ifCond .ne (-15), 3) := by decide +kernel
theorem dX1_call_42 : decode cX1_call 42 = .ok (.aload_n 0, 1) := by decide +kernel
theorem dX1_call_43 : decode cX1_call 43 = .ok (.invokevirtual 66, 3) := by decide +kernel
theorem dX1_call_46 : decode cX1_call 46 = .ok (.istore 4, 2) := by decide +kernel
theorem dX1_call_48 : decode cX1_call 48 = .ok (.aload_n 0, 1) := by decide +kernel
theorem dX1_call_49 : decode cX1_call 49 = .ok (.bipush 63, 2) := by decide +kernel
theorem dX1_call_51 : decode cX1_call 51 = .ok (.invokevirtual 131, 3) := by decide +kernel
theorem dX1_call_54 : decode cX1_call 54 = .ok (.new 254, 3) := by decide +kernel
theorem dX1_call_57 : decode cX1_call 57 = .ok (.dup, 1) := by decide +kernel
theorem dX1_call_58 : decode cX1_call 58 = .ok (.iload_n 1, 1) := by decide +kernel
theorem dX1_call_59 : decode cX1_call 59 = .ok (.iload_n 2, 1) := by decide +kernel
theorem dX1_call_60 : decode cX1_call 60 = .ok (.aload_n 3, 1) := by decide +kernel
theorem dX1_call_61 : decode cX1_call 61 = .ok (.iload 4, 2) := by decide +kernel
theorem dX1_call_63 : decode cX1_call 63 = .ok (.invokespecial 256, 3) := by decide +kernel
theorem dX1_call_66 : decode cX1_call 66 = .ok (.areturn, 1) := by decide +kernel
theorem dX1_opens_0 : decode cX1_opens 0 = .ok (.aload_n 0, 1) := by decide +kernel
theorem dX1_opens_1 : decode cX1_opens 1 = .ok (.iload_n 1, 1) := by decide +kernel
theorem dX1_opens_2 : decode cX1_opens 2 = .ok (.invokevirtual 71, 3) := by decide +kernel
theorem dX1_opens_5 : decode cX1_opens 5 = .ok (.ifCond .ne 8, 3) := by decide +kernel
theorem dX1_opens_8 : decode cX1_opens 8 = .ok (.aload_n 0, 1) := by decide +kernel
theorem dX1_opens_9 : decode cX1_opens 9 = .ok (.invokevirtual 82, 3) := by decide +kernel
theorem dX1_opens_12 : decode cX1_opens 12 = .ok (.athrow, 1) := by decide +kernel
theorem dX1_opens_13 : decode cX1_opens 13 = .ok (.aload_n 0, 1) := by decide +kernel
theorem dX1_opens_14 : decode cX1_opens 14 = .ok (.getfield 40, 3) := by decide +kernel
theorem dX1_opens_17 : decode cX1_opens 17 = .ok (.bipush 40, 2) := by decide +kernel
theorem dX1_opens_19 : decode cX1_opens 19 = .ok (.if_icmp .ne 9, 3) := by decide +kernel
theorem dX1_opens_22 : decode cX1_opens 22 = .ok (.aload_n 0, 1) := by decide +kernel
theorem dX1_opens_23 : decode cX1_opens 23 = .ok (.iconst 3, 1) := by decide +kernel
theorem dX1_opens_24 : decode cX1_opens 24 = .ok (.invokevirtual 75, 3) := by decide +kernel
theorem dX1_opens_27 : decode cX1_opens 27 = .ok (.athrow, 1) := by decide +kernel
theorem dX1_opens_28 : decode cX1_opens 28 = .ok (.aload_n 0, 1) := by decide +kernel
theorem dX1_opens_29 : decode cX1_opens 29 = .ok (.dup, 1) := by decide +kernel
theorem dX1_opens_30 : decode cX1_opens 30 = .ok (.getfield 40, 3) := by decide +kernel
theorem dX1_opens_33 : decode cX1_opens 33 = .ok (.iconst 1, 1) := by decide +kernel
theorem dX1_opens_34 : decode cX1_opens 34 = .ok (.iadd, 1) := by decide +kernel
theorem dX1_opens_35 : decode cX1_opens 35 = .ok (.putfield 40, 3) := by decide +kernel
theorem dX1_opens_38 : decode cX1_opens 38 = .ok (.aload_n 0, 1) := by decide +kernel
theorem dX1_opens_39 : decode cX1_opens 39 = .ok (.dup, 1) := by decide +kernel
theorem dX1_opens_40 : decode cX1_opens 40 = .ok (.getfield 36, 3) := by decide +kernel
theorem dX1_opens_43 : decode cX1_opens 43 = .ok (.iconst 1, 1) := by decide +kernel
theorem dX1_opens_44 : decode cX1_opens 44 = .ok (.iadd, 1) := by decide +kernel
theorem dX1_opens_45 : decode cX1_opens 45 = .ok (.putfield 36, 3) := by decide +kernel
theorem dX1_opens_48 : decode cX1_opens 48 = .ok (.return_, 1) := by decide +kernel
theorem dX1_closes_0 : decode cX1_closes 0 = .ok (.aload_n 0, 1) := by decide +kernel
theorem dX1_closes_1 : decode cX1_closes 1 = .ok (.iload_n 1, 1) := by decide +kernel
theorem dX1_closes_2 : decode cX1_closes 2 = .ok (.invokevirtual 89, 3) := by decide +kernel
theorem dX1_closes_5 : decode cX1_closes 5 = .ok (.aload_n 0, 1) := by decide +kernel
theorem dX1_closes_6 : decode cX1_closes 6 = .ok (.dup, 1) := by decide +kernel
theorem dX1_closes_7 : decode cX1_closes 7 = .ok (.getfield 40, 3) := by decide +kernel
theorem dX1_closes_10 : decode cX1_closes 10 = .ok (.iconst 1, 1) := by decide +kernel
theorem dX1_closes_11 : decode cX1_closes 11 = .ok (.isub, 1) := by decide +kernel
theorem dX1_closes_12 : decode cX1_closes 12 = .ok (.putfield 40, 3) := by decide +kernel
theorem dX1_closes_15 : decode cX1_closes 15 = .ok (.return_, 1) := by decide +kernel
