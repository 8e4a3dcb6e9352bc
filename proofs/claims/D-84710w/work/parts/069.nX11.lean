/-! names: X1_place X1_inside X1_cut X1_end X1_function X1_formal X1_block X1_statement X1_tell X1_choice X1_loop X1_startTell X1_simple (tools/chunk.py) -/
set_option maxRecDepth 100000
theorem q1340 : (Jvm.Cond.classLink "CompiledHouse$Parser" (249 : Nat) "CompiledHouse$Name") ∈ lw_all := lw_g (lw_at lw_m5 184 rfl) rfl
theorem q1342 : (Jvm.Cond.methodLink "CompiledHouse$Parser" (251 : Nat) ({ cls := "CompiledHouse$Name", name := "<init>", desc := "(IILCompiledHouse$Expr;I)V" } : Jvm.MethodName)) ∈ lw_all := lw_g (lw_at lw_m5 186 rfl) rfl
abbrev cX18_init : ByteArray := prog_23_method_1_code
def yX18_init : MethodName := ⟨RX18, "<init>", "(IILCompiledHouse$Expr;I)V"⟩
theorem q1344 : (Jvm.Cond.code ({ cls := "CompiledHouse$Name", name := "<init>", desc := "(IILCompiledHouse$Expr;I)V" } : Jvm.MethodName) prog_23_method_1_code (5 : Nat) (Option.none : Option Jvm.ClassFile.FieldType)) ∈ lw_all := lw_g (lw_at lw_m5 188 rfl) rfl
def kX18_init : xK := (yX18_init, cX18_init, 5, none, [])
theorem me_X18_init : xMe kX18_init 4 := ⟨q1344, q229, by decide, by decide, by decide +kernel⟩
theorem q1343 : (Jvm.Cond.instanceMethod ({ cls := "CompiledHouse$Name", name := "<init>", desc := "(IILCompiledHouse$Expr;I)V" } : Jvm.MethodName)) ∈ lw_all := lw_g (lw_at lw_m5 187 rfl) rfl
theorem is_X18_init : Cond.instanceMethod kX18_init.y ∈ lw_all := q1343
theorem lk_X1_251 : xLk RX1 251 yX18_init := Or.inl q1342
theorem q1120 : (Jvm.Cond.fieldLinkNest "CompiledHouse$Parser" (139 : Nat) "CompiledHouse$Told" "isVoid" "Z" "CompiledHouse") ∈ lw_tbl := lw_at lw_m4 204 rfl
theorem f_X1_139_13 : xF RX1 139 13 4 := ⟨_, "CompiledHouse$Told", rfl, by decide, Or.inr ⟨_, q1120⟩, Or.inl rfl⟩
theorem q1111 : (Jvm.Cond.fieldLinkNest "CompiledHouse$Parser" (142 : Nat) "CompiledHouse$Told" "name" "I" "CompiledHouse") ∈ lw_tbl := lw_at lw_m4 195 rfl
theorem f_X1_142_13 : xF RX1 142 13 1 := ⟨_, "CompiledHouse$Told", rfl, by decide, Or.inr ⟨_, q1111⟩, Or.inl rfl⟩
theorem q1467 : (Jvm.Cond.methodLink "CompiledHouse$Parser" (145 : Nat) ({ cls := "CompiledHouse$Tokens", name := "isMain", desc := "(I)Z" } : Jvm.MethodName)) ∈ lw_all := lw_g (lw_at lw_m6 71 rfl) rfl
abbrev cX2_isMain : ByteArray := prog_35_method_11_code
def yX2_isMain : MethodName := ⟨RX2, "isMain", "(I)Z"⟩
theorem q1470 : (Jvm.Cond.code ({ cls := "CompiledHouse$Tokens", name := "isMain", desc := "(I)Z" } : Jvm.MethodName) prog_35_method_11_code (2 : Nat) (Option.some Jvm.ClassFile.FieldType.boolean)) ∈ lw_all := lw_g (lw_at lw_m6 74 rfl) rfl
def kX2_isMain : xK := (yX2_isMain, cX2_isMain, 2, some .boolean, [])
theorem me_X2_isMain : xMe kX2_isMain 1 := ⟨q1470, q199, by decide, by decide, by decide +kernel⟩
theorem q1468 : (Jvm.Cond.instanceMethod ({ cls := "CompiledHouse$Tokens", name := "isMain", desc := "(I)Z" } : Jvm.MethodName)) ∈ lw_all := lw_g (lw_at lw_m6 72 rfl) rfl
theorem is_X2_isMain : Cond.instanceMethod kX2_isMain.y ∈ lw_all := q1468
theorem se_X2_isMain : Cond.selects RX2 kX2_isMain.y kX2_isMain.y ∈ lw_all := q1469
theorem lk_X1_145 : xLk RX1 145 yX2_isMain := Or.inl q1467
theorem q1122 : (Jvm.Cond.fieldLinkNest "CompiledHouse$Parser" (148 : Nat) "CompiledHouse$Told" "isMain" "Z" "CompiledHouse") ∈ lw_tbl := lw_at lw_m4 206 rfl
theorem f_X1_148_13 : xF RX1 148 13 5 := ⟨_, "CompiledHouse$Told", rfl, by decide, Or.inr ⟨_, q1122⟩, Or.inl rfl⟩
theorem q1130 : (Jvm.Cond.fieldLinkNest "CompiledHouse$Parser" (150 : Nat) "CompiledHouse$Told" "formals" "Ljava/util/ArrayList;" "CompiledHouse") ∈ lw_tbl := lw_at lw_m4 214 rfl
theorem f_X1_150_13 : xF RX1 150 13 8 := ⟨_, "CompiledHouse$Told", rfl, by decide, Or.inr ⟨_, q1130⟩, Or.inl rfl⟩
theorem q1472 : (Jvm.Cond.methodLink "CompiledHouse$Parser" (153 : Nat) ({ cls := "CompiledHouse$Parser", name := "formal", desc := "()LCompiledHouse$Formal;" } : Jvm.MethodName)) ∈ lw_all := lw_g (lw_at lw_m6 76 rfl) rfl
abbrev cX1_formal : ByteArray := prog_27_method_17_code
def yX1_formal : MethodName := ⟨RX1, "formal", "()LCompiledHouse$Formal;"⟩
theorem q1475 : (Jvm.Cond.code ({ cls := "CompiledHouse$Parser", name := "formal", desc := "()LCompiledHouse$Formal;" } : Jvm.MethodName) prog_27_method_17_code (6 : Nat) (Option.some (Jvm.ClassFile.FieldType.object "CompiledHouse$Formal"))) ∈ lw_all := lw_g (lw_at lw_m6 79 rfl) rfl
def kX1_formal : xK := (yX1_formal, cX1_formal, 6, some (.object "CompiledHouse$Formal"), [])
theorem me_X1_formal : xMe kX1_formal 0 := ⟨q1475, q198, by decide, by decide, by decide +kernel⟩
theorem q1474 : (Jvm.Cond.instanceMethod ({ cls := "CompiledHouse$Parser", name := "formal", desc := "()LCompiledHouse$Formal;" } : Jvm.MethodName)) ∈ lw_all := lw_g (lw_at lw_m6 78 rfl) rfl
theorem is_X1_formal : Cond.instanceMethod kX1_formal.y ∈ lw_all := q1474
theorem se_X1_formal : Cond.selects RX1 kX1_formal.y kX1_formal.y ∈ lw_all := qs33
theorem lk_X1_153 : xLk RX1 153 yX1_formal := Or.inl q1472
theorem q1506 : (Jvm.Cond.methodLink "CompiledHouse$Parser" (157 : Nat) ({ cls := "CompiledHouse$Parser", name := "block", desc := "()LCompiledHouse$Block0;" } : Jvm.MethodName)) ∈ lw_all := lw_g (lw_at lw_m6 110 rfl) rfl
abbrev cX1_block : ByteArray := prog_27_method_18_code
def yX1_block : MethodName := ⟨RX1, "block", "()LCompiledHouse$Block0;"⟩
theorem q1509 : (Jvm.Cond.code ({ cls := "CompiledHouse$Parser", name := "block", desc := "()LCompiledHouse$Block0;" } : Jvm.MethodName) prog_27_method_18_code (2 : Nat) (Option.some (Jvm.ClassFile.FieldType.object "CompiledHouse$Block0"))) ∈ lw_all := lw_g (lw_at lw_m6 113 rfl) rfl
def kX1_block : xK := (yX1_block, cX1_block, 2, some (.object "CompiledHouse$Block0"), [])
theorem me_X1_block : xMe kX1_block 0 := ⟨q1509, q198, by decide, by decide, by decide +kernel⟩
theorem q1508 : (Jvm.Cond.instanceMethod ({ cls := "CompiledHouse$Parser", name := "block", desc := "()LCompiledHouse$Block0;" } : Jvm.MethodName)) ∈ lw_all := lw_g (lw_at lw_m6 112 rfl) rfl
theorem is_X1_block : Cond.instanceMethod kX1_block.y ∈ lw_all := q1508
theorem se_X1_block : Cond.selects RX1 kX1_block.y kX1_block.y ∈ lw_all := qs34
theorem lk_X1_157 : xLk RX1 157 yX1_block := Or.inl q1506
theorem q1133 : (Jvm.Cond.fieldLinkNest "CompiledHouse$Parser" (161 : Nat) "CompiledHouse$Told" "body" "LCompiledHouse$Block0;" "CompiledHouse") ∈ lw_tbl := lw_at lw_m4 217 rfl
theorem f_X1_161_13 : xF RX1 161 13 9 := ⟨_, "CompiledHouse$Told", rfl, by decide, Or.inr ⟨_, q1133⟩, Or.inl rfl⟩
theorem q1476 : (Jvm.Cond.classLink "CompiledHouse$Parser" (164 : Nat) "CompiledHouse$Formal") ∈ lw_all := lw_g (lw_at lw_m6 80 rfl) rfl
theorem q1478 : (Jvm.Cond.methodLink "CompiledHouse$Parser" (166 : Nat) ({ cls := "CompiledHouse$Formal", name := "<init>", desc := "(IIIZZ)V" } : Jvm.MethodName)) ∈ lw_all := lw_g (lw_at lw_m6 82 rfl) rfl
theorem lk_X1_166 : xLk RX1 166 yX24_init := Or.inl q1478
theorem q480 : (Jvm.Cond.fieldLinkNest "CompiledHouse$Parser" (169 : Nat) "CompiledHouse$Block0" "parts" "Ljava/util/ArrayList;" "CompiledHouse") ∈ lw_tbl := lw_at lw_m2 44 rfl
theorem f_X1_169_4 : xF RX1 169 4 0 := ⟨_, "CompiledHouse$Block0", rfl, by decide, Or.inr ⟨_, q480⟩, Or.inl rfl⟩
theorem q1510 : (Jvm.Cond.methodLink "CompiledHouse$Parser" (172 : Nat) ({ cls := "CompiledHouse$Parser", name := "statement", desc := "()LCompiledHouse$Statement;" } : Jvm.MethodName)) ∈ lw_all := lw_g (lw_at lw_m6 114 rfl) rfl
abbrev cX1_statement : ByteArray := prog_27_method_19_code
def yX1_statement : MethodName := ⟨RX1, "statement", "()LCompiledHouse$Statement;"⟩
theorem q1513 : (Jvm.Cond.code ({ cls := "CompiledHouse$Parser", name := "statement", desc := "()LCompiledHouse$Statement;" } : Jvm.MethodName) prog_27_method_19_code (4 : Nat) (Option.some (Jvm.ClassFile.FieldType.object "CompiledHouse$Statement"))) ∈ lw_all := lw_g (lw_at lw_m6 117 rfl) rfl
def kX1_statement : xK := (yX1_statement, cX1_statement, 4, some (.object "CompiledHouse$Statement"), [])
theorem me_X1_statement : xMe kX1_statement 0 := ⟨q1513, q198, by decide, by decide, by decide +kernel⟩
theorem q1512 : (Jvm.Cond.instanceMethod ({ cls := "CompiledHouse$Parser", name := "statement", desc := "()LCompiledHouse$Statement;" } : Jvm.MethodName)) ∈ lw_all := lw_g (lw_at lw_m6 116 rfl) rfl
theorem is_X1_statement : Cond.instanceMethod kX1_statement.y ∈ lw_all := q1512
theorem se_X1_statement : Cond.selects RX1 kX1_statement.y kX1_statement.y ∈ lw_all := qs35
theorem lk_X1_172 : xLk RX1 172 yX1_statement := Or.inl q1510
theorem q1514 : (Jvm.Cond.methodLink "CompiledHouse$Parser" (176 : Nat) ({ cls := "CompiledHouse$Parser", name := "tell", desc := "()LCompiledHouse$Statement;" } : Jvm.MethodName)) ∈ lw_all := lw_g (lw_at lw_m6 118 rfl) rfl
abbrev cX1_tell : ByteArray := prog_27_method_20_code
def yX1_tell : MethodName := ⟨RX1, "tell", "()LCompiledHouse$Statement;"⟩
theorem q1517 : (Jvm.Cond.code ({ cls := "CompiledHouse$Parser", name := "tell", desc := "()LCompiledHouse$Statement;" } : Jvm.MethodName) prog_27_method_20_code (6 : Nat) (Option.some (Jvm.ClassFile.FieldType.object "CompiledHouse$Statement"))) ∈ lw_all := lw_g (lw_at lw_m6 121 rfl) rfl
def kX1_tell : xK := (yX1_tell, cX1_tell, 6, some (.object "CompiledHouse$Statement"), [])
theorem me_X1_tell : xMe kX1_tell 0 := ⟨q1517, q198, by decide, by decide, by decide +kernel⟩
theorem q1516 : (Jvm.Cond.instanceMethod ({ cls := "CompiledHouse$Parser", name := "tell", desc := "()LCompiledHouse$Statement;" } : Jvm.MethodName)) ∈ lw_all := lw_g (lw_at lw_m6 120 rfl) rfl
theorem is_X1_tell : Cond.instanceMethod kX1_tell.y ∈ lw_all := q1516
theorem se_X1_tell : Cond.selects RX1 kX1_tell.y kX1_tell.y ∈ lw_all := qs36
theorem lk_X1_176 : xLk RX1 176 yX1_tell := Or.inl q1514
theorem q1553 : (Jvm.Cond.methodLink "CompiledHouse$Parser" (179 : Nat) ({ cls := "CompiledHouse$Parser", name := "choice", desc := "()LCompiledHouse$Statement;" } : Jvm.MethodName)) ∈ lw_all := lw_g (lw_at lw_m6 157 rfl) rfl
abbrev cX1_choice : ByteArray := prog_27_method_22_code
def yX1_choice : MethodName := ⟨RX1, "choice", "()LCompiledHouse$Statement;"⟩
theorem q1556 : (Jvm.Cond.code ({ cls := "CompiledHouse$Parser", name := "choice", desc := "()LCompiledHouse$Statement;" } : Jvm.MethodName) prog_27_method_22_code (4 : Nat) (Option.some (Jvm.ClassFile.FieldType.object "CompiledHouse$Statement"))) ∈ lw_all := lw_g (lw_at lw_m6 160 rfl) rfl
def kX1_choice : xK := (yX1_choice, cX1_choice, 4, some (.object "CompiledHouse$Statement"), [])
theorem me_X1_choice : xMe kX1_choice 0 := ⟨q1556, q198, by decide, by decide, by decide +kernel⟩
theorem q1555 : (Jvm.Cond.instanceMethod ({ cls := "CompiledHouse$Parser", name := "choice", desc := "()LCompiledHouse$Statement;" } : Jvm.MethodName)) ∈ lw_all := lw_g (lw_at lw_m6 159 rfl) rfl
theorem is_X1_choice : Cond.instanceMethod kX1_choice.y ∈ lw_all := q1555
theorem se_X1_choice : Cond.selects RX1 kX1_choice.y kX1_choice.y ∈ lw_all := qs37
theorem lk_X1_179 : xLk RX1 179 yX1_choice := Or.inl q1553
theorem q1573 : (Jvm.Cond.methodLink "CompiledHouse$Parser" (182 : Nat) ({ cls := "CompiledHouse$Parser", name := "loop", desc := "()LCompiledHouse$Statement;" } : Jvm.MethodName)) ∈ lw_all := lw_g (lw_at lw_m6 177 rfl) rfl
abbrev cX1_loop : ByteArray := prog_27_method_23_code
def yX1_loop : MethodName := ⟨RX1, "loop", "()LCompiledHouse$Statement;"⟩
theorem q1576 : (Jvm.Cond.code ({ cls := "CompiledHouse$Parser", name := "loop", desc := "()LCompiledHouse$Statement;" } : Jvm.MethodName) prog_27_method_23_code (6 : Nat) (Option.some (Jvm.ClassFile.FieldType.object "CompiledHouse$Statement"))) ∈ lw_all := lw_g (lw_at lw_m6 180 rfl) rfl
def kX1_loop : xK := (yX1_loop, cX1_loop, 6, some (.object "CompiledHouse$Statement"), [])
theorem me_X1_loop : xMe kX1_loop 0 := ⟨q1576, q198, by decide, by decide, by decide +kernel⟩
theorem q1575 : (Jvm.Cond.instanceMethod ({ cls := "CompiledHouse$Parser", name := "loop", desc := "()LCompiledHouse$Statement;" } : Jvm.MethodName)) ∈ lw_all := lw_g (lw_at lw_m6 179 rfl) rfl
theorem is_X1_loop : Cond.instanceMethod kX1_loop.y ∈ lw_all := q1575
theorem se_X1_loop : Cond.selects RX1 kX1_loop.y kX1_loop.y ∈ lw_all := qs38
theorem lk_X1_182 : xLk RX1 182 yX1_loop := Or.inl q1573
theorem q1635 : (Jvm.Cond.classLink "CompiledHouse$Parser" (185 : Nat) "CompiledHouse$Leave") ∈ lw_all := lw_g (lw_at lw_m6 239 rfl) rfl
theorem q1637 : (Jvm.Cond.methodLink "CompiledHouse$Parser" (187 : Nat) ({ cls := "CompiledHouse$Leave", name := "<init>", desc := "(IZ)V" } : Jvm.MethodName)) ∈ lw_all := lw_g (lw_at lw_m7 1 rfl) rfl
abbrev cX31_init : ByteArray := prog_18_method_1_code
def yX31_init : MethodName := ⟨RX31, "<init>", "(IZ)V"⟩
theorem q1639 : (Jvm.Cond.code ({ cls := "CompiledHouse$Leave", name := "<init>", desc := "(IZ)V" } : Jvm.MethodName) prog_18_method_1_code (3 : Nat) (Option.none : Option Jvm.ClassFile.FieldType)) ∈ lw_all := lw_g (lw_at lw_m7 3 rfl) rfl
def kX31_init : xK := (yX31_init, cX31_init, 3, none, [])
theorem me_X31_init : xMe kX31_init 2 := ⟨q1639, q243, by decide, by decide, by decide +kernel⟩
theorem q1638 : (Jvm.Cond.instanceMethod ({ cls := "CompiledHouse$Leave", name := "<init>", desc := "(IZ)V" } : Jvm.MethodName)) ∈ lw_all := lw_g (lw_at lw_m7 2 rfl) rfl
theorem is_X31_init : Cond.instanceMethod kX31_init.y ∈ lw_all := q1638
theorem lk_X1_187 : xLk RX1 187 yX31_init := Or.inl q1637
theorem q1648 : (Jvm.Cond.classLink "CompiledHouse$Parser" (190 : Nat) "CompiledHouse$Return") ∈ lw_all := lw_g (lw_at lw_m7 12 rfl) rfl
theorem q1650 : (Jvm.Cond.methodLink "CompiledHouse$Parser" (192 : Nat) ({ cls := "CompiledHouse$Return", name := "<init>", desc := "(ILCompiledHouse$Expr;)V" } : Jvm.MethodName)) ∈ lw_all := lw_g (lw_at lw_m7 14 rfl) rfl
abbrev cX32_init : ByteArray := prog_29_method_1_code
def yX32_init : MethodName := ⟨RX32, "<init>", "(ILCompiledHouse$Expr;)V"⟩
theorem q1652 : (Jvm.Cond.code ({ cls := "CompiledHouse$Return", name := "<init>", desc := "(ILCompiledHouse$Expr;)V" } : Jvm.MethodName) prog_29_method_1_code (3 : Nat) (Option.none : Option Jvm.ClassFile.FieldType)) ∈ lw_all := lw_g (lw_at lw_m7 16 rfl) rfl
def kX32_init : xK := (yX32_init, cX32_init, 3, none, [])
theorem me_X32_init : xMe kX32_init 2 := ⟨q1652, q244, by decide, by decide, by decide +kernel⟩
theorem q1651 : (Jvm.Cond.instanceMethod ({ cls := "CompiledHouse$Return", name := "<init>", desc := "(ILCompiledHouse$Expr;)V" } : Jvm.MethodName)) ∈ lw_all := lw_g (lw_at lw_m7 15 rfl) rfl
theorem is_X32_init : Cond.instanceMethod kX32_init.y ∈ lw_all := q1651
theorem lk_X1_192 : xLk RX1 192 yX32_init := Or.inl q1650
theorem q1661 : (Jvm.Cond.classLink "CompiledHouse$Parser" (195 : Nat) "CompiledHouse$Out") ∈ lw_all := lw_g (lw_at lw_m7 25 rfl) rfl
theorem q1663 : (Jvm.Cond.methodLink "CompiledHouse$Parser" (200 : Nat) ({ cls := "CompiledHouse$Out", name := "<init>", desc := "(LCompiledHouse$Expr;Z)V" } : Jvm.MethodName)) ∈ lw_all := lw_g (lw_at lw_m7 27 rfl) rfl
abbrev cX33_init : ByteArray := prog_25_method_1_code
def yX33_init : MethodName := ⟨RX33, "<init>", "(LCompiledHouse$Expr;Z)V"⟩
theorem q1665 : (Jvm.Cond.code ({ cls := "CompiledHouse$Out", name := "<init>", desc := "(LCompiledHouse$Expr;Z)V" } : Jvm.MethodName) prog_25_method_1_code (3 : Nat) (Option.none : Option Jvm.ClassFile.FieldType)) ∈ lw_all := lw_g (lw_at lw_m7 29 rfl) rfl
def kX33_init : xK := (yX33_init, cX33_init, 3, none, [])
theorem me_X33_init : xMe kX33_init 2 := ⟨q1665, q245, by decide, by decide, by decide +kernel⟩
theorem q1664 : (Jvm.Cond.instanceMethod ({ cls := "CompiledHouse$Out", name := "<init>", desc := "(LCompiledHouse$Expr;Z)V" } : Jvm.MethodName)) ∈ lw_all := lw_g (lw_at lw_m7 28 rfl) rfl
theorem is_X33_init : Cond.instanceMethod kX33_init.y ∈ lw_all := q1664
theorem lk_X1_200 : xLk RX1 200 yX33_init := Or.inl q1663
theorem q1603 : (Jvm.Cond.methodLink "CompiledHouse$Parser" (203 : Nat) ({ cls := "CompiledHouse$Parser", name := "simple", desc := "()LCompiledHouse$Statement;" } : Jvm.MethodName)) ∈ lw_all := lw_g (lw_at lw_m6 207 rfl) rfl
abbrev cX1_simple : ByteArray := prog_27_method_25_code
def yX1_simple : MethodName := ⟨RX1, "simple", "()LCompiledHouse$Statement;"⟩
theorem q1606 : (Jvm.Cond.code ({ cls := "CompiledHouse$Parser", name := "simple", desc := "()LCompiledHouse$Statement;" } : Jvm.MethodName) prog_27_method_25_code (6 : Nat) (Option.some (Jvm.ClassFile.FieldType.object "CompiledHouse$Statement"))) ∈ lw_all := lw_g (lw_at lw_m6 210 rfl) rfl
def kX1_simple : xK := (yX1_simple, cX1_simple, 6, some (.object "CompiledHouse$Statement"), [])
theorem me_X1_simple : xMe kX1_simple 0 := ⟨q1606, q198, by decide, by decide, by decide +kernel⟩
theorem q1605 : (Jvm.Cond.instanceMethod ({ cls := "CompiledHouse$Parser", name := "simple", desc := "()LCompiledHouse$Statement;" } : Jvm.MethodName)) ∈ lw_all := lw_g (lw_at lw_m6 209 rfl) rfl
theorem is_X1_simple : Cond.instanceMethod kX1_simple.y ∈ lw_all := q1605
theorem se_X1_simple : Cond.selects RX1 kX1_simple.y kX1_simple.y ∈ lw_all := qs40
theorem lk_X1_203 : xLk RX1 203 yX1_simple := Or.inl q1603
theorem q1518 : (Jvm.Cond.classLink "CompiledHouse$Parser" (206 : Nat) "CompiledHouse$TellArray") ∈ lw_all := lw_g (lw_at lw_m6 122 rfl) rfl
theorem q1520 : (Jvm.Cond.methodLink "CompiledHouse$Parser" (208 : Nat) ({ cls := "CompiledHouse$TellArray", name := "<init>", desc := "(IIZLCompiledHouse$Expr;)V" } : Jvm.MethodName)) ∈ lw_all := lw_g (lw_at lw_m6 124 rfl) rfl
abbrev cX25_init : ByteArray := prog_34_method_1_code
def yX25_init : MethodName := ⟨RX25, "<init>", "(IIZLCompiledHouse$Expr;)V"⟩
theorem q1522 : (Jvm.Cond.code ({ cls := "CompiledHouse$TellArray", name := "<init>", desc := "(IIZLCompiledHouse$Expr;)V" } : Jvm.MethodName) prog_34_method_1_code (5 : Nat) (Option.none : Option Jvm.ClassFile.FieldType)) ∈ lw_all := lw_g (lw_at lw_m6 126 rfl) rfl
def kX25_init : xK := (yX25_init, cX25_init, 5, none, [])
theorem me_X25_init : xMe kX25_init 4 := ⟨q1522, q237, by decide, by decide, by decide +kernel⟩
theorem q1521 : (Jvm.Cond.instanceMethod ({ cls := "CompiledHouse$TellArray", name := "<init>", desc := "(IIZLCompiledHouse$Expr;)V" } : Jvm.MethodName)) ∈ lw_all := lw_g (lw_at lw_m6 125 rfl) rfl
theorem is_X25_init : Cond.instanceMethod kX25_init.y ∈ lw_all := q1521
theorem lk_X1_208 : xLk RX1 208 yX25_init := Or.inl q1520
theorem q1537 : (Jvm.Cond.classLink "CompiledHouse$Parser" (211 : Nat) "CompiledHouse$Tell") ∈ lw_all := lw_g (lw_at lw_m6 141 rfl) rfl
theorem q1539 : (Jvm.Cond.methodLink "CompiledHouse$Parser" (213 : Nat) ({ cls := "CompiledHouse$Tell", name := "<init>", desc := "(IILCompiledHouse$Expr;)V" } : Jvm.MethodName)) ∈ lw_all := lw_g (lw_at lw_m6 143 rfl) rfl
abbrev cX26_init : ByteArray := prog_33_method_1_code
def yX26_init : MethodName := ⟨RX26, "<init>", "(IILCompiledHouse$Expr;)V"⟩
theorem q1541 : (Jvm.Cond.code ({ cls := "CompiledHouse$Tell", name := "<init>", desc := "(IILCompiledHouse$Expr;)V" } : Jvm.MethodName) prog_33_method_1_code (4 : Nat) (Option.none : Option Jvm.ClassFile.FieldType)) ∈ lw_all := lw_g (lw_at lw_m6 145 rfl) rfl
def kX26_init : xK := (yX26_init, cX26_init, 4, none, [])
theorem me_X26_init : xMe kX26_init 3 := ⟨q1541, q238, by decide, by decide, by decide +kernel⟩
theorem q1540 : (Jvm.Cond.instanceMethod ({ cls := "CompiledHouse$Tell", name := "<init>", desc := "(IILCompiledHouse$Expr;)V" } : Jvm.MethodName)) ∈ lw_all := lw_g (lw_at lw_m6 144 rfl) rfl
theorem is_X26_init : Cond.instanceMethod kX26_init.y ∈ lw_all := q1540
theorem lk_X1_213 : xLk RX1 213 yX26_init := Or.inl q1539
theorem q1557 : (Jvm.Cond.classLink "CompiledHouse$Parser" (216 : Nat) "CompiledHouse$If") ∈ lw_all := lw_g (lw_at lw_m6 161 rfl) rfl
theorem q1559 : (Jvm.Cond.methodLink "CompiledHouse$Parser" (218 : Nat) ({ cls := "CompiledHouse$If", name := "<init>", desc := "(LCompiledHouse$Expr;LCompiledHouse$Statement;LCompiledHouse$Statement;)V" } : Jvm.MethodName)) ∈ lw_all := lw_g (lw_at lw_m6 163 rfl) rfl
abbrev cX27_init : ByteArray := prog_16_method_1_code
def yX27_init : MethodName := ⟨RX27, "<init>", "(LCompiledHouse$Expr;LCompiledHouse$Statement;LCompiledHouse$Statement;)V"⟩
theorem q1561 : (Jvm.Cond.code ({ cls := "CompiledHouse$If", name := "<init>", desc := "(LCompiledHouse$Expr;LCompiledHouse$Statement;LCompiledHouse$Statement;)V" } : Jvm.MethodName) prog_16_method_1_code (4 : Nat) (Option.none : Option Jvm.ClassFile.FieldType)) ∈ lw_all := lw_g (lw_at lw_m6 165 rfl) rfl
def kX27_init : xK := (yX27_init, cX27_init, 4, none, [])
theorem me_X27_init : xMe kX27_init 3 := ⟨q1561, q239, by decide, by decide, by decide +kernel⟩
theorem q1560 : (Jvm.Cond.instanceMethod ({ cls := "CompiledHouse$If", name := "<init>", desc := "(LCompiledHouse$Expr;LCompiledHouse$Statement;LCompiledHouse$Statement;)V" } : Jvm.MethodName)) ∈ lw_all := lw_g (lw_at lw_m6 164 rfl) rfl
theorem is_X27_init : Cond.instanceMethod kX27_init.y ∈ lw_all := q1560
theorem lk_X1_218 : xLk RX1 218 yX27_init := Or.inl q1559
theorem q1577 : (Jvm.Cond.classLink "CompiledHouse$Parser" (221 : Nat) "CompiledHouse$Loop") ∈ lw_all := lw_g (lw_at lw_m6 181 rfl) rfl
theorem q1579 : (Jvm.Cond.methodLink "CompiledHouse$Parser" (223 : Nat) ({ cls := "CompiledHouse$Loop", name := "<init>", desc := "(LCompiledHouse$Statement;LCompiledHouse$Expr;LCompiledHouse$Statement;LCompiledHouse$Statement;Z)V" } : Jvm.MethodName)) ∈ lw_all := lw_g (lw_at lw_m6 183 rfl) rfl
abbrev cX28_init : ByteArray := prog_21_method_1_code
def yX28_init : MethodName := ⟨RX28, "<init>", "(LCompiledHouse$Statement;LCompiledHouse$Expr;LCompiledHouse$Statement;LCompiledHouse$Statement;Z)V"⟩
theorem q1581 : (Jvm.Cond.code ({ cls := "CompiledHouse$Loop", name := "<init>", desc := "(LCompiledHouse$Statement;LCompiledHouse$Expr;LCompiledHouse$Statement;LCompiledHouse$Statement;Z)V" } : Jvm.MethodName) prog_21_method_1_code (6 : Nat) (Option.none : Option Jvm.ClassFile.FieldType)) ∈ lw_all := lw_g (lw_at lw_m6 185 rfl) rfl
def kX28_init : xK := (yX28_init, cX28_init, 6, none, [])
theorem me_X28_init : xMe kX28_init 5 := ⟨q1581, q240, by decide, by decide, by decide +kernel⟩
theorem q1580 : (Jvm.Cond.instanceMethod ({ cls := "CompiledHouse$Loop", name := "<init>", desc := "(LCompiledHouse$Statement;LCompiledHouse$Expr;LCompiledHouse$Statement;LCompiledHouse$Statement;Z)V" } : Jvm.MethodName)) ∈ lw_all := lw_g (lw_at lw_m6 184 rfl) rfl
theorem is_X28_init : Cond.instanceMethod kX28_init.y ∈ lw_all := q1580
theorem lk_X1_223 : xLk RX1 223 yX28_init := Or.inl q1579
theorem q1599 : (Jvm.Cond.methodLink "CompiledHouse$Parser" (226 : Nat) ({ cls := "CompiledHouse$Parser", name := "startTell", desc := "()LCompiledHouse$Statement;" } : Jvm.MethodName)) ∈ lw_all := lw_g (lw_at lw_m6 203 rfl) rfl
abbrev cX1_startTell : ByteArray := prog_27_method_24_code
def yX1_startTell : MethodName := ⟨RX1, "startTell", "()LCompiledHouse$Statement;"⟩
theorem q1602 : (Jvm.Cond.code ({ cls := "CompiledHouse$Parser", name := "startTell", desc := "()LCompiledHouse$Statement;" } : Jvm.MethodName) prog_27_method_24_code (3 : Nat) (Option.some (Jvm.ClassFile.FieldType.object "CompiledHouse$Statement"))) ∈ lw_all := lw_g (lw_at lw_m6 206 rfl) rfl
def kX1_startTell : xK := (yX1_startTell, cX1_startTell, 3, some (.object "CompiledHouse$Statement"), [])
theorem me_X1_startTell : xMe kX1_startTell 0 := ⟨q1602, q198, by decide, by decide, by decide +kernel⟩
theorem q1601 : (Jvm.Cond.instanceMethod ({ cls := "CompiledHouse$Parser", name := "startTell", desc := "()LCompiledHouse$Statement;" } : Jvm.MethodName)) ∈ lw_all := lw_g (lw_at lw_m6 205 rfl) rfl
theorem is_X1_startTell : Cond.instanceMethod kX1_startTell.y ∈ lw_all := q1601
theorem se_X1_startTell : Cond.selects RX1 kX1_startTell.y kX1_startTell.y ∈ lw_all := qs39
theorem lk_X1_226 : xLk RX1 226 yX1_startTell := Or.inl q1599
theorem q1607 : (Jvm.Cond.classLink "CompiledHouse$Parser" (229 : Nat) "CompiledHouse$Do") ∈ lw_all := lw_g (lw_at lw_m6 211 rfl) rfl
theorem q1609 : (Jvm.Cond.methodLink "CompiledHouse$Parser" (235 : Nat) ({ cls := "CompiledHouse$Do", name := "<init>", desc := "(LCompiledHouse$Call;)V" } : Jvm.MethodName)) ∈ lw_all := lw_g (lw_at lw_m6 213 rfl) rfl
abbrev cX29_init : ByteArray := prog_12_method_1_code
def yX29_init : MethodName := ⟨RX29, "<init>", "(LCompiledHouse$Call;)V"⟩
theorem q1611 : (Jvm.Cond.code ({ cls := "CompiledHouse$Do", name := "<init>", desc := "(LCompiledHouse$Call;)V" } : Jvm.MethodName) prog_12_method_1_code (2 : Nat) (Option.none : Option Jvm.ClassFile.FieldType)) ∈ lw_all := lw_g (lw_at lw_m6 215 rfl) rfl
def kX29_init : xK := (yX29_init, cX29_init, 2, none, [])
theorem me_X29_init : xMe kX29_init 1 := ⟨q1611, q241, by decide, by decide, by decide +kernel⟩
theorem q1610 : (Jvm.Cond.instanceMethod ({ cls := "CompiledHouse$Do", name := "<init>", desc := "(LCompiledHouse$Call;)V" } : Jvm.MethodName)) ∈ lw_all := lw_g (lw_at lw_m6 214 rfl) rfl
theorem is_X29_init : Cond.instanceMethod kX29_init.y ∈ lw_all := q1610
theorem lk_X1_235 : xLk RX1 235 yX29_init := Or.inl q1609
theorem q1617 : (Jvm.Cond.classLink "CompiledHouse$Parser" (241 : Nat) "CompiledHouse$Assign") ∈ lw_all := lw_g (lw_at lw_m6 221 rfl) rfl
theorem q1619 : (Jvm.Cond.methodLink "CompiledHouse$Parser" (243 : Nat) ({ cls := "CompiledHouse$Assign", name := "<init>", desc := "(LCompiledHouse$Name;ILCompiledHouse$Expr;)V" } : Jvm.MethodName)) ∈ lw_all := lw_g (lw_at lw_m6 223 rfl) rfl
abbrev cX30_init : ByteArray := prog_4_method_1_code
def yX30_init : MethodName := ⟨RX30, "<init>", "(LCompiledHouse$Name;ILCompiledHouse$Expr;)V"⟩
theorem q1621 : (Jvm.Cond.code ({ cls := "CompiledHouse$Assign", name := "<init>", desc := "(LCompiledHouse$Name;ILCompiledHouse$Expr;)V" } : Jvm.MethodName) prog_4_method_1_code (4 : Nat) (Option.none : Option Jvm.ClassFile.FieldType)) ∈ lw_all := lw_g (lw_at lw_m6 225 rfl) rfl
def kX30_init : xK := (yX30_init, cX30_init, 4, none, [])
theorem me_X30_init : xMe kX30_init 3 := ⟨q1621, q242, by decide, by decide, by decide +kernel⟩
theorem q1620 : (Jvm.Cond.instanceMethod ({ cls := "CompiledHouse$Assign", name := "<init>", desc := "(LCompiledHouse$Name;ILCompiledHouse$Expr;)V" } : Jvm.MethodName)) ∈ lw_all := lw_g (lw_at lw_m6 224 rfl) rfl
theorem is_X30_init : Cond.instanceMethod kX30_init.y ∈ lw_all := q1620
theorem lk_X1_243 : xLk RX1 243 yX30_init := Or.inl q1619
theorem q1633 : (Jvm.Cond.fieldLinkNest "CompiledHouse$Parser" (246 : Nat) "CompiledHouse" "ACTS" "[I" "CompiledHouse") ∈ lw_tbl := lw_at lw_m6 237 rfl
theorem dX1_place_0 : decode cX1_place 0 = .ok (.aload_n 0, 1) := by decide +kernel
theorem dX1_place_1 : decode cX1_place 1 = .ok (.bipush 64, 2) := by decide +kernel
theorem dX1_place_3 : decode cX1_place 3 = .ok (.invokevirtual 71, 3) := by decide +kernel
theorem dX1_place_6 : decode cX1_place 6 = .ok (.ifCond .ne 15, 3) := by decide +kernel
theorem dX1_place_9 : decode cX1_place 9 = .ok (.new 249, 3) := by decide +kernel
theorem dX1_place_12 : decode cX1_place 12 = .ok (.dup, 1) := by decide +kernel
theorem dX1_place_13 : decode cX1_place 13 = .ok (.iload_n 1, 1) := by decide +kernel
theorem dX1_place_14 : decode cX1_place 14 = .ok (.iload_n 2, 1) := by decide +kernel
theorem dX1_place_15 : decode cX1_place 15 = .ok (.aconst_null, 1) := by decide +kernel
theorem dX1_place_16 : decode cX1_place 16 = .ok (.iconst (-1), 1) := by decide +kernel
theorem dX1_place_17 : decode cX1_place 17 = .ok (.invokespecial 251, 3) := by decide +kernel
theorem dX1_place_20 : decode cX1_place 20 = .ok (.areturn, 1) := by decide +kernel
theorem dX1_place_21 : decode cX1_place 21 = .ok (.aload_n 0, 1) := by decide +kernel
theorem dX1_place_22 : decode cX1_place 22 = .ok (.invokevirtual 66, 3) := by decide +kernel
theorem dX1_place_25 : decode cX1_place 25 = .ok (.istore_n 3, 1) := by decide +kernel
theorem dX1_place_26 : decode cX1_place 26 = .ok (.aload_n 0, 1) := by decide +kernel
theorem dX1_place_27 : decode cX1_place 27 = .ok (.bipush 64, 2) := by decide +kernel
theorem dX1_place_29 : decode cX1_place 29 = .ok (.invokevirtual 128, 3) := by decide +kernel
theorem dX1_place_32 : decode cX1_place 32 = .ok (.aload_n 0, 1) := by decide +kernel
theorem dX1_place_33 : decode cX1_place 33 = .ok (.invokevirtual 101, 3) := by decide +kernel
theorem dX1_place_36 : decode cX1_place 36 = .ok (.astore 4, 2) := by decide +kernel
theorem dX1_place_38 : decode cX1_place 38 = .ok (.aload_n 0, 1) := by decide +kernel
theorem dX1_place_39 : decode cX1_place 39 = .ok (.bipush 65, 2) := by decide +kernel
theorem dX1_place_41 : decode cX1_place 41 = .ok (.invokevirtual 131, 3) := by decide +kernel
theorem dX1_place_44 : decode cX1_place 44 = .ok (.new 249, 3) := by decide +kernel
theorem dX1_place_47 : decode cX1_place 47 = .ok (.dup, 1) := by decide +kernel
theorem dX1_place_48 : decode cX1_place 48 = .ok (.iload_n 1, 1) := by decide +kernel
theorem dX1_place_49 : decode cX1_place 49 = .ok (.iload_n 2, 1) := by decide +kernel
theorem dX1_place_50 : decode cX1_place 50 = .ok (.aload 4, 2) := by decide +kernel
theorem dX1_place_52 : decode cX1_place 52 = .ok (.iload_n 3, 1) := by decide +kernel
theorem dX1_place_53 : decode cX1_place 53 = .ok (.invokespecial 251, 3) := by decide +kernel
theorem dX1_place_56 : decode cX1_place 56 = .ok (.areturn, 1) := by decide +kernel
theorem dX1_inside_0 : decode cX1_inside 0 = .ok (.aload_n 0, 1) := by decide +kernel
theorem dX1_inside_1 : decode cX1_inside 1 = .ok (.bipush 62, 2) := by decide +kernel
theorem dX1_inside_3 : decode cX1_inside 3 = .ok (.invokevirtual 128, 3) := by decide +kernel
theorem dX1_inside_6 : decode cX1_inside 6 = .ok (.aload_n 0, 1) := by decide +kernel
theorem dX1_inside_7 : decode cX1_inside 7 = .ok (.invokevirtual 101, 3) := by decide +kernel
theorem dX1_inside_10 : decode cX1_inside 10 = .ok (.astore_n 1, 1) := by decide +kernel
theorem dX1_inside_11 : decode cX1_inside 11 = .ok (.aload_n 0, 1) := by decide +kernel
theorem dX1_inside_12 : decode cX1_inside 12 = .ok (.bipush 63, 2) := by decide +kernel
theorem dX1_inside_14 : decode cX1_inside 14 = .ok (.invokevirtual 131, 3) := by decide +kernel
theorem dX1_inside_17 : decode cX1_inside 17 = .ok (.aload_n 1, 1) := by decide +kernel
theorem dX1_inside_18 : decode cX1_inside 18 = .ok (.areturn, 1) := by decide +kernel
theorem dX1_cut_0 : decode cX1_cut 0 = .ok (.iload_n 1, 1) := by decide +kernel
theorem dX1_cut_1 : decode cX1_cut 1 = .ok (.newarray .int, 2) := by decide +kernel
theorem dX1_cut_3 : decode cX1_cut 3 = .ok (.astore_n 2, 1) := by decide +kernel
theorem dX1_cut_4 : decode cX1_cut 4 = .ok (.iconst 0, 1) := by decide +kernel
theorem dX1_cut_5 : decode cX1_cut 5 = .ok (.istore_n 3, 1) := by decide +kernel
theorem dX1_cut_6 : decode cX1_cut 6 = .ok (.iload_n 3, 1) := by decide +kernel
theorem dX1_cut_7 : decode cX1_cut 7 = .ok (.iload_n 1, 1) := by decide +kernel
theorem dX1_cut_8 : decode cX1_cut 8 = .ok (.if_icmp .ge 15, 3) := by decide +kernel
theorem dX1_cut_11 : decode cX1_cut 11 = .ok (.aload_n 2, 1) := by decide +kernel
theorem dX1_cut_12 : decode cX1_cut 12 = .ok (.iload_n 3, 1) := by decide +kernel
theorem dX1_cut_13 : decode cX1_cut 13 = .ok (.aload_n 0, 1) := by decide +kernel
theorem dX1_cut_14 : decode cX1_cut 14 = .ok (.iload_n 3, 1) := by decide +kernel
theorem dX1_cut_15 : decode cX1_cut 15 = .ok (.iaload, 1) := by decide +kernel
theorem dX1_cut_16 : decode cX1_cut 16 = .ok (.iastore, 1) := by decide +kernel
theorem dX1_cut_17 : decode cX1_cut 17 = .ok (.iinc 3 1, 3) := by decide +kernel
theorem dX1_cut_20 : decode cX1_cut 20 = .ok (.goto (-14), 3) := by decide +kernel
theorem dX1_cut_23 : decode cX1_cut 23 = .ok (.aload_n 2, 1) := by decide +kernel
theorem dX1_cut_24 : decode cX1_cut 24 = .ok (.areturn, 1) := by decide +kernel
theorem dX1_end_0 : decode cX1_end 0 = .ok (.aload_n 0, 1) := by decide +kernel
theorem dX1_end_1 : decode cX1_end 1 = .ok (.bipush 69, 2) := by decide +kernel
theorem dX1_end_3 : decode cX1_end 3 = .ok (.invokevirtual 89, 3) := by decide +kernel
theorem dX1_end_6 : decode cX1_end 6 = .ok (.aload_n 0, 1) := by decide +kernel
theorem dX1_end_7 : decode cX1_end 7 = .ok (.getfield 49, 3) := by decide +kernel
theorem dX1_end_10 : decode cX1_end 10 = .ok (.aload_n 1, 1) := by decide +kernel
theorem dX1_end_11 : decode cX1_end 11 = .ok (.invokevirtual 120, 3) := by decide +kernel
theorem dX1_end_14 : decode cX1_end 14 = .ok (.pop, 1) := by decide +kernel
theorem dX1_end_15 : decode cX1_end 15 = .ok (.return_, 1) := by decide +kernel
theorem dX1_function_0 : decode cX1_function 0 = .ok (.aload_n 1, 1) := by decide +kernel
theorem dX1_function_1 : decode cX1_function 1 = .ok (.iload_n 2, 1) := by decide +kernel
theorem dX1_function_2 : decode cX1_function 2 = .ok (.putfield 139, 3) := by decide +kernel
theorem dX1_function_5 : decode cX1_function 5 = .ok (.aload_n 1, 1) := by decide +kernel
theorem dX1_function_6 : decode cX1_function 6 = .ok (.aload_n 0, 1) := by decide +kernel
theorem dX1_function_7 : decode cX1_function 7 = .ok (.getfield 12, 3) := by decide +kernel
theorem dX1_function_10 : decode cX1_function 10 = .ok (.aload_n 1, 1) := by decide +kernel
theorem dX1_function_11 : decode cX1_function 11 = .ok (.getfield 142, 3) := by decide +kernel
theorem dX1_function_14 : decode cX1_function 14 = .ok (.invokevirtual 145, 3) := by decide +kernel
theorem dX1_function_17 : decode cX1_function 17 = .ok (.putfield 148, 3) := by decide +kernel
theorem dX1_function_20 : decode cX1_function 20 = .ok (.aload_n 1, 1) := by decide +kernel
theorem dX1_function_21 : decode cX1_function 21 = .ok (.new 46, 3) := by decide +kernel
theorem dX1_function_24 : decode cX1_function 24 = .ok (.dup, 1) := by decide +kernel
theorem dX1_function_25 : decode cX1_function 25 = .ok (.iconst 2, 1) := by decide +kernel
theorem dX1_function_26 : decode cX1_function 26 = .ok (.invokespecial 134, 3) := by decide +kernel
theorem dX1_function_29 : decode cX1_function 29 = .ok (.putfield 150, 3) := by decide +kernel
theorem dX1_function_32 : decode cX1_function 32 = .ok (.aload_n 0, 1) := by decide +kernel
theorem dX1_function_33 : decode cX1_function 33 = .ok (.bipush 62, 2) := by decide +kernel
theorem dX1_function_35 : decode cX1_function 35 = .ok (.invokevirtual 128, 3) := by decide +kernel
theorem dX1_function_38 : decode cX1_function 38 = .ok (.aload_n 0, 1) := by decide +kernel
theorem dX1_function_39 : decode cX1_function 39 = .ok (.bipush 63, 2) := by decide +kernel
theorem dX1_function_41 : decode cX1_function 41 = .ok (.invokevirtual 71, 3) := by decide +kernel
theorem dX1_function_44 : decode cX1_function 44 = .ok (.ifCond .ne 24, 3) := by decide +kernel
theorem dX1_function_47 : decode cX1_function 47 = .ok (.aload_n 1, 1) := by decide +kernel
theorem dX1_function_48 : decode cX1_function 48 = .ok (.getfield 150, 3) := by decide +kernel
theorem dX1_function_51 : decode cX1_function 51 = .ok (.aload_n 0, 1) := by decide +kernel
theorem dX1_function_52 : decode cX1_function 52 = .ok (.invokevirtual 153, 3) := by decide +kernel
theorem dX1_function_55 : decode cX1_function 55 = .ok (.invokevirtual 120, 3) := by decide +kernel
theorem dX1_function_58 : decode cX1_function 58 = .ok (.pop, 1) := by decide +kernel
theorem dX1_function_59 : decode cX1_function 59 = .ok (.aload_n 0, 1) := by decide +kernel
theorem dX1_function_60 : decode cX1_function 60 = .ok (.bipush 68, 2) := by decide +kernel
theorem dX1_function_62 : decode cX1_function 62 = .ok (.invokevirtual 79, 3) := by decide +kernel
theorem dX1_function_65 : decode cX1_function 65 = .ok (.ifCond .ne (-18), 3) := by decide +kernel
theorem dX1_function_68 : decode cX1_function 68 = .ok (.aload_n 0, 1) := by decide +kernel
theorem dX1_function_69 : decode cX1_function 69 = .ok (.bipush 63, 2) := by decide +kernel
theorem dX1_function_71 : decode cX1_function 71 = .ok (.invokevirtual 131, 3) := by decide +kernel
theorem dX1_function_74 : decode cX1_function 74 = .ok (.aload_n 1, 1) := by decide +kernel
theorem dX1_function_75 : decode cX1_function 75 = .ok (.aload_n 0, 1) := by decide +kernel
theorem dX1_function_76 : decode cX1_function 76 = .ok (.invokevirtual 157, 3) := by decide +kernel
theorem dX1_function_79 : decode cX1_function 79 = .ok (.putfield 161, 3) := by decide +kernel
theorem dX1_function_82 : decode cX1_function 82 = .ok (.aload_n 0, 1) := by decide +kernel
theorem dX1_function_83 : decode cX1_function 83 = .ok (.getfield 49, 3) := by decide +kernel
theorem dX1_function_86 : decode cX1_function 86 = .ok (.aload_n 1, 1) := by decide +kernel
theorem dX1_function_87 : decode cX1_function 87 = .ok (.invokevirtual 120, 3) := by decide +kernel
theorem dX1_function_90 : decode cX1_function 90 = .ok (.pop, 1) := by decide +kernel
theorem dX1_function_91 : decode cX1_function 91 = .ok (.return_, 1) := by decide +kernel
theorem dX1_formal_0 : decode cX1_formal 0 = .ok (.aload_n 0, 1) := by decide +kernel
theorem dX1_formal_1 : decode cX1_formal 1 = .ok (.invokevirtual 66, 3) := by decide +kernel
theorem dX1_formal_4 : decode cX1_formal 4 = .ok (.istore_n 1, 1) := by decide +kernel
theorem dX1_formal_5 : decode cX1_formal 5 = .ok (.aload_n 0, 1) := by decide +kernel
theorem dX1_formal_6 : decode cX1_formal 6 = .ok (.bipush 11, 2) := by decide +kernel
theorem dX1_formal_8 : decode cX1_formal 8 = .ok (.invokevirtual 71, 3) := by decide +kernel
theorem dX1_formal_11 : decode cX1_formal 11 = .ok (.istore_n 2, 1) := by decide +kernel
theorem dX1_formal_12 : decode cX1_formal 12 = .ok (.iload_n 2, 1) := by decide +kernel
theorem dX1_formal_13 : decode cX1_formal 13 = .ok (.ifCond .ne 17, 3) := by decide +kernel
theorem dX1_formal_16 : decode cX1_formal 16 = .ok (.aload_n 0, 1) := by decide +kernel
theorem dX1_formal_17 : decode cX1_formal 17 = .ok (.bipush 10, 2) := by decide +kernel
theorem dX1_formal_19 : decode cX1_formal 19 = .ok (.invokevirtual 71, 3) := by decide +kernel
theorem dX1_formal_22 : decode cX1_formal 22 = .ok (.ifCond .ne 8, 3) := by decide +kernel
theorem dX1_formal_25 : decode cX1_formal 25 = .ok (.aload_n 0, 1) := by decide +kernel
theorem dX1_formal_26 : decode cX1_formal 26 = .ok (.invokevirtual 82, 3) := by decide +kernel
theorem dX1_formal_29 : decode cX1_formal 29 = .ok (.athrow, 1) := by decide +kernel
theorem dX1_formal_30 : decode cX1_formal 30 = .ok (.aload_n 0, 1) := by decide +kernel
theorem dX1_formal_31 : decode cX1_formal 31 = .ok (.dup, 1) := by decide +kernel
theorem dX1_formal_32 : decode cX1_formal 32 = .ok (.getfield 36, 3) := by decide +kernel
theorem dX1_formal_35 : decode cX1_formal 35 = .ok (.iconst 1, 1) := by decide +kernel
theorem dX1_formal_36 : decode cX1_formal 36 = .ok (.iadd, 1) := by decide +kernel
theorem dX1_formal_37 : decode cX1_formal 37 = .ok (.putfield 36, 3) := by decide +kernel
theorem dX1_formal_40 : decode cX1_formal 40 = .ok (.aload_n 0, 1) := by decide +kernel
theorem dX1_formal_41 : decode cX1_formal 41 = .ok (.invokevirtual 66, 3) := by decide +kernel
theorem dX1_formal_44 : decode cX1_formal 44 = .ok (.istore_n 3, 1) := by decide +kernel
theorem dX1_formal_45 : decode cX1_formal 45 = .ok (.aload_n 0, 1) := by decide +kernel
theorem dX1_formal_46 : decode cX1_formal 46 = .ok (.invokevirtual 95, 3) := by decide +kernel
theorem dX1_formal_49 : decode cX1_formal 49 = .ok (.istore 4, 2) := by decide +kernel
theorem dX1_formal_51 : decode cX1_formal 51 = .ok (.iload_n 2, 1) := by decide +kernel
theorem dX1_formal_52 : decode cX1_formal 52 = .ok (.ifCond .ne 12, 3) := by decide +kernel
theorem dX1_formal_55 : decode cX1_formal 55 = .ok (.aload_n 0, 1) := by decide +kernel
theorem dX1_formal_56 : decode cX1_formal 56 = .ok (.bipush 64, 2) := by decide +kernel
theorem dX1_formal_58 : decode cX1_formal 58 = .ok (.invokevirtual 71, 3) := by decide +kernel
theorem dX1_formal_61 : decode cX1_formal 61 = .ok (.ifCond .eq 7, 3) := by decide +kernel
theorem dX1_formal_64 : decode cX1_formal 64 = .ok (.iconst 1, 1) := by decide +kernel
theorem dX1_formal_65 : decode cX1_formal 65 = .ok (.goto 4, 3) := by decide +kernel
theorem dX1_formal_68 : decode cX1_formal 68 = .ok (.iconst 0, 1) := by decide +kernel
theorem dX1_formal_69 : decode cX1_formal 69 = .ok (.istore 5, 2) := by decide +kernel
theorem dX1_formal_71 : decode cX1_formal 71 = .ok (.iload 5, 2) := by decide +kernel
theorem dX1_formal_73 : decode cX1_formal 73 = .ok (.ifCond .eq 15, 3) := by decide +kernel
theorem dX1_formal_76 : decode cX1_formal 76 = .ok (.aload_n 0, 1) := by decide +kernel
theorem dX1_formal_77 : decode cX1_formal 77 = .ok (.bipush 64, 2) := by decide +kernel
theorem dX1_formal_79 : decode cX1_formal 79 = .ok (.invokevirtual 128, 3) := by decide +kernel
theorem dX1_formal_82 : decode cX1_formal 82 = .ok (.aload_n 0, 1) := by decide +kernel
theorem dX1_formal_83 : decode cX1_formal 83 = .ok (.bipush 65, 2) := by decide +kernel
theorem dX1_formal_85 : decode cX1_formal 85 = .ok (.invokevirtual 131, 3) := by decide +kernel
theorem dX1_formal_88 : decode cX1_formal 88 = .ok (.new 164, 3) := by decide +kernel
theorem dX1_formal_91 : decode cX1_formal 91 = .ok (.dup, 1) := by decide +kernel
theorem dX1_formal_92 : decode cX1_formal 92 = .ok (.iload_n 1, 1) := by decide +kernel
theorem dX1_formal_93 : decode cX1_formal 93 = .ok (.iload_n 3, 1) := by decide +kernel
theorem dX1_formal_94 : decode cX1_formal 94 = .ok (.iload 4, 2) := by decide +kernel
theorem dX1_formal_96 : decode cX1_formal 96 = .ok (.iload 5, 2) := by decide +kernel
theorem dX1_formal_98 : decode cX1_formal 98 = .ok (.iload_n 2, 1) := by decide +kernel
theorem dX1_formal_99 : decode cX1_formal 99 = .ok (.invokespecial 166, 3) := by decide +kernel
theorem dX1_formal_102 : decode cX1_formal 102 = .ok (.areturn, 1) := by decide +kernel
theorem dX1_block_0 : decode cX1_block 0 = .ok (.aload_n 0, 1) := by decide +kernel
theorem dX1_block_1 : decode cX1_block 1 = .ok (.bipush 66, 2) := by decide +kernel
theorem dX1_block_3 : decode cX1_block 3 = .ok (.invokevirtual 128, 3) := by decide +kernel
theorem dX1_block_6 : decode cX1_block 6 = .ok (.new 25, 3) := by decide +kernel
theorem dX1_block_9 : decode cX1_block 9 = .ok (.dup, 1) := by decide +kernel
theorem dX1_block_10 : decode cX1_block 10 = .ok (.invokespecial 27, 3) := by decide +kernel
theorem dX1_block_13 : decode cX1_block 13 = .ok (.astore_n 1, 1) := by decide +kernel
theorem dX1_block_14 : decode cX1_block 14 = .ok (.aload_n 0, 1) := by decide +kernel
theorem dX1_block_15 : decode cX1_block 15 = .ok (.bipush 67, 2) := by decide +kernel
theorem dX1_block_17 : decode cX1_block 17 = .ok (.invokevirtual 71, 3) := by decide +kernel
theorem dX1_block_20 : decode cX1_block 20 = .ok (.ifCond .ne 18, 3) := by decide +kernel
theorem dX1_block_23 : decode cX1_block 23 = .ok (.aload_n 1, 1) := by decide +kernel
theorem dX1_block_24 : decode cX1_block 24 = .ok (.getfield 169, 3) := by decide +kernel
theorem dX1_block_27 : decode cX1_block 27 = .ok (.aload_n 0, 1) := by decide +kernel
theorem dX1_block_28 : decode cX1_block 28 = .ok (.invokevirtual 172, 3) := by decide +kernel
theorem dX1_block_31 : decode cX1_block 31 = .ok (.invokevirtual 120, 3) := by decide +kernel
theorem dX1_block_34 : decode cX1_block 34 = .ok (.pop, 1) := by decide +kernel
theorem dX1_block_35 : decode cX1_block 35 = .ok (.goto (-21), 3) := by decide +kernel
theorem dX1_block_38 : decode cX1_block 38 = .ok (.aload_n 0, 1) := by decide +kernel
theorem dX1_block_39 : decode cX1_block 39 = .ok (.bipush 67, 2) := by decide +kernel
theorem dX1_block_41 : decode cX1_block 41 = .ok (.invokevirtual 131, 3) := by decide +kernel
theorem dX1_block_44 : decode cX1_block 44 = .ok (.aload_n 1, 1) := by decide +kernel
theorem dX1_block_45 : decode cX1_block 45 = .ok (.areturn, 1) := by decide +kernel
theorem dX1_statement_0 : decode cX1_statement 0 = .ok (.aload_n 0, 1) := by decide +kernel
theorem dX1_statement_1 : decode cX1_statement 1 = .ok (.invokevirtual 66, 3) := by decide +kernel
theorem dX1_statement_4 : decode cX1_statement 4 = .ok (.istore_n 1, 1) := by decide +kernel
theorem dX1_statement_5 : decode cX1_statement 5 = .ok (.aload_n 0, 1) := by decide +kernel
theorem dX1_statement_6 : decode cX1_statement 6 = .ok (.invokevirtual 53, 3) := by decide +kernel
theorem dX1_statement_9 : decode cX1_statement 9 = .ok (.lookupswitch 87 #[(10, 72), (11, 72), (14, 77), (16, 82), (17, 82), (18, 82), (66, 67)], 67) := by decide +kernel
theorem dX1_statement_76 : decode cX1_statement 76 = .ok (.aload_n 0, 1) := by decide +kernel
theorem dX1_statement_77 : decode cX1_statement 77 = .ok (.invokevirtual 157, 3) := by decide +kernel
theorem dX1_statement_80 : decode cX1_statement 80 = .ok (.areturn, 1) := by decide +kernel
theorem dX1_statement_81 : decode cX1_statement 81 = .ok (.aload_n 0, 1) := by decide +kernel
theorem dX1_statement_82 : decode cX1_statement 82 = .ok (.invokevirtual 176, 3) := by decide +kernel
theorem dX1_statement_85 : decode cX1_statement 85 = .ok (.areturn, 1) := by decide +kernel
theorem dX1_statement_86 : decode cX1_statement 86 = .ok (.aload_n 0, 1) := by decide +kernel
theorem dX1_statement_87 : decode cX1_statement 87 = .ok (.invokevirtual 179, 3) := by decide +kernel
theorem dX1_statement_90 : decode cX1_statement 90 = .ok (.areturn, 1) := by decide +kernel
theorem dX1_statement_91 : decode cX1_statement 91 = .ok (.aload_n 0, 1) := by decide +kernel
theorem dX1_statement_92 : decode cX1_statement 92 = .ok (.invokevirtual 182, 3) := by decide +kernel
theorem dX1_statement_95 : decode cX1_statement 95 = .ok (.areturn, 1) := by decide +kernel
theorem dX1_statement_96 : decode cX1_statement 96 = .ok (.aload_n 0, 1) := by decide +kernel
theorem dX1_statement_97 : decode cX1_statement 97 = .ok (.bipush 19, 2) := by decide +kernel
theorem dX1_statement_99 : decode cX1_statement 99 = .ok (.invokevirtual 79, 3) := by decide +kernel
theorem dX1_statement_102 : decode cX1_statement 102 = .ok (.ifCond .eq 16, 3) := by decide +kernel
theorem dX1_statement_105 : decode cX1_statement 105 = .ok (.new 185, 3) := by decide +kernel
theorem dX1_statement_108 : decode cX1_statement 108 = .ok (.dup, 1) := by decide +kernel
theorem dX1_statement_109 : decode cX1_statement 109 = .ok (.iload_n 1, 1) := by decide +kernel
theorem dX1_statement_110 : decode cX1_statement 110 = .ok (.iconst 1, 1) := by decide +kernel
theorem dX1_statement_111 : decode cX1_statement 111 = .ok (.invokespecial 187, 3) := by decide +kernel
theorem dX1_statement_114 : decode cX1_statement 114 = .ok (.astore_n 2, 1) := by decide +kernel
theorem dX1_statement_115 : decode cX1_statement 115 = .ok (.goto 138, 3) := by decide +kernel
theorem dX1_statement_118 : decode cX1_statement 118 = .ok (.aload_n 0, 1) := by decide +kernel
theorem dX1_statement_119 : decode cX1_statement 119 = .ok (.bipush 20, 2) := by decide +kernel
theorem dX1_statement_121 : decode cX1_statement 121 = .ok (.invokevirtual 79, 3) := by decide +kernel
theorem dX1_statement_124 : decode cX1_statement 124 = .ok (.ifCond .eq 16, 3) := by decide +kernel
theorem dX1_statement_127 : decode cX1_statement 127 = .ok (.new 185, 3) := by decide +kernel
theorem dX1_statement_130 : decode cX1_statement 130 = .ok (.dup, 1) := by decide +kernel
theorem dX1_statement_131 : decode cX1_statement 131 = .ok (.iload_n 1, 1) := by decide +kernel
theorem dX1_statement_132 : decode cX1_statement 132 = .ok (.iconst 0, 1) := by decide +kernel
theorem dX1_statement_133 : decode cX1_statement 133 = .ok (.invokespecial 187, 3) := by decide +kernel
theorem dX1_statement_136 : decode cX1_statement 136 = .ok (.astore_n 2, 1) := by decide +kernel
theorem dX1_statement_137 : decode cX1_statement 137 = .ok (.goto 116, 3) := by decide +kernel
theorem dX1_statement_140 : decode cX1_statement 140 = .ok (.aload_n 0, 1) := by decide +kernel
theorem dX1_statement_141 : decode cX1_statement 141 = .ok (.bipush 21, 2) := by decide +kernel
theorem dX1_statement_143 : decode cX1_statement 143 = .ok (.invokevirtual 79, 3) := by decide +kernel
theorem dX1_statement_146 : decode cX1_statement 146 = .ok (.ifCond .eq 35, 3) := by decide +kernel
theorem dX1_statement_149 : decode cX1_statement 149 = .ok (.new 190, 3) := by decide +kernel
theorem dX1_statement_152 : decode cX1_statement 152 = .ok (.dup, 1) := by decide +kernel
theorem dX1_statement_153 : decode cX1_statement 153 = .ok (.aload_n 0, 1) := by decide +kernel
theorem dX1_statement_154 : decode cX1_statement 154 = .ok (.invokevirtual 66, 3) := by decide +kernel
theorem dX1_statement_157 : decode cX1_statement 157 = .ok (.aload_n 0, 1) := by decide +kernel
theorem dX1_statement_158 : decode cX1_statement 158 = .ok (.bipush 69, 2) := by decide +kernel
theorem dX1_statement_160 : decode cX1_statement 160 = .ok (.invokevirtual 71, 3) := by decide +kernel
theorem dX1_statement_163 : decode cX1_statement 163 = .ok (.ifCond .eq 7, 3) := by decide +kernel
theorem dX1_statement_166 : decode cX1_statement 166 = .ok (.aconst_null, 1) := by decide +kernel
theorem dX1_statement_167 : decode cX1_statement 167 = .ok (.goto 7, 3) := by decide +kernel
theorem dX1_statement_170 : decode cX1_statement 170 = .ok (.aload_n 0, 1) := by decide +kernel
theorem dX1_statement_171 : decode cX1_statement 171 = .ok (.invokevirtual 101, 3) := by decide +kernel
theorem dX1_statement_174 : decode cX1_statement 174 = .ok (.invokespecial 192, 3) := by decide +kernel
theorem dX1_statement_177 : decode cX1_statement 177 = .ok (.astore_n 2, 1) := by decide +kernel
theorem dX1_statement_178 : decode cX1_statement 178 = .ok (.goto 75, 3) := by decide +kernel
theorem dX1_statement_181 : decode cX1_statement 181 = .ok (.aload_n 0, 1) := by decide +kernel
theorem dX1_statement_182 : decode cX1_statement 182 = .ok (.bipush 22, 2) := by decide +kernel
theorem dX1_statement_184 : decode cX1_statement 184 = .ok (.invokevirtual 71, 3) := by decide +kernel
theorem dX1_statement_187 : decode cX1_statement 187 = .ok (.ifCond .ne 12, 3) := by decide +kernel
theorem dX1_statement_190 : decode cX1_statement 190 = .ok (.aload_n 0, 1) := by decide +kernel
theorem dX1_statement_191 : decode cX1_statement 191 = .ok (.bipush 24, 2) := by decide +kernel
theorem dX1_statement_193 : decode cX1_statement 193 = .ok (.invokevirtual 71, 3) := by decide +kernel
theorem dX1_statement_196 : decode cX1_statement 196 = .ok (.ifCond .eq 36, 3) := by decide +kernel
theorem dX1_statement_199 : decode cX1_statement 199 = .ok (.aload_n 0, 1) := by decide +kernel
theorem dX1_statement_200 : decode cX1_statement 200 = .ok (.bipush 22, 2) := by decide +kernel
theorem dX1_statement_202 : decode cX1_statement 202 = .ok (.invokevirtual 71, 3) := by decide +kernel
theorem dX1_statement_205 : decode cX1_statement 205 = .ok (.istore_n 3, 1) := by decide +kernel
theorem dX1_statement_206 : decode cX1_statement 206 = .ok (.aload_n 0, 1) := by decide +kernel
theorem dX1_statement_207 : decode cX1_statement 207 = .ok (.dup, 1) := by decide +kernel
theorem dX1_statement_208 : decode cX1_statement 208 = .ok (.getfield 36, 3) := by decide +kernel
theorem dX1_statement_211 : decode cX1_statement 211 = .ok (.iconst 1, 1) := by decide +kernel
theorem dX1_statement_212 : decode cX1_statement 212 = .ok (.iadd, 1) := by decide +kernel
theorem dX1_statement_213 : decode cX1_statement 213 = .ok (.putfield 36, 3) := by decide +kernel
theorem dX1_statement_216 : decode cX1_statement 216 = .ok (.new 195, 3) := by decide +kernel
theorem dX1_statement_219 : decode cX1_statement 219 = .ok (.dup, 1) := by decide +kernel
theorem dX1_statement_220 : decode cX1_statement 220 = .ok (.aload_n 0, 1) := by decide +kernel
theorem dX1_statement_221 : decode cX1_statement 221 = .ok (.invokevirtual 197, 3) := by decide +kernel
theorem dX1_statement_224 : decode cX1_statement 224 = .ok (.iload_n 3, 1) := by decide +kernel
theorem dX1_statement_225 : decode cX1_statement 225 = .ok (.invokespecial 200, 3) := by decide +kernel
theorem dX1_statement_228 : decode cX1_statement 228 = .ok (.astore_n 2, 1) := by decide +kernel
theorem dX1_statement_229 : decode cX1_statement 229 = .ok (.goto 24, 3) := by decide +kernel
theorem dX1_statement_232 : decode cX1_statement 232 = .ok (.aload_n 0, 1) := by decide +kernel
theorem dX1_statement_233 : decode cX1_statement 233 = .ok (.bipush 69, 2) := by decide +kernel
theorem dX1_statement_235 : decode cX1_statement 235 = .ok (.invokevirtual 71, 3) := by decide +kernel
theorem dX1_statement_238 : decode cX1_statement 238 = .ok (.ifCond .eq 10, 3) := by decide +kernel
theorem dX1_statement_241 : decode cX1_statement 241 = .ok (.aload_n 0, 1) := by decide +kernel
theorem dX1_statement_242 : decode cX1_statement 242 = .ok (.getfield 28, 3) := by decide +kernel
theorem dX1_statement_245 : decode cX1_statement 245 = .ok (.goto 7, 3) := by decide +kernel
theorem dX1_statement_248 : decode cX1_statement 248 = .ok (.aload_n 0, 1) := by decide +kernel
theorem dX1_statement_249 : decode cX1_statement 249 = .ok (.invokevirtual 203, 3) := by decide +kernel
theorem dX1_statement_252 : decode cX1_statement 252 = .ok (.astore_n 2, 1) := by decide +kernel
theorem dX1_statement_253 : decode cX1_statement 253 = .ok (.aload_n 0, 1) := by decide +kernel
theorem dX1_statement_254 : decode cX1_statement 254 = .ok (.bipush 69, 2) := by decide +kernel
theorem dX1_statement_256 : decode cX1_statement 256 = .ok (.invokevirtual 89, 3) := by decide +kernel
theorem dX1_statement_259 : decode cX1_statement 259 = .ok (.aload_n 2, 1) := by decide +kernel
theorem dX1_statement_260 : decode cX1_statement 260 = .ok (.areturn, 1) := by decide +kernel
theorem dX1_tell_0 : decode cX1_tell 0 = .ok (.aload_n 0, 1) := by decide +kernel
theorem dX1_tell_1 : decode cX1_tell 1 = .ok (.bipush 11, 2) := by decide +kernel
theorem dX1_tell_3 : decode cX1_tell 3 = .ok (.invokevirtual 71, 3) := by decide +kernel
theorem dX1_tell_6 : decode cX1_tell 6 = .ok (.istore_n 1, 1) := by decide +kernel
theorem dX1_tell_7 : decode cX1_tell 7 = .ok (.aload_n 0, 1) := by decide +kernel
theorem dX1_tell_8 : decode cX1_tell 8 = .ok (.dup, 1) := by decide +kernel
theorem dX1_tell_9 : decode cX1_tell 9 = .ok (.getfield 36, 3) := by decide +kernel
theorem dX1_tell_12 : decode cX1_tell 12 = .ok (.iconst 1, 1) := by decide +kernel
theorem dX1_tell_13 : decode cX1_tell 13 = .ok (.iadd, 1) := by decide +kernel
theorem dX1_tell_14 : decode cX1_tell 14 = .ok (.putfield 36, 3) := by decide +kernel
theorem dX1_tell_17 : decode cX1_tell 17 = .ok (.aload_n 0, 1) := by decide +kernel
theorem dX1_tell_18 : decode cX1_tell 18 = .ok (.invokevirtual 66, 3) := by decide +kernel
theorem dX1_tell_21 : decode cX1_tell 21 = .ok (.istore_n 2, 1) := by decide +kernel
theorem dX1_tell_22 : decode cX1_tell 22 = .ok (.aload_n 0, 1) := by decide +kernel
theorem dX1_tell_23 : decode cX1_tell 23 = .ok (.invokevirtual 95, 3) := by decide +kernel
theorem dX1_tell_26 : decode cX1_tell 26 = .ok (.istore_n 3, 1) := by decide +kernel
theorem dX1_tell_27 : decode cX1_tell 27 = .ok (.iload_n 1, 1) := by decide +kernel
theorem dX1_tell_28 : decode cX1_tell 28 = .ok (.ifCond .ne 12, 3) := by decide +kernel
theorem dX1_tell_31 : decode cX1_tell 31 = .ok (.aload_n 0, 1) := by decide +kernel
theorem dX1_tell_32 : decode cX1_tell 32 = .ok (.bipush 64, 2) := by decide +kernel
theorem dX1_tell_34 : decode cX1_tell 34 = .ok (.invokevirtual 71, 3) := by decide +kernel
theorem dX1_tell_37 : decode cX1_tell 37 = .ok (.ifCond .eq 38, 3) := by decide +kernel
theorem dX1_tell_40 : decode cX1_tell 40 = .ok (.aload_n 0, 1) := by decide +kernel
theorem dX1_tell_41 : decode cX1_tell 41 = .ok (.bipush 64, 2) := by decide +kernel
theorem dX1_tell_43 : decode cX1_tell 43 = .ok (.invokevirtual 128, 3) := by decide +kernel
theorem dX1_tell_46 : decode cX1_tell 46 = .ok (.aload_n 0, 1) := by decide +kernel
theorem dX1_tell_47 : decode cX1_tell 47 = .ok (.invokevirtual 101, 3) := by decide +kernel
theorem dX1_tell_50 : decode cX1_tell 50 = .ok (.astore 5, 2) := by decide +kernel
theorem dX1_tell_52 : decode cX1_tell 52 = .ok (.aload_n 0, 1) := by decide +kernel
theorem dX1_tell_53 : decode cX1_tell 53 = .ok (.bipush 65, 2) := by decide +kernel
theorem dX1_tell_55 : decode cX1_tell 55 = .ok (.invokevirtual 131, 3) := by decide +kernel
theorem dX1_tell_58 : decode cX1_tell 58 = .ok (.new 206, 3) := by decide +kernel
theorem dX1_tell_61 : decode cX1_tell 61 = .ok (.dup, 1) := by decide +kernel
theorem dX1_tell_62 : decode cX1_tell 62 = .ok (.iload_n 2, 1) := by decide +kernel
theorem dX1_tell_63 : decode cX1_tell 63 = .ok (.iload_n 3, 1) := by decide +kernel
theorem dX1_tell_64 : decode cX1_tell 64 = .ok (.iload_n 1, 1) := by decide +kernel
theorem dX1_tell_65 : decode cX1_tell 65 = .ok (.aload 5, 2) := by decide +kernel
theorem dX1_tell_67 : decode cX1_tell 67 = .ok (.invokespecial 208, 3) := by decide +kernel
theorem dX1_tell_70 : decode cX1_tell 70 = .ok (.astore 4, 2) := by decide +kernel
theorem dX1_tell_72 : decode cX1_tell 72 = .ok (.goto 31, 3) := by decide +kernel
theorem dX1_tell_75 : decode cX1_tell 75 = .ok (.new 211, 3) := by decide +kernel
theorem dX1_tell_78 : decode cX1_tell 78 = .ok (.dup, 1) := by decide +kernel
theorem dX1_tell_79 : decode cX1_tell 79 = .ok (.iload_n 2, 1) := by decide +kernel
theorem dX1_tell_80 : decode cX1_tell 80 = .ok (.iload_n 3, 1) := by decide +kernel
theorem dX1_tell_81 : decode cX1_tell 81 = .ok (.aload_n 0, 1) := by decide +kernel
theorem dX1_tell_82 : decode cX1_tell 82 = .ok (.bipush 72, 2) := by decide +kernel
theorem dX1_tell_84 : decode cX1_tell 84 = .ok (.invokevirtual 79, 3) := by decide +kernel
theorem dX1_tell_87 : decode cX1_tell 87 = .ok (.ifCond .eq 10, 3) := by decide +kernel
theorem dX1_tell_90 : decode cX1_tell 90 = .ok (.aload_n 0, 1) := by decide +kernel
theorem dX1_tell_91 : decode cX1_tell 91 = .ok (.invokevirtual 101, 3) := by decide +kernel
theorem dX1_tell_94 : decode cX1_tell 94 = .ok (.goto 4, 3) := by decide +kernel
theorem dX1_tell_97 : decode cX1_tell 97 = .ok (.aconst_null, 1) := by decide +kernel
theorem dX1_tell_98 : decode cX1_tell 98 = .ok (.invokespecial 213, 3) := by decide +kernel
theorem dX1_tell_101 : decode cX1_tell 101 = .ok (.astore 4, 2) := by decide +kernel
theorem dX1_tell_103 : decode cX1_tell 103 = .ok (.aload_n 0, 1) := by decide +kernel
theorem dX1_tell_104 : decode cX1_tell 104 = .ok (.bipush 69, 2) := by decide +kernel
theorem dX1_tell_106 : decode cX1_tell 106 = .ok (.invokevirtual 89, 3) := by decide +kernel
theorem dX1_tell_109 : decode cX1_tell 109 = .ok (.aload 4, 2) := by decide +kernel
theorem dX1_tell_111 : decode cX1_tell 111 = .ok (.areturn, 1) := by decide +kernel
theorem dX1_choice_0 : decode cX1_choice 0 = .ok (.aload_n 0, 1) := by decide +kernel
theorem dX1_choice_1 : decode cX1_choice 1 = .ok (.bipush 14, 2) := by decide +kernel
theorem dX1_choice_3 : decode cX1_choice 3 = .ok (.invokevirtual 128, 3) := by decide +kernel
theorem dX1_choice_6 : decode cX1_choice 6 = .ok (.aload_n 0, 1) := by decide +kernel
theorem dX1_choice_7 : decode cX1_choice 7 = .ok (.invokevirtual 197, 3) := by decide +kernel
theorem dX1_choice_10 : decode cX1_choice 10 = .ok (.astore_n 1, 1) := by decide +kernel
theorem dX1_choice_11 : decode cX1_choice 11 = .ok (.aload_n 0, 1) := by decide +kernel
theorem dX1_choice_12 : decode cX1_choice 12 = .ok (.invokevirtual 172, 3) := by decide +kernel
theorem dX1_choice_15 : decode cX1_choice 15 = .ok (.astore_n 2, 1) := by decide +kernel
theorem dX1_choice_16 : decode cX1_choice 16 = .ok (.aload_n 0, 1) := by decide +kernel
theorem dX1_choice_17 : decode cX1_choice 17 = .ok (.bipush 15, 2) := by decide +kernel
theorem dX1_choice_19 : decode cX1_choice 19 = .ok (.invokevirtual 79, 3) := by decide +kernel
theorem dX1_choice_22 : decode cX1_choice 22 = .ok (.ifCond .eq 10, 3) := by decide +kernel
theorem dX1_choice_25 : decode cX1_choice 25 = .ok (.aload_n 0, 1) := by decide +kernel
theorem dX1_choice_26 : decode cX1_choice 26 = .ok (.invokevirtual 172, 3) := by decide +kernel
theorem dX1_choice_29 : decode cX1_choice 29 = .ok (.goto 4, 3) := by decide +kernel
theorem dX1_choice_32 : decode cX1_choice 32 = .ok (.aconst_null, 1) := by decide +kernel
theorem dX1_choice_33 : decode cX1_choice 33 = .ok (.astore_n 3, 1) := by decide +kernel
theorem dX1_choice_34 : decode cX1_choice 34 = .ok (.aload_n 0, 1) := by decide +kernel
theorem dX1_choice_35 : decode cX1_choice 35 = .ok (.dup, 1) := by decide +kernel
theorem dX1_choice_36 : decode cX1_choice 36 = .ok (.getfield 40, 3) := by decide +kernel
theorem dX1_choice_39 : decode cX1_choice 39 = .ok (.iconst 1, 1) := by decide +kernel
theorem dX1_choice_40 : decode cX1_choice 40 = .ok (.isub, 1) := by decide +kernel
theorem dX1_choice_41 : decode cX1_choice 41 = .ok (.putfield 40, 3) := by decide +kernel
theorem dX1_choice_44 : decode cX1_choice 44 = .ok (.new 216, 3) := by decide +kernel
theorem dX1_choice_47 : decode cX1_choice 47 = .ok (.dup, 1) := by decide +kernel
theorem dX1_choice_48 : decode cX1_choice 48 = .ok (.aload_n 1, 1) := by decide +kernel
theorem dX1_choice_49 : decode cX1_choice 49 = .ok (.aload_n 2, 1) := by decide +kernel
theorem dX1_choice_50 : decode cX1_choice 50 = .ok (.aload_n 3, 1) := by decide +kernel
theorem dX1_choice_51 : decode cX1_choice 51 = .ok (.invokespecial 218, 3) := by decide +kernel
theorem dX1_choice_54 : decode cX1_choice 54 = .ok (.areturn, 1) := by decide +kernel
theorem dX1_loop_0 : decode cX1_loop 0 = .ok (.aload_n 0, 1) := by decide +kernel
theorem dX1_loop_1 : decode cX1_loop 1 = .ok (.invokevirtual 53, 3) := by decide +kernel
theorem dX1_loop_4 : decode cX1_loop 4 = .ok (.istore_n 1, 1) := by decide +kernel
theorem dX1_loop_5 : decode cX1_loop 5 = .ok (.aload_n 0, 1) := by decide +kernel
theorem dX1_loop_6 : decode cX1_loop 6 = .ok (.iload_n 1, 1) := by decide +kernel
theorem dX1_loop_7 : decode cX1_loop 7 = .ok (.invokevirtual 128, 3) := by decide +kernel
theorem dX1_loop_10 : decode cX1_loop 10 = .ok (.aconst_null, 1) := by decide +kernel
theorem dX1_loop_11 : decode cX1_loop 11 = .ok (.astore_n 2, 1) := by decide +kernel
theorem dX1_loop_12 : decode cX1_loop 12 = .ok (.aconst_null, 1) := by decide +kernel
theorem dX1_loop_13 : decode cX1_loop 13 = .ok (.astore_n 3, 1) := by decide +kernel
theorem dX1_loop_14 : decode cX1_loop 14 = .ok (.aconst_null, 1) := by decide +kernel
theorem dX1_loop_15 : decode cX1_loop 15 = .ok (.astore 4, 2) := by decide +kernel
theorem dX1_loop_17 : decode cX1_loop 17 = .ok (.iload_n 1, 1) := by decide +kernel
theorem dX1_loop_18 : decode cX1_loop 18 = .ok (.bipush 17, 2) := by decide +kernel
theorem dX1_loop_20 : decode cX1_loop 20 = .ok (.if_icmp .ne 52, 3) := by decide +kernel
theorem dX1_loop_23 : decode cX1_loop 23 = .ok (.aload_n 0, 1) := by decide +kernel
theorem dX1_loop_24 : decode cX1_loop 24 = .ok (.invokevirtual 172, 3) := by decide +kernel
theorem dX1_loop_27 : decode cX1_loop 27 = .ok (.astore 5, 2) := by decide +kernel
theorem dX1_loop_29 : decode cX1_loop 29 = .ok (.aload_n 0, 1) := by decide +kernel
theorem dX1_loop_30 : decode cX1_loop 30 = .ok (.bipush 16, 2) := by decide +kernel
theorem dX1_loop_32 : decode cX1_loop 32 = .ok (.invokevirtual 89, 3) := by decide +kernel
theorem dX1_loop_35 : decode cX1_loop 35 = .ok (.aload_n 0, 1) := by decide +kernel
theorem dX1_loop_36 : decode cX1_loop 36 = .ok (.invokevirtual 197, 3) := by decide +kernel
theorem dX1_loop_39 : decode cX1_loop 39 = .ok (.astore 4, 2) := by decide +kernel
theorem dX1_loop_41 : decode cX1_loop 41 = .ok (.aload_n 0, 1) := by decide +kernel
theorem dX1_loop_42 : decode cX1_loop 42 = .ok (.bipush 69, 2) := by decide +kernel
theorem dX1_loop_44 : decode cX1_loop 44 = .ok (.invokevirtual 89, 3) := by decide +kernel
theorem dX1_loop_47 : decode cX1_loop 47 = .ok (.aload_n 0, 1) := by decide +kernel
theorem dX1_loop_48 : decode cX1_loop 48 = .ok (.dup, 1) := by decide +kernel
theorem dX1_loop_49 : decode cX1_loop 49 = .ok (.getfield 40, 3) := by decide +kernel
theorem dX1_loop_52 : decode cX1_loop 52 = .ok (.iconst 1, 1) := by decide +kernel
theorem dX1_loop_53 : decode cX1_loop 53 = .ok (.isub, 1) := by decide +kernel
theorem dX1_loop_54 : decode cX1_loop 54 = .ok (.putfield 40, 3) := by decide +kernel
theorem dX1_loop_57 : decode cX1_loop 57 = .ok (.new 221, 3) := by decide +kernel
theorem dX1_loop_60 : decode cX1_loop 60 = .ok (.dup, 1) := by decide +kernel
theorem dX1_loop_61 : decode cX1_loop 61 = .ok (.aconst_null, 1) := by decide +kernel
theorem dX1_loop_62 : decode cX1_loop 62 = .ok (.aload 4, 2) := by decide +kernel
theorem dX1_loop_64 : decode cX1_loop 64 = .ok (.aconst_null, 1) := by decide +kernel
theorem dX1_loop_65 : decode cX1_loop 65 = .ok (.aload 5, 2) := by decide +kernel
theorem dX1_loop_67 : decode cX1_loop 67 = .ok (.iconst 1, 1) := by decide +kernel
theorem dX1_loop_68 : decode cX1_loop 68 = .ok (.invokespecial 223, 3) := by decide +kernel
theorem dX1_loop_71 : decode cX1_loop 71 = .ok (.areturn, 1) := by decide +kernel
theorem dX1_loop_72 : decode cX1_loop 72 = .ok (.iload_n 1, 1) := by decide +kernel
theorem dX1_loop_73 : decode cX1_loop 73 = .ok (.bipush 16, 2) := by decide +kernel
theorem dX1_loop_75 : decode cX1_loop 75 = .ok (.if_icmp .ne 12, 3) := by decide +kernel
theorem dX1_loop_78 : decode cX1_loop 78 = .ok (.aload_n 0, 1) := by decide +kernel
theorem dX1_loop_79 : decode cX1_loop 79 = .ok (.invokevirtual 197, 3) := by decide +kernel
theorem dX1_loop_82 : decode cX1_loop 82 = .ok (.astore 4, 2) := by decide +kernel
theorem dX1_loop_84 : decode cX1_loop 84 = .ok (.goto 98, 3) := by decide +kernel
theorem dX1_loop_87 : decode cX1_loop 87 = .ok (.aload_n 0, 1) := by decide +kernel
theorem dX1_loop_88 : decode cX1_loop 88 = .ok (.bipush 62, 2) := by decide +kernel
theorem dX1_loop_90 : decode cX1_loop 90 = .ok (.invokevirtual 128, 3) := by decide +kernel
theorem dX1_loop_93 : decode cX1_loop 93 = .ok (.aload_n 0, 1) := by decide +kernel
theorem dX1_loop_94 : decode cX1_loop 94 = .ok (.bipush 69, 2) := by decide +kernel
theorem dX1_loop_96 : decode cX1_loop 96 = .ok (.invokevirtual 71, 3) := by decide +kernel
theorem dX1_loop_99 : decode cX1_loop 99 = .ok (.ifCond .eq 7, 3) := by decide +kernel
theorem dX1_loop_102 : decode cX1_loop 102 = .ok (.aconst_null, 1) := by decide +kernel
theorem dX1_loop_103 : decode cX1_loop 103 = .ok (.goto 23, 3) := by decide +kernel
theorem dX1_loop_106 : decode cX1_loop 106 = .ok (.aload_n 0, 1) := by decide +kernel
theorem dX1_loop_107 : decode cX1_loop 107 = .ok (.bipush 10, 2) := by decide +kernel
theorem dX1_loop_109 : decode cX1_loop 109 = .ok (.invokevirtual 79, 3) := by decide +kernel
theorem dX1_loop_112 : decode cX1_loop 112 = .ok (.ifCond .eq 10, 3) := by decide +kernel
theorem dX1_loop_115 : decode cX1_loop 115 = .ok (.aload_n 0, 1) := by decide +kernel
theorem dX1_loop_116 : decode cX1_loop 116 = .ok (.invokevirtual 226, 3) := by decide +kernel
theorem dX1_loop_119 : decode cX1_loop 119 = .ok (.goto 7, 3) := by decide +kernel
theorem dX1_loop_122 : decode cX1_loop 122 = .ok (.aload_n 0, 1) := by decide +kernel
theorem dX1_loop_123 : decode cX1_loop 123 = .ok (.invokevirtual 203, 3) := by decide +kernel
theorem dX1_loop_126 : decode cX1_loop 126 = .ok (.astore_n 2, 1) := by decide +kernel
theorem dX1_loop_127 : decode cX1_loop 127 = .ok (.aload_n 0, 1) := by decide +kernel
theorem dX1_loop_128 : decode cX1_loop 128 = .ok (.bipush 69, 2) := by decide +kernel
theorem dX1_loop_130 : decode cX1_loop 130 = .ok (.invokevirtual 89, 3) := by decide +kernel
theorem dX1_loop_133 : decode cX1_loop 133 = .ok (.aload_n 0, 1) := by decide +kernel
theorem dX1_loop_134 : decode cX1_loop 134 = .ok (.bipush 69, 2) := by decide +kernel
theorem dX1_loop_136 : decode cX1_loop 136 = .ok (.invokevirtual 71, 3) := by decide +kernel
theorem dX1_loop_139 : decode cX1_loop 139 = .ok (.ifCond .eq 7, 3) := by decide +kernel
theorem dX1_loop_142 : decode cX1_loop 142 = .ok (.aconst_null, 1) := by decide +kernel
theorem dX1_loop_143 : decode cX1_loop 143 = .ok (.goto 7, 3) := by decide +kernel
theorem dX1_loop_146 : decode cX1_loop 146 = .ok (.aload_n 0, 1) := by decide +kernel
theorem dX1_loop_147 : decode cX1_loop 147 = .ok (.invokevirtual 101, 3) := by decide +kernel
theorem dX1_loop_150 : decode cX1_loop 150 = .ok (.astore 4, 2) := by decide +kernel
theorem dX1_loop_152 : decode cX1_loop 152 = .ok (.aload_n 0, 1) := by decide +kernel
theorem dX1_loop_153 : decode cX1_loop 153 = .ok (.bipush 69, 2) := by decide +kernel
theorem dX1_loop_155 : decode cX1_loop 155 = .ok (.invokevirtual 89, 3) := by decide +kernel
theorem dX1_loop_158 : decode cX1_loop 158 = .ok (.aload_n 0, 1) := by decide +kernel
theorem dX1_loop_159 : decode cX1_loop 159 = .ok (.bipush 63, 2) := by decide +kernel
theorem dX1_loop_161 : decode cX1_loop 161 = .ok (.invokevirtual 71, 3) := by decide +kernel
theorem dX1_loop_164 : decode cX1_loop 164 = .ok (.ifCond .eq 7, 3) := by decide +kernel
theorem dX1_loop_167 : decode cX1_loop 167 = .ok (.aconst_null, 1) := by decide +kernel
theorem dX1_loop_168 : decode cX1_loop 168 = .ok (.goto 7, 3) := by decide +kernel
theorem dX1_loop_171 : decode cX1_loop 171 = .ok (.aload_n 0, 1) := by decide +kernel
theorem dX1_loop_172 : decode cX1_loop 172 = .ok (.invokevirtual 203, 3) := by decide +kernel
theorem dX1_loop_175 : decode cX1_loop 175 = .ok (.astore_n 3, 1) := by decide +kernel
theorem dX1_loop_176 : decode cX1_loop 176 = .ok (.aload_n 0, 1) := by decide +kernel
theorem dX1_loop_177 : decode cX1_loop 177 = .ok (.bipush 63, 2) := by decide +kernel
theorem dX1_loop_179 : decode cX1_loop 179 = .ok (.invokevirtual 131, 3) := by decide +kernel
theorem dX1_loop_182 : decode cX1_loop 182 = .ok (.aload_n 0, 1) := by decide +kernel
theorem dX1_loop_183 : decode cX1_loop 183 = .ok (.invokevirtual 172, 3) := by decide +kernel
theorem dX1_loop_186 : decode cX1_loop 186 = .ok (.astore 5, 2) := by decide +kernel
theorem dX1_loop_188 : decode cX1_loop 188 = .ok (.aload_n 0, 1) := by decide +kernel
theorem dX1_loop_189 : decode cX1_loop 189 = .ok (.dup, 1) := by decide +kernel
theorem dX1_loop_190 : decode cX1_loop 190 = .ok (.getfield 40, 3) := by decide +kernel
theorem dX1_loop_193 : decode cX1_loop 193 = .ok (.iconst 1, 1) := by decide +kernel
theorem dX1_loop_194 : decode cX1_loop 194 = .ok (.isub, 1) := by decide +kernel
theorem dX1_loop_195 : decode cX1_loop 195 = .ok (.putfield 40, 3) := by decide +kernel
theorem dX1_loop_198 : decode cX1_loop 198 = .ok (.new 221, 3) := by decide +kernel
theorem dX1_loop_201 : decode cX1_loop 201 = .ok (.dup, 1) := by decide +kernel
theorem dX1_loop_202 : decode cX1_loop 202 = .ok (.aload_n 2, 1) := by decide +kernel
theorem dX1_loop_203 : decode cX1_loop 203 = .ok (.aload 4, 2) := by decide +kernel
theorem dX1_loop_205 : decode cX1_loop 205 = .ok (.aload_n 3, 1) := by decide +kernel
theorem dX1_loop_206 : decode cX1_loop 206 = .ok (.aload 5, 2) := by decide +kernel
theorem dX1_loop_208 : decode cX1_loop 208 = .ok (.iconst 0, 1) := by decide +kernel
theorem dX1_loop_209 : decode cX1_loop 209 = .ok (.invokespecial 223, 3) := by decide +kernel
theorem dX1_loop_212 : decode cX1_loop 212 = .ok (.areturn, 1) := by decide +kernel
theorem dX1_startTell_0 : decode cX1_startTell 0 = .ok (.aload_n 0, 1) := by decide +kernel
theorem dX1_startTell_1 : decode cX1_startTell 1 = .ok (.invokevirtual 66, 3) := by decide +kernel
theorem dX1_startTell_4 : decode cX1_startTell 4 = .ok (.istore_n 1, 1) := by decide +kernel
theorem dX1_startTell_5 : decode cX1_startTell 5 = .ok (.aload_n 0, 1) := by decide +kernel
theorem dX1_startTell_6 : decode cX1_startTell 6 = .ok (.invokevirtual 95, 3) := by decide +kernel
theorem dX1_startTell_9 : decode cX1_startTell 9 = .ok (.istore_n 2, 1) := by decide +kernel
theorem dX1_startTell_10 : decode cX1_startTell 10 = .ok (.aload_n 0, 1) := by decide +kernel
theorem dX1_startTell_11 : decode cX1_startTell 11 = .ok (.bipush 72, 2) := by decide +kernel
theorem dX1_startTell_13 : decode cX1_startTell 13 = .ok (.invokevirtual 89, 3) := by decide +kernel
theorem dX1_startTell_16 : decode cX1_startTell 16 = .ok (.new 211, 3) := by decide +kernel
theorem dX1_startTell_19 : decode cX1_startTell 19 = .ok (.dup, 1) := by decide +kernel
theorem dX1_startTell_20 : decode cX1_startTell 20 = .ok (.iload_n 1, 1) := by decide +kernel
theorem dX1_startTell_21 : decode cX1_startTell 21 = .ok (.iload_n 2, 1) := by decide +kernel
theorem dX1_startTell_22 : decode cX1_startTell 22 = .ok (.aload_n 0, 1) := by decide +kernel
theorem dX1_startTell_23 : decode cX1_startTell 23 = .ok (.invokevirtual 101, 3) := by decide +kernel
theorem dX1_startTell_26 : decode cX1_startTell 26 = .ok (.invokespecial 213, 3) := by decide +kernel
theorem dX1_startTell_29 : decode cX1_startTell 29 = .ok (.areturn, 1) := by decide +kernel
theorem dX1_simple_0 : decode cX1_simple 0 = .ok (.aload_n 0, 1) := by decide +kernel
theorem dX1_simple_1 : decode cX1_simple 1 = .ok (.invokevirtual 66, 3) := by decide +kernel
theorem dX1_simple_4 : decode cX1_simple 4 = .ok (.istore_n 1, 1) := by decide +kernel
theorem dX1_simple_5 : decode cX1_simple 5 = .ok (.aload_n 0, 1) := by decide +kernel
theorem dX1_simple_6 : decode cX1_simple 6 = .ok (.invokevirtual 95, 3) := by decide +kernel
theorem dX1_simple_9 : decode cX1_simple 9 = .ok (.istore_n 2, 1) := by decide +kernel
theorem dX1_simple_10 : decode cX1_simple 10 = .ok (.aload_n 0, 1) := by decide +kernel
theorem dX1_simple_11 : decode cX1_simple 11 = .ok (.bipush 62, 2) := by decide +kernel
theorem dX1_simple_13 : decode cX1_simple 13 = .ok (.invokevirtual 71, 3) := by decide +kernel
theorem dX1_simple_16 : decode cX1_simple 16 = .ok (.ifCond .eq 17, 3) := by decide +kernel
theorem dX1_simple_19 : decode cX1_simple 19 = .ok (.new 229, 3) := by decide +kernel
theorem dX1_simple_22 : decode cX1_simple 22 = .ok (.dup, 1) := by decide +kernel
theorem dX1_simple_23 : decode cX1_simple 23 = .ok (.aload_n 0, 1) := by decide +kernel
theorem dX1_simple_24 : decode cX1_simple 24 = .ok (.iload_n 1, 1) := by decide +kernel
theorem dX1_simple_25 : decode cX1_simple 25 = .ok (.iload_n 2, 1) := by decide +kernel
theorem dX1_simple_26 : decode cX1_simple 26 = .ok (.invokevirtual 231, 3) := by decide +kernel
theorem dX1_simple_29 : decode cX1_simple 29 = .ok (.invokespecial 235, 3) := by decide +kernel
theorem dX1_simple_32 : decode cX1_simple 32 = .ok (.areturn, 1) := by decide +kernel
theorem dX1_simple_33 : decode cX1_simple 33 = .ok (.aload_n 0, 1) := by decide +kernel
theorem dX1_simple_34 : decode cX1_simple 34 = .ok (.iload_n 1, 1) := by decide +kernel
theorem dX1_simple_35 : decode cX1_simple 35 = .ok (.iload_n 2, 1) := by decide +kernel
theorem dX1_simple_36 : decode cX1_simple 36 = .ok (.invokevirtual 238, 3) := by decide +kernel
theorem dX1_simple_39 : decode cX1_simple 39 = .ok (.astore_n 3, 1) := by decide +kernel
theorem dX1_simple_40 : decode cX1_simple 40 = .ok (.aload_n 0, 1) := by decide +kernel
theorem dX1_simple_41 : decode cX1_simple 41 = .ok (.invokevirtual 53, 3) := by decide +kernel
theorem dX1_simple_44 : decode cX1_simple 44 = .ok (.istore 4, 2) := by decide +kernel
theorem dX1_simple_46 : decode cX1_simple 46 = .ok (.iload 4, 2) := by decide +kernel
theorem dX1_simple_48 : decode cX1_simple 48 = .ok (.bipush 52, 2) := by decide +kernel
theorem dX1_simple_50 : decode cX1_simple 50 = .ok (.if_icmp .eq 10, 3) := by decide +kernel
theorem dX1_simple_53 : decode cX1_simple 53 = .ok (.iload 4, 2) := by decide +kernel
theorem dX1_simple_55 : decode cX1_simple 55 = .ok (.bipush 53, 2) := by decide +kernel
theorem dX1_simple_57 : decode cX1_simple 57 = .ok (.if_icmp .ne 35, 3) := by decide +kernel
theorem dX1_simple_60 : decode cX1_simple 60 = .ok (.aload_n 0, 1) := by decide +kernel
theorem dX1_simple_61 : decode cX1_simple 61 = .ok (.dup, 1) := by decide +kernel
theorem dX1_simple_62 : decode cX1_simple 62 = .ok (.getfield 36, 3) := by decide +kernel
theorem dX1_simple_65 : decode cX1_simple 65 = .ok (.iconst 1, 1) := by decide +kernel
theorem dX1_simple_66 : decode cX1_simple 66 = .ok (.iadd, 1) := by decide +kernel
theorem dX1_simple_67 : decode cX1_simple 67 = .ok (.putfield 36, 3) := by decide +kernel
theorem dX1_simple_70 : decode cX1_simple 70 = .ok (.new 241, 3) := by decide +kernel
theorem dX1_simple_73 : decode cX1_simple 73 = .ok (.dup, 1) := by decide +kernel
theorem dX1_simple_74 : decode cX1_simple 74 = .ok (.aload_n 3, 1) := by decide +kernel
theorem dX1_simple_75 : decode cX1_simple 75 = .ok (.iload 4, 2) := by decide +kernel
theorem dX1_simple_77 : decode cX1_simple 77 = .ok (.bipush 52, 2) := by decide +kernel
theorem dX1_simple_79 : decode cX1_simple 79 = .ok (.if_icmp .ne 7, 3) := by decide +kernel
theorem dX1_simple_82 : decode cX1_simple 82 = .ok (.iconst 0, 1) := by decide +kernel
theorem dX1_simple_83 : decode cX1_simple 83 = .ok (.goto 4, 3) := by decide +kernel
theorem dX1_simple_86 : decode cX1_simple 86 = .ok (.iconst 1, 1) := by decide +kernel
theorem dX1_simple_87 : decode cX1_simple 87 = .ok (.aconst_null, 1) := by decide +kernel
theorem dX1_simple_88 : decode cX1_simple 88 = .ok (.invokespecial 243, 3) := by decide +kernel
theorem dX1_simple_91 : decode cX1_simple 91 = .ok (.areturn, 1) := by decide +kernel
theorem dX1_simple_92 : decode cX1_simple 92 = .ok (.iload 4, 2) := by decide +kernel
theorem dX1_simple_94 : decode cX1_simple 94 = .ok (.bipush 72, 2) := by decide +kernel
theorem dX1_simple_96 : decode cX1_simple 96 = .ok (.if_icmp .ne 7, 3) := by decide +kernel
theorem dX1_simple_99 : decode cX1_simple 99 = .ok (.iconst (-1), 1) := by decide +kernel
theorem dX1_simple_100 : decode cX1_simple 100 = .ok (.goto 69, 3) := by decide +kernel
theorem dX1_simple_103 : decode cX1_simple 103 = .ok (.iload 4, 2) := by decide +kernel
theorem dX1_simple_105 : decode cX1_simple 105 = .ok (.bipush 40, 2) := by decide +kernel
theorem dX1_simple_107 : decode cX1_simple 107 = .ok (.if_icmp .ne 8, 3) := by decide +kernel
theorem dX1_simple_110 : decode cX1_simple 110 = .ok (.bipush 10, 2) := by decide +kernel
theorem dX1_simple_112 : decode cX1_simple 112 = .ok (.goto 57, 3) := by decide +kernel
theorem dX1_simple_115 : decode cX1_simple 115 = .ok (.iload 4, 2) := by decide +kernel
theorem dX1_simple_117 : decode cX1_simple 117 = .ok (.bipush 41, 2) := by decide +kernel
theorem dX1_simple_119 : decode cX1_simple 119 = .ok (.if_icmp .ne 8, 3) := by decide +kernel
theorem dX1_simple_122 : decode cX1_simple 122 = .ok (.bipush 8, 2) := by decide +kernel
theorem dX1_simple_124 : decode cX1_simple 124 = .ok (.goto 45, 3) := by decide +kernel
theorem dX1_simple_127 : decode cX1_simple 127 = .ok (.iload 4, 2) := by decide +kernel
theorem dX1_simple_129 : decode cX1_simple 129 = .ok (.bipush 42, 2) := by decide +kernel
theorem dX1_simple_131 : decode cX1_simple 131 = .ok (.if_icmp .ne 8, 3) := by decide +kernel
theorem dX1_simple_134 : decode cX1_simple 134 = .ok (.bipush 9, 2) := by decide +kernel
theorem dX1_simple_136 : decode cX1_simple 136 = .ok (.goto 33, 3) := by decide +kernel
theorem dX1_simple_139 : decode cX1_simple 139 = .ok (.iload 4, 2) := by decide +kernel
theorem dX1_simple_141 : decode cX1_simple 141 = .ok (.bipush 44, 2) := by decide +kernel
theorem dX1_simple_143 : decode cX1_simple 143 = .ok (.if_icmp .lt 24, 3) := by decide +kernel
theorem dX1_simple_146 : decode cX1_simple 146 = .ok (.iload 4, 2) := by decide +kernel
theorem dX1_simple_148 : decode cX1_simple 148 = .ok (.bipush 51, 2) := by decide +kernel
theorem dX1_simple_150 : decode cX1_simple 150 = .ok (.if_icmp .gt 17, 3) := by decide +kernel
theorem dX1_simple_153 : decode cX1_simple 153 = .ok (.getstatic 246, 3) := by decide +kernel
theorem dX1_simple_156 : decode cX1_simple 156 = .ok (.iload 4, 2) := by decide +kernel
theorem dX1_simple_158 : decode cX1_simple 158 = .ok (.bipush 40, 2) := by decide +kernel
theorem dX1_simple_160 : decode cX1_simple 160 = .ok (.isub, 1) := by decide +kernel
theorem dX1_simple_161 : decode cX1_simple 161 = .ok (.iconst 4, 1) := by decide +kernel
theorem dX1_simple_162 : decode cX1_simple 162 = .ok (.isub, 1) := by decide +kernel
theorem dX1_simple_163 : decode cX1_simple 163 = .ok (.iaload, 1) := by decide +kernel
theorem dX1_simple_164 : decode cX1_simple 164 = .ok (.goto 5, 3) := by decide +kernel
theorem dX1_simple_167 : decode cX1_simple 167 = .ok (.bipush (-2), 2) := by decide +kernel
theorem dX1_simple_169 : decode cX1_simple 169 = .ok (.istore 5, 2) := by decide +kernel
theorem dX1_simple_171 : decode cX1_simple 171 = .ok (.iload 5, 2) := by decide +kernel
theorem dX1_simple_173 : decode cX1_simple 173 = .ok (.iconst (-1), 1) := by decide +kernel
theorem dX1_simple_174 : decode cX1_simple 174 = .ok (.if_icmp .ge 8, 3) := by decide +kernel
theorem dX1_simple_177 : decode cX1_simple 177 = .ok (.aload_n 0, 1) := by decide +kernel
theorem dX1_simple_178 : decode cX1_simple 178 = .ok (.invokevirtual 82, 3) := by decide +kernel
theorem dX1_simple_181 : decode cX1_simple 181 = .ok (.athrow, 1) := by decide +kernel
theorem dX1_simple_182 : decode cX1_simple 182 = .ok (.aload_n 0, 1) := by decide +kernel
theorem dX1_simple_183 : decode cX1_simple 183 = .ok (.dup, 1) := by decide +kernel
theorem dX1_simple_184 : decode cX1_simple 184 = .ok (.getfield 36, 3) := by decide +kernel
theorem dX1_simple_187 : decode cX1_simple 187 = .ok (.iconst 1, 1) := by decide +kernel
theorem dX1_simple_188 : decode cX1_simple 188 = .ok (.iadd, 1) := by decide +kernel
theorem dX1_simple_189 : decode cX1_simple 189 = .ok (.putfield 36, 3) := by decide +kernel
theorem dX1_simple_192 : decode cX1_simple 192 = .ok (.new 241, 3) := by decide +kernel
theorem dX1_simple_195 : decode cX1_simple 195 = .ok (.dup, 1) := by decide +kernel
theorem dX1_simple_196 : decode cX1_simple 196 = .ok (.aload_n 3, 1) := by decide +kernel
theorem dX1_simple_197 : decode cX1_simple 197 = .ok (.iload 5, 2) := by decide +kernel
theorem dX1_simple_199 : decode cX1_simple 199 = .ok (.aload_n 0, 1) := by decide +kernel
theorem dX1_simple_200 : decode cX1_simple 200 = .ok (.invokevirtual 101, 3) := by decide +kernel
theorem dX1_simple_203 : decode cX1_simple 203 = .ok (.invokespecial 243, 3) := by decide +kernel
theorem dX1_simple_206 : decode cX1_simple 206 = .ok (.areturn, 1) := by decide +kernel
