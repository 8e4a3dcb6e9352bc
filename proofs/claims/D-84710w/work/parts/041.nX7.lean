/-! names: X7 (tools/names.py) -/
set_option maxRecDepth 100000
abbrev cX7_init : ByteArray := prog_19_method_1_code
def yX7_init : MethodName := ⟨RX7, "<init>", "()V"⟩
theorem q583 : (Jvm.Cond.code ({ cls := "CompiledHouse$Living", name := "<init>", desc := "()V" } : Jvm.MethodName) prog_19_method_1_code (1 : Nat) (Option.none : Option Jvm.ClassFile.FieldType)) ∈ lw_all := lw_g (lw_at lw_m2 147 rfl) rfl
def kX7_init : xK := (yX7_init, cX7_init, 1, none, [])
theorem me_X7_init : xMe kX7_init 0 := ⟨q583, q210, by decide, by decide, by decide +kernel⟩
theorem q582 : (Jvm.Cond.instanceMethod ({ cls := "CompiledHouse$Living", name := "<init>", desc := "()V" } : Jvm.MethodName)) ∈ lw_all := lw_g (lw_at lw_m2 146 rfl) rfl
theorem is_X7_init : Cond.instanceMethod kX7_init.y ∈ lw_all := q582
theorem q584 : (Jvm.Cond.methodLink "CompiledHouse$Living" (3 : Nat) ({ cls := "java/lang/Object", name := "<init>", desc := "()V" } : Jvm.MethodName)) ∈ lw_all := lw_g (lw_at lw_m2 148 rfl) rfl
theorem lk_X7_3 : xLk RX7 3 yJ18_init := Or.inl q584
theorem q586 : (Jvm.Cond.fieldLink "CompiledHouse$Living" (9 : Nat) "CompiledHouse$Living" "in" "[J") ∈ lw_all := lw_g (lw_at lw_m2 150 rfl) rfl
theorem f_X7_9_6 : xF RX7 9 6 1 := ⟨_, "CompiledHouse$Living", rfl, by decide, Or.inl q586, Or.inl rfl⟩
theorem q587 : (Jvm.Cond.fieldLink "CompiledHouse$Living" (15 : Nat) "CompiledHouse$Living" "out" "[J") ∈ lw_all := lw_g (lw_at lw_m2 151 rfl) rfl
theorem f_X7_15_6 : xF RX7 15 6 2 := ⟨_, "CompiledHouse$Living", rfl, by decide, Or.inl q587, Or.inl rfl⟩
theorem q588 : (Jvm.Cond.fieldLink "CompiledHouse$Living" (18 : Nat) "CompiledHouse$Living" "now" "[J") ∈ lw_all := lw_g (lw_at lw_m2 152 rfl) rfl
theorem f_X7_18_6 : xF RX7 18 6 3 := ⟨_, "CompiledHouse$Living", rfl, by decide, Or.inl q588, Or.inl rfl⟩
abbrev cX7_find : ByteArray := prog_19_method_2_code
def yX7_find : MethodName := ⟨RX7, "find", "(LCompiledHouse$Code;)V"⟩
theorem q2614 : (Jvm.Cond.code ({ cls := "CompiledHouse$Living", name := "find", desc := "(LCompiledHouse$Code;)V" } : Jvm.MethodName) prog_19_method_2_code (5 : Nat) (Option.none : Option Jvm.ClassFile.FieldType)) ∈ lw_all := lw_g (lw_at lw_m11 18 rfl) rfl
def kX7_find : xK := (yX7_find, cX7_find, 5, none, [])
theorem me_X7_find : xMe kX7_find 1 := ⟨q2614, q210, by decide, by decide, by decide +kernel⟩
theorem q2612 : (Jvm.Cond.instanceMethod ({ cls := "CompiledHouse$Living", name := "find", desc := "(LCompiledHouse$Code;)V" } : Jvm.MethodName)) ∈ lw_all := lw_g (lw_at lw_m11 16 rfl) rfl
theorem is_X7_find : Cond.instanceMethod kX7_find.y ∈ lw_all := q2612
theorem se_X7_find : Cond.selects RX7 kX7_find.y kX7_find.y ∈ lw_all := q2613
theorem q1759 : (Jvm.Cond.fieldLinkNest "CompiledHouse$Living" (21 : Nat) "CompiledHouse$Code" "registers" "I" "CompiledHouse") ∈ lw_tbl := lw_at lw_m7 123 rfl
theorem f_X7_21_33 : xF RX7 21 33 2 := ⟨_, "CompiledHouse$Code", rfl, by decide, Or.inr ⟨_, q1759⟩, Or.inl rfl⟩
theorem q585 : (Jvm.Cond.fieldLink "CompiledHouse$Living" (27 : Nat) "CompiledHouse$Living" "room" "I") ∈ lw_all := lw_g (lw_at lw_m2 149 rfl) rfl
theorem f_X7_27_6 : xF RX7 27 6 0 := ⟨_, "CompiledHouse$Living", rfl, by decide, Or.inl q585, Or.inl rfl⟩
theorem q1754 : (Jvm.Cond.fieldLinkNest "CompiledHouse$Living" (30 : Nat) "CompiledHouse$Code" "blocks" "Ljava/util/ArrayList;" "CompiledHouse") ∈ lw_tbl := lw_at lw_m7 118 rfl
theorem f_X7_30_33 : xF RX7 30 33 1 := ⟨_, "CompiledHouse$Code", rfl, by decide, Or.inr ⟨_, q1754⟩, Or.inl rfl⟩
theorem q2615 : (Jvm.Cond.methodLink "CompiledHouse$Living" (34 : Nat) ({ cls := "java/util/ArrayList", name := "size", desc := "()I" } : Jvm.MethodName)) ∈ lw_all := lw_g (lw_at lw_m11 19 rfl) rfl
theorem lk_X7_34 : xLk RX7 34 yJ5_size := Or.inl q2615
theorem q2616 : (Jvm.Cond.methodLinkNest "CompiledHouse$Living" (40 : Nat) ({ cls := "CompiledHouse", name := "roomFor", desc := "([JI)[J" } : Jvm.MethodName) "CompiledHouse") ∈ lw_tbl := lw_at lw_m11 20 rfl
abbrev cX0_roomFor_2 : ByteArray := prog_1_method_5_code
def yX0_roomFor_2 : MethodName := ⟨RX0, "roomFor", "([JI)[J"⟩
theorem q2618 : (Jvm.Cond.code ({ cls := "CompiledHouse", name := "roomFor", desc := "([JI)[J" } : Jvm.MethodName) prog_1_method_5_code (2 : Nat) (Option.some (Jvm.ClassFile.FieldType.array Jvm.ClassFile.FieldType.long))) ∈ lw_all := lw_g (lw_at lw_m11 22 rfl) rfl
def kX0_roomFor_2 : xK := (yX0_roomFor_2, cX0_roomFor_2, 2, some (.array .long), [])
theorem me_X0_roomFor_2 : xMe kX0_roomFor_2 2 := ⟨q2618, q197, by decide, by decide, by decide +kernel⟩
theorem q2617 : (Jvm.Cond.static ({ cls := "CompiledHouse", name := "roomFor", desc := "([JI)[J" } : Jvm.MethodName)) ∈ lw_all := lw_g (lw_at lw_m11 21 rfl) rfl
theorem st_X0_roomFor_2 : Cond.static kX0_roomFor_2.y ∈ lw_all := q2617
theorem lk_X7_40 : xLk RX7 40 yX0_roomFor_2 := Or.inr ⟨_, q2616⟩
theorem q2619 : (Jvm.Cond.methodLink "CompiledHouse$Living" (44 : Nat) ({ cls := "java/util/ArrayList", name := "get", desc := "(I)Ljava/lang/Object;" } : Jvm.MethodName)) ∈ lw_all := lw_g (lw_at lw_m11 23 rfl) rfl
theorem lk_X7_44 : xLk RX7 44 yJ5_get := Or.inl q2619
theorem q2620 : (Jvm.Cond.classLink "CompiledHouse$Living" (48 : Nat) "CompiledHouse$Block") ∈ lw_all := lw_g (lw_at lw_m11 24 rfl) rfl
theorem q2621 : (Jvm.Cond.methodLink "CompiledHouse$Living" (50 : Nat) ({ cls := "CompiledHouse$Living", name := "one", desc := "(LCompiledHouse$Block;)Z" } : Jvm.MethodName)) ∈ lw_all := lw_g (lw_at lw_m11 25 rfl) rfl
abbrev cX7_one : ByteArray := prog_19_method_3_code
def yX7_one : MethodName := ⟨RX7, "one", "(LCompiledHouse$Block;)Z"⟩
theorem q2624 : (Jvm.Cond.code ({ cls := "CompiledHouse$Living", name := "one", desc := "(LCompiledHouse$Block;)Z" } : Jvm.MethodName) prog_19_method_3_code (5 : Nat) (Option.some Jvm.ClassFile.FieldType.boolean)) ∈ lw_all := lw_g (lw_at lw_m11 28 rfl) rfl
def kX7_one : xK := (yX7_one, cX7_one, 5, some .boolean, [])
theorem me_X7_one : xMe kX7_one 1 := ⟨q2624, q210, by decide, by decide, by decide +kernel⟩
theorem q2623 : (Jvm.Cond.instanceMethod ({ cls := "CompiledHouse$Living", name := "one", desc := "(LCompiledHouse$Block;)Z" } : Jvm.MethodName)) ∈ lw_all := lw_g (lw_at lw_m11 27 rfl) rfl
theorem is_X7_one : Cond.instanceMethod kX7_one.y ∈ lw_all := q2623
theorem se_X7_one : Cond.selects RX7 kX7_one.y kX7_one.y ∈ lw_all := qs80
theorem lk_X7_50 : xLk RX7 50 yX7_one := Or.inl q2621
theorem q1824 : (Jvm.Cond.fieldLinkNest "CompiledHouse$Living" (54 : Nat) "CompiledHouse$Block" "index" "I" "CompiledHouse") ∈ lw_tbl := lw_at lw_m7 188 rfl
theorem f_X7_54_34 : xF RX7 54 34 8 := ⟨_, "CompiledHouse$Block", rfl, by decide, Or.inr ⟨_, q1824⟩, Or.inl rfl⟩
theorem q1815 : (Jvm.Cond.fieldLinkNest "CompiledHouse$Living" (57 : Nat) "CompiledHouse$Block" "yes" "LCompiledHouse$Block;" "CompiledHouse") ∈ lw_tbl := lw_at lw_m7 179 rfl
theorem f_X7_57_34 : xF RX7 57 34 5 := ⟨_, "CompiledHouse$Block", rfl, by decide, Or.inr ⟨_, q1815⟩, Or.inl rfl⟩
theorem q1819 : (Jvm.Cond.fieldLinkNest "CompiledHouse$Living" (61 : Nat) "CompiledHouse$Block" "no" "LCompiledHouse$Block;" "CompiledHouse") ∈ lw_tbl := lw_at lw_m7 183 rfl
theorem f_X7_61_34 : xF RX7 61 34 6 := ⟨_, "CompiledHouse$Block", rfl, by decide, Or.inr ⟨_, q1819⟩, Or.inl rfl⟩
theorem q2625 : (Jvm.Cond.methodLink "CompiledHouse$Living" (64 : Nat) ({ cls := "CompiledHouse$Living", name := "begin", desc := "(LCompiledHouse$Block;)V" } : Jvm.MethodName)) ∈ lw_all := lw_g (lw_at lw_m11 29 rfl) rfl
abbrev cX7_begin : ByteArray := prog_19_method_4_code
def yX7_begin : MethodName := ⟨RX7, "begin", "(LCompiledHouse$Block;)V"⟩
theorem q2628 : (Jvm.Cond.code ({ cls := "CompiledHouse$Living", name := "begin", desc := "(LCompiledHouse$Block;)V" } : Jvm.MethodName) prog_19_method_4_code (3 : Nat) (Option.none : Option Jvm.ClassFile.FieldType)) ∈ lw_all := lw_g (lw_at lw_m11 32 rfl) rfl
def kX7_begin : xK := (yX7_begin, cX7_begin, 3, none, [])
theorem me_X7_begin : xMe kX7_begin 1 := ⟨q2628, q210, by decide, by decide, by decide +kernel⟩
theorem q2626 : (Jvm.Cond.instanceMethod ({ cls := "CompiledHouse$Living", name := "begin", desc := "(LCompiledHouse$Block;)V" } : Jvm.MethodName)) ∈ lw_all := lw_g (lw_at lw_m11 30 rfl) rfl
theorem is_X7_begin : Cond.instanceMethod kX7_begin.y ∈ lw_all := q2626
theorem se_X7_begin : Cond.selects RX7 kX7_begin.y kX7_begin.y ∈ lw_all := q2627
theorem lk_X7_64 : xLk RX7 64 yX7_begin := Or.inl q2625
theorem q1795 : (Jvm.Cond.fieldLinkNest "CompiledHouse$Living" (68 : Nat) "CompiledHouse$Block" "acts" "Ljava/util/ArrayList;" "CompiledHouse") ∈ lw_tbl := lw_at lw_m7 159 rfl
theorem f_X7_68_34 : xF RX7 68 34 0 := ⟨_, "CompiledHouse$Block", rfl, by decide, Or.inr ⟨_, q1795⟩, Or.inl rfl⟩
theorem q2635 : (Jvm.Cond.classLink "CompiledHouse$Living" (71 : Nat) "CompiledHouse$Act") ∈ lw_all := lw_g (lw_at lw_m11 39 rfl) rfl
theorem q2636 : (Jvm.Cond.methodLink "CompiledHouse$Living" (73 : Nat) ({ cls := "CompiledHouse$Living", name := "back", desc := "(LCompiledHouse$Act;)V" } : Jvm.MethodName)) ∈ lw_all := lw_g (lw_at lw_m11 40 rfl) rfl
abbrev cX7_back : ByteArray := prog_19_method_7_code
def yX7_back : MethodName := ⟨RX7, "back", "(LCompiledHouse$Act;)V"⟩
theorem q2639 : (Jvm.Cond.code ({ cls := "CompiledHouse$Living", name := "back", desc := "(LCompiledHouse$Act;)V" } : Jvm.MethodName) prog_19_method_7_code (3 : Nat) (Option.none : Option Jvm.ClassFile.FieldType)) ∈ lw_all := lw_g (lw_at lw_m11 43 rfl) rfl
def kX7_back : xK := (yX7_back, cX7_back, 3, none, [])
theorem me_X7_back : xMe kX7_back 1 := ⟨q2639, q210, by decide, by decide, by decide +kernel⟩
theorem q2637 : (Jvm.Cond.instanceMethod ({ cls := "CompiledHouse$Living", name := "back", desc := "(LCompiledHouse$Act;)V" } : Jvm.MethodName)) ∈ lw_all := lw_g (lw_at lw_m11 41 rfl) rfl
theorem is_X7_back : Cond.instanceMethod kX7_back.y ∈ lw_all := q2637
theorem se_X7_back : Cond.selects RX7 kX7_back.y kX7_back.y ∈ lw_all := q2638
theorem lk_X7_73 : xLk RX7 73 yX7_back := Or.inl q2636
theorem q1800 : (Jvm.Cond.fieldLinkNest "CompiledHouse$Living" (77 : Nat) "CompiledHouse$Block" "end" "I" "CompiledHouse") ∈ lw_tbl := lw_at lw_m7 164 rfl
theorem f_X7_77_34 : xF RX7 77 34 1 := ⟨_, "CompiledHouse$Block", rfl, by decide, Or.inr ⟨_, q1800⟩, Or.inl rfl⟩
theorem q1807 : (Jvm.Cond.fieldLinkNest "CompiledHouse$Living" (80 : Nat) "CompiledHouse$Block" "a" "J" "CompiledHouse") ∈ lw_tbl := lw_at lw_m7 171 rfl
theorem f_X7_80_34 : xF RX7 80 34 3 := ⟨_, "CompiledHouse$Block", rfl, by decide, Or.inr ⟨_, q1807⟩, Or.inl rfl⟩
theorem q2629 : (Jvm.Cond.methodLink "CompiledHouse$Living" (84 : Nat) ({ cls := "CompiledHouse$Living", name := "add", desc := "(J)V" } : Jvm.MethodName)) ∈ lw_all := lw_g (lw_at lw_m11 33 rfl) rfl
abbrev cX7_add : ByteArray := prog_19_method_6_code
def yX7_add : MethodName := ⟨RX7, "add", "(J)V"⟩
theorem q2632 : (Jvm.Cond.code ({ cls := "CompiledHouse$Living", name := "add", desc := "(J)V" } : Jvm.MethodName) prog_19_method_6_code (3 : Nat) (Option.none : Option Jvm.ClassFile.FieldType)) ∈ lw_all := lw_g (lw_at lw_m11 36 rfl) rfl
def kX7_add : xK := (yX7_add, cX7_add, 3, none, [])
theorem me_X7_add : xMe kX7_add 1 := ⟨q2632, q210, by decide, by decide, by decide +kernel⟩
theorem q2631 : (Jvm.Cond.instanceMethod ({ cls := "CompiledHouse$Living", name := "add", desc := "(J)V" } : Jvm.MethodName)) ∈ lw_all := lw_g (lw_at lw_m11 35 rfl) rfl
theorem is_X7_add : Cond.instanceMethod kX7_add.y ∈ lw_all := q2631
theorem se_X7_add : Cond.selects RX7 kX7_add.y kX7_add.y ∈ lw_all := qs81
theorem lk_X7_84 : xLk RX7 84 yX7_add := Or.inl q2629
theorem q1810 : (Jvm.Cond.fieldLinkNest "CompiledHouse$Living" (88 : Nat) "CompiledHouse$Block" "b" "J" "CompiledHouse") ∈ lw_tbl := lw_at lw_m7 174 rfl
theorem f_X7_88_34 : xF RX7 88 34 4 := ⟨_, "CompiledHouse$Block", rfl, by decide, Or.inr ⟨_, q1810⟩, Or.inl rfl⟩
theorem q2633 : (Jvm.Cond.methodLinkNest "CompiledHouse$Living" (91 : Nat) ({ cls := "CompiledHouse", name := "isConstant", desc := "(J)Z" } : Jvm.MethodName) "CompiledHouse") ∈ lw_tbl := lw_at lw_m11 37 rfl
abbrev cX0_isConstant : ByteArray := prog_1_method_8_code
def yX0_isConstant : MethodName := ⟨RX0, "isConstant", "(J)Z"⟩
theorem q2111 : (Jvm.Cond.code ({ cls := "CompiledHouse", name := "isConstant", desc := "(J)Z" } : Jvm.MethodName) prog_1_method_8_code (2 : Nat) (Option.some Jvm.ClassFile.FieldType.boolean)) ∈ lw_all := lw_g (lw_at lw_m8 235 rfl) rfl
def kX0_isConstant : xK := (yX0_isConstant, cX0_isConstant, 2, some .boolean, [])
theorem me_X0_isConstant : xMe kX0_isConstant 1 := ⟨q2111, q197, by decide, by decide, by decide +kernel⟩
theorem q2110 : (Jvm.Cond.static ({ cls := "CompiledHouse", name := "isConstant", desc := "(J)Z" } : Jvm.MethodName)) ∈ lw_all := lw_g (lw_at lw_m8 234 rfl) rfl
theorem st_X0_isConstant : Cond.static kX0_isConstant.y ∈ lw_all := q2110
theorem lk_X7_91 : xLk RX7 91 yX0_isConstant := Or.inr ⟨_, q2633⟩
theorem q2634 : (Jvm.Cond.constantLong "CompiledHouse$Living" (95 : Nat) (63 : Int64)) ∈ lw_all := lw_g (lw_at lw_m11 38 rfl) rfl
theorem q1917 : (Jvm.Cond.fieldLinkNest "CompiledHouse$Living" (97 : Nat) "CompiledHouse$Act" "d" "I" "CompiledHouse") ∈ lw_tbl := lw_at lw_m8 41 rfl
theorem f_X7_97_35 : xF RX7 97 35 1 := ⟨_, "CompiledHouse$Act", rfl, by decide, Or.inr ⟨_, q1917⟩, Or.inl rfl⟩
theorem q2640 : (Jvm.Cond.constantLong "CompiledHouse$Living" (100 : Nat) (-1 : Int64)) ∈ lw_all := lw_g (lw_at lw_m11 44 rfl) rfl
theorem q1913 : (Jvm.Cond.fieldLinkNest "CompiledHouse$Living" (102 : Nat) "CompiledHouse$Act" "act" "I" "CompiledHouse") ∈ lw_tbl := lw_at lw_m8 37 rfl
theorem f_X7_102_35 : xF RX7 102 35 0 := ⟨_, "CompiledHouse$Act", rfl, by decide, Or.inr ⟨_, q1913⟩, Or.inl rfl⟩
theorem q2641 : (Jvm.Cond.methodLinkNest "CompiledHouse$Living" (105 : Nat) ({ cls := "CompiledHouse", name := "below", desc := "(I)Z" } : Jvm.MethodName) "CompiledHouse") ∈ lw_tbl := lw_at lw_m11 45 rfl
abbrev cX0_below : ByteArray := prog_1_method_2_code
def yX0_below : MethodName := ⟨RX0, "below", "(I)Z"⟩
theorem q2503 : (Jvm.Cond.code ({ cls := "CompiledHouse", name := "below", desc := "(I)Z" } : Jvm.MethodName) prog_1_method_2_code (1 : Nat) (Option.some Jvm.ClassFile.FieldType.boolean)) ∈ lw_all := lw_g (lw_at lw_m10 147 rfl) rfl
def kX0_below : xK := (yX0_below, cX0_below, 1, some .boolean, [])
theorem me_X0_below : xMe kX0_below 1 := ⟨q2503, q197, by decide, by decide, by decide +kernel⟩
theorem q2502 : (Jvm.Cond.static ({ cls := "CompiledHouse", name := "below", desc := "(I)Z" } : Jvm.MethodName)) ∈ lw_all := lw_g (lw_at lw_m10 146 rfl) rfl
theorem st_X0_below : Cond.static kX0_below.y ∈ lw_all := q2502
theorem lk_X7_105 : xLk RX7 105 yX0_below := Or.inr ⟨_, q2641⟩
theorem q2642 : (Jvm.Cond.methodLink "CompiledHouse$Living" (109 : Nat) ({ cls := "CompiledHouse$Act", name := "isLoad", desc := "()Z" } : Jvm.MethodName)) ∈ lw_all := lw_g (lw_at lw_m11 46 rfl) rfl
abbrev cX37_isLoad : ByteArray := prog_2_method_3_code
def yX37_isLoad : MethodName := ⟨RX37, "isLoad", "()Z"⟩
theorem q2575 : (Jvm.Cond.code ({ cls := "CompiledHouse$Act", name := "isLoad", desc := "()Z" } : Jvm.MethodName) prog_2_method_3_code (1 : Nat) (Option.some Jvm.ClassFile.FieldType.boolean)) ∈ lw_all := lw_g (lw_at lw_m10 219 rfl) rfl
def kX37_isLoad : xK := (yX37_isLoad, cX37_isLoad, 1, some .boolean, [])
theorem me_X37_isLoad : xMe kX37_isLoad 0 := ⟨q2575, q252, by decide, by decide, by decide +kernel⟩
theorem q2573 : (Jvm.Cond.instanceMethod ({ cls := "CompiledHouse$Act", name := "isLoad", desc := "()Z" } : Jvm.MethodName)) ∈ lw_all := lw_g (lw_at lw_m10 217 rfl) rfl
theorem is_X37_isLoad : Cond.instanceMethod kX37_isLoad.y ∈ lw_all := q2573
theorem se_X37_isLoad : Cond.selects RX37 kX37_isLoad.y kX37_isLoad.y ∈ lw_all := q2574
theorem lk_X7_109 : xLk RX7 109 yX37_isLoad := Or.inl q2642
theorem q2643 : (Jvm.Cond.methodLink "CompiledHouse$Living" (113 : Nat) ({ cls := "CompiledHouse$Act", name := "isStore", desc := "()Z" } : Jvm.MethodName)) ∈ lw_all := lw_g (lw_at lw_m11 47 rfl) rfl
abbrev cX37_isStore : ByteArray := prog_2_method_4_code
def yX37_isStore : MethodName := ⟨RX37, "isStore", "()Z"⟩
theorem q2646 : (Jvm.Cond.code ({ cls := "CompiledHouse$Act", name := "isStore", desc := "()Z" } : Jvm.MethodName) prog_2_method_4_code (1 : Nat) (Option.some Jvm.ClassFile.FieldType.boolean)) ∈ lw_all := lw_g (lw_at lw_m11 50 rfl) rfl
def kX37_isStore : xK := (yX37_isStore, cX37_isStore, 1, some .boolean, [])
theorem me_X37_isStore : xMe kX37_isStore 0 := ⟨q2646, q252, by decide, by decide, by decide +kernel⟩
theorem q2644 : (Jvm.Cond.instanceMethod ({ cls := "CompiledHouse$Act", name := "isStore", desc := "()Z" } : Jvm.MethodName)) ∈ lw_all := lw_g (lw_at lw_m11 48 rfl) rfl
theorem is_X37_isStore : Cond.instanceMethod kX37_isStore.y ∈ lw_all := q2644
theorem se_X37_isStore : Cond.selects RX37 kX37_isStore.y kX37_isStore.y ∈ lw_all := q2645
theorem lk_X7_113 : xLk RX7 113 yX37_isStore := Or.inl q2643
theorem q1923 : (Jvm.Cond.fieldLinkNest "CompiledHouse$Living" (116 : Nat) "CompiledHouse$Act" "a" "J" "CompiledHouse") ∈ lw_tbl := lw_at lw_m8 47 rfl
theorem f_X7_116_35 : xF RX7 116 35 2 := ⟨_, "CompiledHouse$Act", rfl, by decide, Or.inr ⟨_, q1923⟩, Or.inl rfl⟩
theorem q1927 : (Jvm.Cond.fieldLinkNest "CompiledHouse$Living" (117 : Nat) "CompiledHouse$Act" "b" "J" "CompiledHouse") ∈ lw_tbl := lw_at lw_m8 51 rfl
theorem f_X7_117_35 : xF RX7 117 35 3 := ⟨_, "CompiledHouse$Act", rfl, by decide, Or.inr ⟨_, q1927⟩, Or.inl rfl⟩
theorem q1930 : (Jvm.Cond.fieldLinkNest "CompiledHouse$Living" (118 : Nat) "CompiledHouse$Act" "c" "J" "CompiledHouse") ∈ lw_tbl := lw_at lw_m8 54 rfl
theorem f_X7_118_35 : xF RX7 118 35 4 := ⟨_, "CompiledHouse$Act", rfl, by decide, Or.inr ⟨_, q1930⟩, Or.inl rfl⟩
theorem q1944 : (Jvm.Cond.fieldLinkNest "CompiledHouse$Living" (121 : Nat) "CompiledHouse$Act" "args" "[J" "CompiledHouse") ∈ lw_tbl := lw_at lw_m8 68 rfl
theorem f_X7_121_35 : xF RX7 121 35 9 := ⟨_, "CompiledHouse$Act", rfl, by decide, Or.inr ⟨_, q1944⟩, Or.inl rfl⟩
abbrev cX7_is : ByteArray := prog_19_method_5_code
def yX7_is : MethodName := ⟨RX7, "is", "(I)Z"⟩
theorem q2651 : (Jvm.Cond.code ({ cls := "CompiledHouse$Living", name := "is", desc := "(I)Z" } : Jvm.MethodName) prog_19_method_5_code (2 : Nat) (Option.some Jvm.ClassFile.FieldType.boolean)) ∈ lw_all := lw_g (lw_at lw_m11 55 rfl) rfl
def kX7_is : xK := (yX7_is, cX7_is, 2, some .boolean, [])
theorem me_X7_is : xMe kX7_is 1 := ⟨q2651, q210, by decide, by decide, by decide +kernel⟩
theorem q2649 : (Jvm.Cond.instanceMethod ({ cls := "CompiledHouse$Living", name := "is", desc := "(I)Z" } : Jvm.MethodName)) ∈ lw_all := lw_g (lw_at lw_m11 53 rfl) rfl
theorem is_X7_is : Cond.instanceMethod kX7_is.y ∈ lw_all := q2649
theorem se_X7_is : Cond.selects RX7 kX7_is.y kX7_is.y ∈ lw_all := q2650
theorem dX7_init_0 : decode cX7_init 0 = .ok (.aload_n 0, 1) := by decide +kernel
theorem dX7_init_1 : decode cX7_init 1 = .ok (.invokespecial 3, 3) := by decide +kernel
theorem dX7_init_4 : decode cX7_init 4 = .ok (.aload_n 0, 1) := by decide +kernel
theorem dX7_init_5 : decode cX7_init 5 = .ok (.bipush 64, 2) := by decide +kernel
theorem dX7_init_7 : decode cX7_init 7 = .ok (.newarray .long, 2) := by decide +kernel
theorem dX7_init_9 : decode cX7_init 9 = .ok (.putfield 9, 3) := by decide +kernel
theorem dX7_init_12 : decode cX7_init 12 = .ok (.aload_n 0, 1) := by decide +kernel
theorem dX7_init_13 : decode cX7_init 13 = .ok (.bipush 64, 2) := by decide +kernel
theorem dX7_init_15 : decode cX7_init 15 = .ok (.newarray .long, 2) := by decide +kernel
theorem dX7_init_17 : decode cX7_init 17 = .ok (.putfield 15, 3) := by decide +kernel
theorem dX7_init_20 : decode cX7_init 20 = .ok (.aload_n 0, 1) := by decide +kernel
theorem dX7_init_21 : decode cX7_init 21 = .ok (.bipush 64, 2) := by decide +kernel
theorem dX7_init_23 : decode cX7_init 23 = .ok (.newarray .long, 2) := by decide +kernel
theorem dX7_init_25 : decode cX7_init 25 = .ok (.putfield 18, 3) := by decide +kernel
theorem dX7_init_28 : decode cX7_init 28 = .ok (.return_, 1) := by decide +kernel
theorem dX7_find_0 : decode cX7_find 0 = .ok (.aload_n 0, 1) := by decide +kernel
theorem dX7_find_1 : decode cX7_find 1 = .ok (.aload_n 1, 1) := by decide +kernel
theorem dX7_find_2 : decode cX7_find 2 = .ok (.getfield 21, 3) := by decide +kernel
theorem dX7_find_5 : decode cX7_find 5 = .ok (.bipush 63, 2) := by decide +kernel
theorem dX7_find_7 : decode cX7_find 7 = .ok (.iadd, 1) := by decide +kernel
theorem dX7_find_8 : decode cX7_find 8 = .ok (.bipush 64, 2) := by decide +kernel
theorem dX7_find_10 : decode cX7_find 10 = .ok (.idiv, 1) := by decide +kernel
theorem dX7_find_11 : decode cX7_find 11 = .ok (.putfield 27, 3) := by decide +kernel
theorem dX7_find_14 : decode cX7_find 14 = .ok (.aload_n 0, 1) := by decide +kernel
theorem dX7_find_15 : decode cX7_find 15 = .ok (.getfield 27, 3) := by decide +kernel
theorem dX7_find_18 : decode cX7_find 18 = .ok (.aload_n 1, 1) := by decide +kernel
theorem dX7_find_19 : decode cX7_find 19 = .ok (.getfield 30, 3) := by decide +kernel
theorem dX7_find_22 : decode cX7_find 22 = .ok (.invokevirtual 34, 3) := by decide +kernel
theorem dX7_find_25 : decode cX7_find 25 = .ok (.imul, 1) := by decide +kernel
theorem dX7_find_26 : decode cX7_find 26 = .ok (.istore_n 2, 1) := by decide +kernel
theorem dX7_find_27 : decode cX7_find 27 = .ok (.aload_n 0, 1) := by decide +kernel
theorem dX7_find_28 : decode cX7_find 28 = .ok (.aload_n 0, 1) := by decide +kernel
theorem dX7_find_29 : decode cX7_find 29 = .ok (.getfield 9, 3) := by decide +kernel
theorem dX7_find_32 : decode cX7_find 32 = .ok (.iload_n 2, 1) := by decide +kernel
theorem dX7_find_33 : decode cX7_find 33 = .ok (.invokestatic 40, 3) := by decide +kernel
theorem dX7_find_36 : decode cX7_find 36 = .ok (.putfield 9, 3) := by decide +kernel
theorem dX7_find_39 : decode cX7_find 39 = .ok (.aload_n 0, 1) := by decide +kernel
theorem dX7_find_40 : decode cX7_find 40 = .ok (.aload_n 0, 1) := by decide +kernel
theorem dX7_find_41 : decode cX7_find 41 = .ok (.getfield 15, 3) := by decide +kernel
theorem dX7_find_44 : decode cX7_find 44 = .ok (.iload_n 2, 1) := by decide +kernel
theorem dX7_find_45 : decode cX7_find 45 = .ok (.invokestatic 40, 3) := by decide +kernel
theorem dX7_find_48 : decode cX7_find 48 = .ok (.putfield 15, 3) := by decide +kernel
theorem dX7_find_51 : decode cX7_find 51 = .ok (.aload_n 0, 1) := by decide +kernel
theorem dX7_find_52 : decode cX7_find 52 = .ok (.aload_n 0, 1) := by decide +kernel
theorem dX7_find_53 : decode cX7_find 53 = .ok (.getfield 18, 3) := by decide +kernel
theorem dX7_find_56 : decode cX7_find 56 = .ok (.aload_n 0, 1) := by decide +kernel
theorem dX7_find_57 : decode cX7_find 57 = .ok (.getfield 27, 3) := by decide +kernel
theorem dX7_find_60 : decode cX7_find 60 = .ok (.invokestatic 40, 3) := by decide +kernel
theorem dX7_find_63 : decode cX7_find 63 = .ok (.putfield 18, 3) := by decide +kernel
theorem dX7_find_66 : decode cX7_find 66 = .ok (.iconst 0, 1) := by decide +kernel
theorem dX7_find_67 : decode cX7_find 67 = .ok (.istore_n 3, 1) := by decide +kernel
theorem dX7_find_68 : decode cX7_find 68 = .ok (.iload_n 3, 1) := by decide +kernel
theorem dX7_find_69 : decode cX7_find 69 = .ok (.iload_n 2, 1) := by decide +kernel
theorem dX7_find_70 : decode cX7_find 70 = .ok (.if_icmp .ge 23, 3) := by decide +kernel
theorem dX7_find_73 : decode cX7_find 73 = .ok (.aload_n 0, 1) := by decide +kernel
theorem dX7_find_74 : decode cX7_find 74 = .ok (.getfield 9, 3) := by decide +kernel
theorem dX7_find_77 : decode cX7_find 77 = .ok (.iload_n 3, 1) := by decide +kernel
theorem dX7_find_78 : decode cX7_find 78 = .ok (.lconst 0, 1) := by decide +kernel
theorem dX7_find_79 : decode cX7_find 79 = .ok (.lastore, 1) := by decide +kernel
theorem dX7_find_80 : decode cX7_find 80 = .ok (.aload_n 0, 1) := by decide +kernel
theorem dX7_find_81 : decode cX7_find 81 = .ok (.getfield 15, 3) := by decide +kernel
theorem dX7_find_84 : decode cX7_find 84 = .ok (.iload_n 3, 1) := by decide +kernel
theorem dX7_find_85 : decode cX7_find 85 = .ok (.lconst 0, 1) := by decide +kernel
theorem dX7_find_86 : decode cX7_find 86 = .ok (.lastore, 1) := by decide +kernel
theorem dX7_find_87 : decode cX7_find 87 = .ok (.iinc 3 1, 3) := by decide +kernel
theorem dX7_find_90 : decode cX7_find 90 = .ok (.goto (-22), 3) := by decide +kernel
theorem dX7_find_93 : decode cX7_find 93 = .ok (.iconst 1, 1) := by decide +kernel
theorem dX7_find_94 : decode cX7_find 94 = .ok (.istore_n 3, 1) := by decide +kernel
theorem dX7_find_95 : decode cX7_find 95 = .ok (.iload_n 3, 1) := by decide +kernel
theorem dX7_find_96 : decode cX7_find 96 = .ok (.ifCond .eq 59, 3) := by decide +kernel
theorem dX7_find_99 : decode cX7_find 99 = .ok (.iconst 0, 1) := by decide +kernel
theorem dX7_find_100 : decode cX7_find 100 = .ok (.istore_n 3, 1) := by decide +kernel
theorem dX7_find_101 : decode cX7_find 101 = .ok (.aload_n 1, 1) := by decide +kernel
theorem dX7_find_102 : decode cX7_find 102 = .ok (.getfield 30, 3) := by decide +kernel
theorem dX7_find_105 : decode cX7_find 105 = .ok (.invokevirtual 34, 3) := by decide +kernel
theorem dX7_find_108 : decode cX7_find 108 = .ok (.iconst 1, 1) := by decide +kernel
theorem dX7_find_109 : decode cX7_find 109 = .ok (.isub, 1) := by decide +kernel
theorem dX7_find_110 : decode cX7_find 110 = .ok (.istore 4, 2) := by decide +kernel
theorem dX7_find_112 : decode cX7_find 112 = .ok (.iload 4, 2) := by decide +kernel
theorem dX7_find_114 : decode cX7_find 114 = .ok (.ifCond .lt 38, 3) := by decide +kernel
theorem dX7_find_117 : decode cX7_find 117 = .ok (.aload_n 0, 1) := by decide +kernel
theorem dX7_find_118 : decode cX7_find 118 = .ok (.aload_n 1, 1) := by decide +kernel
theorem dX7_find_119 : decode cX7_find 119 = .ok (.getfield 30, 3) := by decide +kernel
theorem dX7_find_122 : decode cX7_find 122 = .ok (.iload 4, 2) := by decide +kernel
theorem dX7_find_124 : decode cX7_find 124 = .ok (.invokevirtual 44, 3) := by decide +kernel
theorem dX7_find_127 : decode cX7_find 127 = .ok (.checkcast 48, 3) := by decide +kernel
theorem dX7_find_130 : decode cX7_find 130 = .ok (.invokevirtual 50, 3) := by decide +kernel
theorem dX7_find_133 : decode cX7_find 133 = .ok (.ifCond .ne 7, 3) := by decide +kernel
theorem dX7_find_136 : decode cX7_find 136 = .ok (.iload_n 3, 1) := by decide +kernel
theorem dX7_find_137 : decode cX7_find 137 = .ok (.ifCond .eq 7, 3) := by decide +kernel
theorem dX7_find_140 : decode cX7_find 140 = .ok (.iconst 1, 1) := by decide +kernel
theorem dX7_find_141 : decode cX7_find 141 = .ok (.goto 4, 3) := by decide +kernel
theorem dX7_find_144 : decode cX7_find 144 = .ok (.iconst 0, 1) := by decide +kernel
theorem dX7_find_145 : decode cX7_find 145 = .ok (.istore_n 3, 1) := by decide +kernel
theorem dX7_find_146 : decode cX7_find 146 = .ok (.iinc 4 (-1), 3) := by decide +kernel
theorem dX7_find_149 : decode cX7_find 149 = .ok (.goto (-37), 3) := by decide +kernel
theorem dX7_find_152 : decode cX7_find 152 = .ok (.goto (-57), 3) := by decide +kernel
theorem dX7_find_155 : decode cX7_find 155 = .ok (.return_, 1) := by decide +kernel
theorem dX7_one_0 : decode cX7_one 0 = .ok (.aload_n 0, 1) := by decide +kernel
theorem dX7_one_1 : decode cX7_one 1 = .ok (.getfield 27, 3) := by decide +kernel
theorem dX7_one_4 : decode cX7_one 4 = .ok (.aload_n 1, 1) := by decide +kernel
theorem dX7_one_5 : decode cX7_one 5 = .ok (.getfield 54, 3) := by decide +kernel
theorem dX7_one_8 : decode cX7_one 8 = .ok (.imul, 1) := by decide +kernel
theorem dX7_one_9 : decode cX7_one 9 = .ok (.istore_n 2, 1) := by decide +kernel
theorem dX7_one_10 : decode cX7_one 10 = .ok (.iconst 0, 1) := by decide +kernel
theorem dX7_one_11 : decode cX7_one 11 = .ok (.istore_n 3, 1) := by decide +kernel
theorem dX7_one_12 : decode cX7_one 12 = .ok (.iload_n 3, 1) := by decide +kernel
theorem dX7_one_13 : decode cX7_one 13 = .ok (.aload_n 0, 1) := by decide +kernel
theorem dX7_one_14 : decode cX7_one 14 = .ok (.getfield 27, 3) := by decide +kernel
theorem dX7_one_17 : decode cX7_one 17 = .ok (.if_icmp .ge 81, 3) := by decide +kernel
theorem dX7_one_20 : decode cX7_one 20 = .ok (.aload_n 0, 1) := by decide +kernel
theorem dX7_one_21 : decode cX7_one 21 = .ok (.getfield 15, 3) := by decide +kernel
theorem dX7_one_24 : decode cX7_one 24 = .ok (.iload_n 2, 1) := by decide +kernel
theorem dX7_one_25 : decode cX7_one 25 = .ok (.iload_n 3, 1) := by decide +kernel
theorem dX7_one_26 : decode cX7_one 26 = .ok (.iadd, 1) := by decide +kernel
theorem dX7_one_27 : decode cX7_one 27 = .ok (.dup2, 1) := by decide +kernel
theorem dX7_one_28 : decode cX7_one 28 = .ok (.laload, 1) := by decide +kernel
theorem dX7_one_29 : decode cX7_one 29 = .ok (.aload_n 1, 1) := by decide +kernel
theorem dX7_one_30 : decode cX7_one 30 = .ok (.getfield 57, 3) := by decide +kernel
theorem dX7_one_33 : decode cX7_one 33 = .ok (.ifnonnull 7, 3) := by decide +kernel
theorem dX7_one_36 : decode cX7_one 36 = .ok (.lconst 0, 1) := by decide +kernel
theorem dX7_one_37 : decode cX7_one 37 = .ok (.goto 22, 3) := by decide +kernel
theorem dX7_one_40 : decode cX7_one 40 = .ok (.aload_n 0, 1) := by decide +kernel
theorem dX7_one_41 : decode cX7_one 41 = .ok (.getfield 9, 3) := by decide +kernel
theorem dX7_one_44 : decode cX7_one 44 = .ok (.aload_n 0, 1) := by decide +kernel
theorem dX7_one_45 : decode cX7_one 45 = .ok (.getfield 27, 3) := by decide +kernel
theorem dX7_one_48 : decode cX7_one 48 = .ok (.aload_n 1, 1) := by decide +kernel
theorem dX7_one_49 : decode cX7_one 49 = .ok (.getfield 57, 3) := by decide +kernel
theorem dX7_one_52 : decode cX7_one 52 = .ok (.getfield 54, 3) := by decide +kernel
theorem dX7_one_55 : decode cX7_one 55 = .ok (.imul, 1) := by decide +kernel
theorem dX7_one_56 : decode cX7_one 56 = .ok (.iload_n 3, 1) := by decide +kernel
theorem dX7_one_57 : decode cX7_one 57 = .ok (.iadd, 1) := by decide +kernel
theorem dX7_one_58 : decode cX7_one 58 = .ok (.laload, 1) := by decide +kernel
theorem dX7_one_59 : decode cX7_one 59 = .ok (.aload_n 1, 1) := by decide +kernel
theorem dX7_one_60 : decode cX7_one 60 = .ok (.getfield 61, 3) := by decide +kernel
theorem dX7_one_63 : decode cX7_one 63 = .ok (.ifnonnull 7, 3) := by decide +kernel
theorem dX7_one_66 : decode cX7_one 66 = .ok (.lconst 0, 1) := by decide +kernel
theorem dX7_one_67 : decode cX7_one 67 = .ok (.goto 22, 3) := by decide +kernel
theorem dX7_one_70 : decode cX7_one 70 = .ok (.aload_n 0, 1) := by decide +kernel
theorem dX7_one_71 : decode cX7_one 71 = .ok (.getfield 9, 3) := by decide +kernel
theorem dX7_one_74 : decode cX7_one 74 = .ok (.aload_n 0, 1) := by decide +kernel
theorem dX7_one_75 : decode cX7_one 75 = .ok (.getfield 27, 3) := by decide +kernel
theorem dX7_one_78 : decode cX7_one 78 = .ok (.aload_n 1, 1) := by decide +kernel
theorem dX7_one_79 : decode cX7_one 79 = .ok (.getfield 61, 3) := by decide +kernel
theorem dX7_one_82 : decode cX7_one 82 = .ok (.getfield 54, 3) := by decide +kernel
theorem dX7_one_85 : decode cX7_one 85 = .ok (.imul, 1) := by decide +kernel
theorem dX7_one_86 : decode cX7_one 86 = .ok (.iload_n 3, 1) := by decide +kernel
theorem dX7_one_87 : decode cX7_one 87 = .ok (.iadd, 1) := by decide +kernel
theorem dX7_one_88 : decode cX7_one 88 = .ok (.laload, 1) := by decide +kernel
theorem dX7_one_89 : decode cX7_one 89 = .ok (.lor, 1) := by decide +kernel
theorem dX7_one_90 : decode cX7_one 90 = .ok (.lor, 1) := by decide +kernel
theorem dX7_one_91 : decode cX7_one 91 = .ok (.lastore, 1) := by decide +kernel
theorem dX7_one_92 : decode cX7_one 92 = .ok (.iinc 3 1, 3) := by decide +kernel
theorem dX7_one_95 : decode cX7_one 95 = .ok (.goto (-83), 3) := by decide +kernel
theorem dX7_one_98 : decode cX7_one 98 = .ok (.aload_n 0, 1) := by decide +kernel
theorem dX7_one_99 : decode cX7_one 99 = .ok (.aload_n 1, 1) := by decide +kernel
theorem dX7_one_100 : decode cX7_one 100 = .ok (.invokevirtual 64, 3) := by decide +kernel
theorem dX7_one_103 : decode cX7_one 103 = .ok (.aload_n 1, 1) := by decide +kernel
theorem dX7_one_104 : decode cX7_one 104 = .ok (.getfield 68, 3) := by decide +kernel
theorem dX7_one_107 : decode cX7_one 107 = .ok (.invokevirtual 34, 3) := by decide +kernel
theorem dX7_one_110 : decode cX7_one 110 = .ok (.iconst 1, 1) := by decide +kernel
theorem dX7_one_111 : decode cX7_one 111 = .ok (.isub, 1) := by decide +kernel
theorem dX7_one_112 : decode cX7_one 112 = .ok (.istore_n 3, 1) := by decide +kernel
theorem dX7_one_113 : decode cX7_one 113 = .ok (.iload_n 3, 1) := by decide +kernel
theorem dX7_one_114 : decode cX7_one 114 = .ok (.ifCond .lt 24, 3) := by decide +kernel
theorem dX7_one_117 : decode cX7_one 117 = .ok (.aload_n 0, 1) := by decide +kernel
theorem dX7_one_118 : decode cX7_one 118 = .ok (.aload_n 1, 1) := by decide +kernel
theorem dX7_one_119 : decode cX7_one 119 = .ok (.getfield 68, 3) := by decide +kernel
theorem dX7_one_122 : decode cX7_one 122 = .ok (.iload_n 3, 1) := by decide +kernel
theorem dX7_one_123 : decode cX7_one 123 = .ok (.invokevirtual 44, 3) := by decide +kernel
theorem dX7_one_126 : decode cX7_one 126 = .ok (.checkcast 71, 3) := by decide +kernel
theorem dX7_one_129 : decode cX7_one 129 = .ok (.invokevirtual 73, 3) := by decide +kernel
theorem dX7_one_132 : decode cX7_one 132 = .ok (.iinc 3 (-1), 3) := by decide +kernel
theorem dX7_one_135 : decode cX7_one 135 = .ok (.goto (-22), 3) := by decide +kernel
theorem dX7_one_138 : decode cX7_one 138 = .ok (.iconst 0, 1) := by decide +kernel
theorem dX7_one_139 : decode cX7_one 139 = .ok (.istore_n 3, 1) := by decide +kernel
theorem dX7_one_140 : decode cX7_one 140 = .ok (.iconst 0, 1) := by decide +kernel
theorem dX7_one_141 : decode cX7_one 141 = .ok (.istore 4, 2) := by decide +kernel
theorem dX7_one_143 : decode cX7_one 143 = .ok (.iload 4, 2) := by decide +kernel
theorem dX7_one_145 : decode cX7_one 145 = .ok (.aload_n 0, 1) := by decide +kernel
theorem dX7_one_146 : decode cX7_one 146 = .ok (.getfield 27, 3) := by decide +kernel
theorem dX7_one_149 : decode cX7_one 149 = .ok (.if_icmp .ge 55, 3) := by decide +kernel
theorem dX7_one_152 : decode cX7_one 152 = .ok (.iload_n 3, 1) := by decide +kernel
theorem dX7_one_153 : decode cX7_one 153 = .ok (.ifCond .ne 23, 3) := by decide +kernel
theorem dX7_one_156 : decode cX7_one 156 = .ok (.aload_n 0, 1) := by decide +kernel
theorem dX7_one_157 : decode cX7_one 157 = .ok (.getfield 9, 3) := by decide +kernel
theorem dX7_one_160 : decode cX7_one 160 = .ok (.iload_n 2, 1) := by decide +kernel
theorem dX7_one_161 : decode cX7_one 161 = .ok (.iload 4, 2) := by decide +kernel
theorem dX7_one_163 : decode cX7_one 163 = .ok (.iadd, 1) := by decide +kernel
theorem dX7_one_164 : decode cX7_one 164 = .ok (.laload, 1) := by decide +kernel
theorem dX7_one_165 : decode cX7_one 165 = .ok (.aload_n 0, 1) := by decide +kernel
theorem dX7_one_166 : decode cX7_one 166 = .ok (.getfield 18, 3) := by decide +kernel
theorem dX7_one_169 : decode cX7_one 169 = .ok (.iload 4, 2) := by decide +kernel
theorem dX7_one_171 : decode cX7_one 171 = .ok (.laload, 1) := by decide +kernel
theorem dX7_one_172 : decode cX7_one 172 = .ok (.lcmp, 1) := by decide +kernel
theorem dX7_one_173 : decode cX7_one 173 = .ok (.ifCond .eq 7, 3) := by decide +kernel
theorem dX7_one_176 : decode cX7_one 176 = .ok (.iconst 1, 1) := by decide +kernel
theorem dX7_one_177 : decode cX7_one 177 = .ok (.goto 4, 3) := by decide +kernel
theorem dX7_one_180 : decode cX7_one 180 = .ok (.iconst 0, 1) := by decide +kernel
theorem dX7_one_181 : decode cX7_one 181 = .ok (.istore_n 3, 1) := by decide +kernel
theorem dX7_one_182 : decode cX7_one 182 = .ok (.aload_n 0, 1) := by decide +kernel
theorem dX7_one_183 : decode cX7_one 183 = .ok (.getfield 9, 3) := by decide +kernel
theorem dX7_one_186 : decode cX7_one 186 = .ok (.iload_n 2, 1) := by decide +kernel
theorem dX7_one_187 : decode cX7_one 187 = .ok (.iload 4, 2) := by decide +kernel
theorem dX7_one_189 : decode cX7_one 189 = .ok (.iadd, 1) := by decide +kernel
theorem dX7_one_190 : decode cX7_one 190 = .ok (.aload_n 0, 1) := by decide +kernel
theorem dX7_one_191 : decode cX7_one 191 = .ok (.getfield 18, 3) := by decide +kernel
theorem dX7_one_194 : decode cX7_one 194 = .ok (.iload 4, 2) := by decide +kernel
theorem dX7_one_196 : decode cX7_one 196 = .ok (.laload, 1) := by decide +kernel
theorem dX7_one_197 : decode cX7_one 197 = .ok (.lastore, 1) := by decide +kernel
theorem dX7_one_198 : decode cX7_one 198 = .ok (.iinc 4 1, 3) := by decide +kernel
theorem dX7_one_201 : decode cX7_one 201 = .ok (.goto (-58), 3) := by decide +kernel
theorem dX7_one_204 : decode cX7_one 204 = .ok (.iload_n 3, 1) := by decide +kernel
theorem dX7_one_205 : decode cX7_one 205 = .ok (.ireturn, 1) := by decide +kernel
theorem dX7_begin_0 : decode cX7_begin 0 = .ok (.iconst 0, 1) := by decide +kernel
theorem dX7_begin_1 : decode cX7_begin 1 = .ok (.istore_n 2, 1) := by decide +kernel
theorem dX7_begin_2 : decode cX7_begin 2 = .ok (.iload_n 2, 1) := by decide +kernel
theorem dX7_begin_3 : decode cX7_begin 3 = .ok (.aload_n 0, 1) := by decide +kernel
theorem dX7_begin_4 : decode cX7_begin 4 = .ok (.getfield 27, 3) := by decide +kernel
theorem dX7_begin_7 : decode cX7_begin 7 = .ok (.if_icmp .ge 31, 3) := by decide +kernel
theorem dX7_begin_10 : decode cX7_begin 10 = .ok (.aload_n 0, 1) := by decide +kernel
theorem dX7_begin_11 : decode cX7_begin 11 = .ok (.getfield 18, 3) := by decide +kernel
theorem dX7_begin_14 : decode cX7_begin 14 = .ok (.iload_n 2, 1) := by decide +kernel
theorem dX7_begin_15 : decode cX7_begin 15 = .ok (.aload_n 0, 1) := by decide +kernel
theorem dX7_begin_16 : decode cX7_begin 16 = .ok (.getfield 15, 3) := by decide +kernel
theorem dX7_begin_19 : decode cX7_begin 19 = .ok (.aload_n 0, 1) := by decide +kernel
theorem dX7_begin_20 : decode cX7_begin 20 = .ok (.getfield 27, 3) := by decide +kernel
theorem dX7_begin_23 : decode cX7_begin 23 = .ok (.aload_n 1, 1) := by decide +kernel
theorem dX7_begin_24 : decode cX7_begin 24 = .ok (.getfield 54, 3) := by decide +kernel
theorem dX7_begin_27 : decode cX7_begin 27 = .ok (.imul, 1) := by decide +kernel
theorem dX7_begin_28 : decode cX7_begin 28 = .ok (.iload_n 2, 1) := by decide +kernel
theorem dX7_begin_29 : decode cX7_begin 29 = .ok (.iadd, 1) := by decide +kernel
theorem dX7_begin_30 : decode cX7_begin 30 = .ok (.laload, 1) := by decide +kernel
theorem dX7_begin_31 : decode cX7_begin 31 = .ok (.lastore, 1) := by decide +kernel
theorem dX7_begin_32 : decode cX7_begin 32 = .ok (.iinc 2 1, 3) := by decide +kernel
theorem dX7_begin_35 : decode cX7_begin 35 = .ok (.goto (-33), 3) := by decide +kernel
theorem dX7_begin_38 : decode cX7_begin 38 = .ok (.aload_n 1, 1) := by decide +kernel
theorem dX7_begin_39 : decode cX7_begin 39 = .ok (.getfield 77, 3) := by decide +kernel
theorem dX7_begin_42 : decode cX7_begin 42 = .ok (.iconst 3, 1) := by decide +kernel
theorem dX7_begin_43 : decode cX7_begin 43 = .ok (.if_icmp .eq 11, 3) := by decide +kernel
theorem dX7_begin_46 : decode cX7_begin 46 = .ok (.aload_n 1, 1) := by decide +kernel
theorem dX7_begin_47 : decode cX7_begin 47 = .ok (.getfield 77, 3) := by decide +kernel
theorem dX7_begin_50 : decode cX7_begin 50 = .ok (.iconst 2, 1) := by decide +kernel
theorem dX7_begin_51 : decode cX7_begin 51 = .ok (.if_icmp .ne 11, 3) := by decide +kernel
theorem dX7_begin_54 : decode cX7_begin 54 = .ok (.aload_n 0, 1) := by decide +kernel
theorem dX7_begin_55 : decode cX7_begin 55 = .ok (.aload_n 1, 1) := by decide +kernel
theorem dX7_begin_56 : decode cX7_begin 56 = .ok (.getfield 80, 3) := by decide +kernel
theorem dX7_begin_59 : decode cX7_begin 59 = .ok (.invokevirtual 84, 3) := by decide +kernel
theorem dX7_begin_62 : decode cX7_begin 62 = .ok (.aload_n 1, 1) := by decide +kernel
theorem dX7_begin_63 : decode cX7_begin 63 = .ok (.getfield 77, 3) := by decide +kernel
theorem dX7_begin_66 : decode cX7_begin 66 = .ok (.iconst 2, 1) := by decide +kernel
theorem dX7_begin_67 : decode cX7_begin 67 = .ok (.if_icmp .ne 11, 3) := by decide +kernel
theorem dX7_begin_70 : decode cX7_begin 70 = .ok (.aload_n 0, 1) := by decide +kernel
theorem dX7_begin_71 : decode cX7_begin 71 = .ok (.aload_n 1, 1) := by decide +kernel
theorem dX7_begin_72 : decode cX7_begin 72 = .ok (.getfield 88, 3) := by decide +kernel
theorem dX7_begin_75 : decode cX7_begin 75 = .ok (.invokevirtual 84, 3) := by decide +kernel
theorem dX7_begin_78 : decode cX7_begin 78 = .ok (.return_, 1) := by decide +kernel
theorem dX7_add_0 : decode cX7_add 0 = .ok (.lload_n 1, 1) := by decide +kernel
theorem dX7_add_1 : decode cX7_add 1 = .ok (.invokestatic 91, 3) := by decide +kernel
theorem dX7_add_4 : decode cX7_add 4 = .ok (.ifCond .ne 24, 3) := by decide +kernel
theorem dX7_add_7 : decode cX7_add 7 = .ok (.aload_n 0, 1) := by decide +kernel
theorem dX7_add_8 : decode cX7_add 8 = .ok (.getfield 18, 3) := by decide +kernel
theorem dX7_add_11 : decode cX7_add 11 = .ok (.lload_n 1, 1) := by decide +kernel
theorem dX7_add_12 : decode cX7_add 12 = .ok (.l2i, 1) := by decide +kernel
theorem dX7_add_13 : decode cX7_add 13 = .ok (.bipush 6, 2) := by decide +kernel
theorem dX7_add_15 : decode cX7_add 15 = .ok (.ishr, 1) := by decide +kernel
theorem dX7_add_16 : decode cX7_add 16 = .ok (.dup2, 1) := by decide +kernel
theorem dX7_add_17 : decode cX7_add 17 = .ok (.laload, 1) := by decide +kernel
theorem dX7_add_18 : decode cX7_add 18 = .ok (.lconst 1, 1) := by decide +kernel
theorem dX7_add_19 : decode cX7_add 19 = .ok (.lload_n 1, 1) := by decide +kernel
theorem dX7_add_20 : decode cX7_add 20 = .ok (.ldc2_w 95, 3) := by decide +kernel
theorem dX7_add_23 : decode cX7_add 23 = .ok (.land, 1) := by decide +kernel
theorem dX7_add_24 : decode cX7_add 24 = .ok (.l2i, 1) := by decide +kernel
theorem dX7_add_25 : decode cX7_add 25 = .ok (.lshl, 1) := by decide +kernel
theorem dX7_add_26 : decode cX7_add 26 = .ok (.lor, 1) := by decide +kernel
theorem dX7_add_27 : decode cX7_add 27 = .ok (.lastore, 1) := by decide +kernel
theorem dX7_add_28 : decode cX7_add 28 = .ok (.return_, 1) := by decide +kernel
theorem dX7_back_0 : decode cX7_back 0 = .ok (.aload_n 1, 1) := by decide +kernel
theorem dX7_back_1 : decode cX7_back 1 = .ok (.getfield 97, 3) := by decide +kernel
theorem dX7_back_4 : decode cX7_back 4 = .ok (.ifCond .lt 31, 3) := by decide +kernel
theorem dX7_back_7 : decode cX7_back 7 = .ok (.aload_n 0, 1) := by decide +kernel
theorem dX7_back_8 : decode cX7_back 8 = .ok (.getfield 18, 3) := by decide +kernel
theorem dX7_back_11 : decode cX7_back 11 = .ok (.aload_n 1, 1) := by decide +kernel
theorem dX7_back_12 : decode cX7_back 12 = .ok (.getfield 97, 3) := by decide +kernel
theorem dX7_back_15 : decode cX7_back 15 = .ok (.bipush 6, 2) := by decide +kernel
theorem dX7_back_17 : decode cX7_back 17 = .ok (.ishr, 1) := by decide +kernel
theorem dX7_back_18 : decode cX7_back 18 = .ok (.dup2, 1) := by decide +kernel
theorem dX7_back_19 : decode cX7_back 19 = .ok (.laload, 1) := by decide +kernel
theorem dX7_back_20 : decode cX7_back 20 = .ok (.lconst 1, 1) := by decide +kernel
theorem dX7_back_21 : decode cX7_back 21 = .ok (.aload_n 1, 1) := by decide +kernel
theorem dX7_back_22 : decode cX7_back 22 = .ok (.getfield 97, 3) := by decide +kernel
theorem dX7_back_25 : decode cX7_back 25 = .ok (.bipush 63, 2) := by decide +kernel
theorem dX7_back_27 : decode cX7_back 27 = .ok (.iand, 1) := by decide +kernel
theorem dX7_back_28 : decode cX7_back 28 = .ok (.lshl, 1) := by decide +kernel
theorem dX7_back_29 : decode cX7_back 29 = .ok (.ldc2_w 100, 3) := by decide +kernel
theorem dX7_back_32 : decode cX7_back 32 = .ok (.lxor, 1) := by decide +kernel
theorem dX7_back_33 : decode cX7_back 33 = .ok (.land, 1) := by decide +kernel
theorem dX7_back_34 : decode cX7_back 34 = .ok (.lastore, 1) := by decide +kernel
theorem dX7_back_35 : decode cX7_back 35 = .ok (.aload_n 1, 1) := by decide +kernel
theorem dX7_back_36 : decode cX7_back 36 = .ok (.getfield 102, 3) := by decide +kernel
theorem dX7_back_39 : decode cX7_back 39 = .ok (.invokestatic 105, 3) := by decide +kernel
theorem dX7_back_42 : decode cX7_back 42 = .ok (.ifCond .ne 53, 3) := by decide +kernel
theorem dX7_back_45 : decode cX7_back 45 = .ok (.aload_n 1, 1) := by decide +kernel
theorem dX7_back_46 : decode cX7_back 46 = .ok (.getfield 102, 3) := by decide +kernel
theorem dX7_back_49 : decode cX7_back 49 = .ok (.bipush 20, 2) := by decide +kernel
theorem dX7_back_51 : decode cX7_back 51 = .ok (.if_icmp .eq 44, 3) := by decide +kernel
theorem dX7_back_54 : decode cX7_back 54 = .ok (.aload_n 1, 1) := by decide +kernel
theorem dX7_back_55 : decode cX7_back 55 = .ok (.getfield 102, 3) := by decide +kernel
theorem dX7_back_58 : decode cX7_back 58 = .ok (.bipush 28, 2) := by decide +kernel
theorem dX7_back_60 : decode cX7_back 60 = .ok (.if_icmp .eq 35, 3) := by decide +kernel
theorem dX7_back_63 : decode cX7_back 63 = .ok (.aload_n 1, 1) := by decide +kernel
theorem dX7_back_64 : decode cX7_back 64 = .ok (.getfield 102, 3) := by decide +kernel
theorem dX7_back_67 : decode cX7_back 67 = .ok (.bipush 30, 2) := by decide +kernel
theorem dX7_back_69 : decode cX7_back 69 = .ok (.if_icmp .eq 26, 3) := by decide +kernel
theorem dX7_back_72 : decode cX7_back 72 = .ok (.aload_n 1, 1) := by decide +kernel
theorem dX7_back_73 : decode cX7_back 73 = .ok (.getfield 102, 3) := by decide +kernel
theorem dX7_back_76 : decode cX7_back 76 = .ok (.bipush 25, 2) := by decide +kernel
theorem dX7_back_78 : decode cX7_back 78 = .ok (.if_icmp .eq 17, 3) := by decide +kernel
theorem dX7_back_81 : decode cX7_back 81 = .ok (.aload_n 1, 1) := by decide +kernel
theorem dX7_back_82 : decode cX7_back 82 = .ok (.invokevirtual 109, 3) := by decide +kernel
theorem dX7_back_85 : decode cX7_back 85 = .ok (.ifCond .ne 10, 3) := by decide +kernel
theorem dX7_back_88 : decode cX7_back 88 = .ok (.aload_n 1, 1) := by decide +kernel
theorem dX7_back_89 : decode cX7_back 89 = .ok (.invokevirtual 113, 3) := by decide +kernel
theorem dX7_back_92 : decode cX7_back 92 = .ok (.ifCond .eq 11, 3) := by decide +kernel
theorem dX7_back_95 : decode cX7_back 95 = .ok (.aload_n 0, 1) := by decide +kernel
theorem dX7_back_96 : decode cX7_back 96 = .ok (.aload_n 1, 1) := by decide +kernel
theorem dX7_back_97 : decode cX7_back 97 = .ok (.getfield 116, 3) := by decide +kernel
theorem dX7_back_100 : decode cX7_back 100 = .ok (.invokevirtual 84, 3) := by decide +kernel
theorem dX7_back_103 : decode cX7_back 103 = .ok (.aload_n 1, 1) := by decide +kernel
theorem dX7_back_104 : decode cX7_back 104 = .ok (.getfield 102, 3) := by decide +kernel
theorem dX7_back_107 : decode cX7_back 107 = .ok (.invokestatic 105, 3) := by decide +kernel
theorem dX7_back_110 : decode cX7_back 110 = .ok (.ifCond .ne 26, 3) := by decide +kernel
theorem dX7_back_113 : decode cX7_back 113 = .ok (.aload_n 1, 1) := by decide +kernel
theorem dX7_back_114 : decode cX7_back 114 = .ok (.getfield 102, 3) := by decide +kernel
theorem dX7_back_117 : decode cX7_back 117 = .ok (.bipush 25, 2) := by decide +kernel
theorem dX7_back_119 : decode cX7_back 119 = .ok (.if_icmp .eq 17, 3) := by decide +kernel
theorem dX7_back_122 : decode cX7_back 122 = .ok (.aload_n 1, 1) := by decide +kernel
theorem dX7_back_123 : decode cX7_back 123 = .ok (.invokevirtual 109, 3) := by decide +kernel
theorem dX7_back_126 : decode cX7_back 126 = .ok (.ifCond .ne 10, 3) := by decide +kernel
theorem dX7_back_129 : decode cX7_back 129 = .ok (.aload_n 1, 1) := by decide +kernel
theorem dX7_back_130 : decode cX7_back 130 = .ok (.invokevirtual 113, 3) := by decide +kernel
theorem dX7_back_133 : decode cX7_back 133 = .ok (.ifCond .eq 11, 3) := by decide +kernel
theorem dX7_back_136 : decode cX7_back 136 = .ok (.aload_n 0, 1) := by decide +kernel
theorem dX7_back_137 : decode cX7_back 137 = .ok (.aload_n 1, 1) := by decide +kernel
theorem dX7_back_138 : decode cX7_back 138 = .ok (.getfield 117, 3) := by decide +kernel
theorem dX7_back_141 : decode cX7_back 141 = .ok (.invokevirtual 84, 3) := by decide +kernel
theorem dX7_back_144 : decode cX7_back 144 = .ok (.aload_n 1, 1) := by decide +kernel
theorem dX7_back_145 : decode cX7_back 145 = .ok (.invokevirtual 113, 3) := by decide +kernel
theorem dX7_back_148 : decode cX7_back 148 = .ok (.ifCond .eq 11, 3) := by decide +kernel
theorem dX7_back_151 : decode cX7_back 151 = .ok (.aload_n 0, 1) := by decide +kernel
theorem dX7_back_152 : decode cX7_back 152 = .ok (.aload_n 1, 1) := by decide +kernel
theorem dX7_back_153 : decode cX7_back 153 = .ok (.getfield 118, 3) := by decide +kernel
theorem dX7_back_156 : decode cX7_back 156 = .ok (.invokevirtual 84, 3) := by decide +kernel
theorem dX7_back_159 : decode cX7_back 159 = .ok (.aload_n 1, 1) := by decide +kernel
theorem dX7_back_160 : decode cX7_back 160 = .ok (.getfield 121, 3) := by decide +kernel
theorem dX7_back_163 : decode cX7_back 163 = .ok (.ifnull 30, 3) := by decide +kernel
theorem dX7_back_166 : decode cX7_back 166 = .ok (.iconst 0, 1) := by decide +kernel
theorem dX7_back_167 : decode cX7_back 167 = .ok (.istore_n 2, 1) := by decide +kernel
theorem dX7_back_168 : decode cX7_back 168 = .ok (.iload_n 2, 1) := by decide +kernel
theorem dX7_back_169 : decode cX7_back 169 = .ok (.aload_n 1, 1) := by decide +kernel
theorem dX7_back_170 : decode cX7_back 170 = .ok (.getfield 121, 3) := by decide +kernel
theorem dX7_back_173 : decode cX7_back 173 = .ok (.arraylength, 1) := by decide +kernel
theorem dX7_back_174 : decode cX7_back 174 = .ok (.if_icmp .ge 19, 3) := by decide +kernel
theorem dX7_back_177 : decode cX7_back 177 = .ok (.aload_n 0, 1) := by decide +kernel
theorem dX7_back_178 : decode cX7_back 178 = .ok (.aload_n 1, 1) := by decide +kernel
theorem dX7_back_179 : decode cX7_back 179 = .ok (.getfield 121, 3) := by decide +kernel
theorem dX7_back_182 : decode cX7_back 182 = .ok (.iload_n 2, 1) := by decide +kernel
theorem dX7_back_183 : decode cX7_back 183 = .ok (.laload, 1) := by decide +kernel
theorem dX7_back_184 : decode cX7_back 184 = .ok (.invokevirtual 84, 3) := by decide +kernel
theorem dX7_back_187 : decode cX7_back 187 = .ok (.iinc 2 1, 3) := by decide +kernel
theorem dX7_back_190 : decode cX7_back 190 = .ok (.goto (-22), 3) := by decide +kernel
theorem dX7_back_193 : decode cX7_back 193 = .ok (.return_, 1) := by decide +kernel
theorem dX7_is_0 : decode cX7_is 0 = .ok (.aload_n 0, 1) := by decide +kernel
theorem dX7_is_1 : decode cX7_is 1 = .ok (.getfield 18, 3) := by decide +kernel
theorem dX7_is_4 : decode cX7_is 4 = .ok (.iload_n 1, 1) := by decide +kernel
theorem dX7_is_5 : decode cX7_is 5 = .ok (.bipush 6, 2) := by decide +kernel
theorem dX7_is_7 : decode cX7_is 7 = .ok (.ishr, 1) := by decide +kernel
theorem dX7_is_8 : decode cX7_is 8 = .ok (.laload, 1) := by decide +kernel
theorem dX7_is_9 : decode cX7_is 9 = .ok (.iload_n 1, 1) := by decide +kernel
theorem dX7_is_10 : decode cX7_is 10 = .ok (.bipush 63, 2) := by decide +kernel
theorem dX7_is_12 : decode cX7_is 12 = .ok (.iand, 1) := by decide +kernel
theorem dX7_is_13 : decode cX7_is 13 = .ok (.lshr, 1) := by decide +kernel
theorem dX7_is_14 : decode cX7_is 14 = .ok (.lconst 1, 1) := by decide +kernel
theorem dX7_is_15 : decode cX7_is 15 = .ok (.land, 1) := by decide +kernel
theorem dX7_is_16 : decode cX7_is 16 = .ok (.lconst 0, 1) := by decide +kernel
theorem dX7_is_17 : decode cX7_is 17 = .ok (.lcmp, 1) := by decide +kernel
theorem dX7_is_18 : decode cX7_is 18 = .ok (.ifCond .eq 7, 3) := by decide +kernel
theorem dX7_is_21 : decode cX7_is 21 = .ok (.iconst 1, 1) := by decide +kernel
theorem dX7_is_22 : decode cX7_is 22 = .ok (.goto 4, 3) := by decide +kernel
theorem dX7_is_25 : decode cX7_is 25 = .ok (.iconst 0, 1) := by decide +kernel
theorem dX7_is_26 : decode cX7_is 26 = .ok (.ireturn, 1) := by decide +kernel
