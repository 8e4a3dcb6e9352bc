/-! names: X8_init X8_clean X8_reach X8_come X8_through X8_propagate (tools/chunk.py) -/
set_option maxRecDepth 100000
abbrev cX8_init : ByteArray := prog_10_method_1_code
def yX8_init : MethodName := ⟨RX8, "<init>", "(LCompiledHouse$Living;)V"⟩
theorem q604 : (Jvm.Cond.code ({ cls := "CompiledHouse$Cleaner", name := "<init>", desc := "(LCompiledHouse$Living;)V" } : Jvm.MethodName) prog_10_method_1_code (2 : Nat) (Option.none : Option Jvm.ClassFile.FieldType)) ∈ lw_all := lw_g (lw_at lw_m2 168 rfl) rfl
def kX8_init : xK := (yX8_init, cX8_init, 2, none, [])
theorem me_X8_init : xMe kX8_init 1 := ⟨q604, q211, by decide, by decide, by decide +kernel⟩
theorem q603 : (Jvm.Cond.instanceMethod ({ cls := "CompiledHouse$Cleaner", name := "<init>", desc := "(LCompiledHouse$Living;)V" } : Jvm.MethodName)) ∈ lw_all := lw_g (lw_at lw_m2 167 rfl) rfl
theorem is_X8_init : Cond.instanceMethod kX8_init.y ∈ lw_all := q603
theorem q605 : (Jvm.Cond.methodLink "CompiledHouse$Cleaner" (3 : Nat) ({ cls := "java/lang/Object", name := "<init>", desc := "()V" } : Jvm.MethodName)) ∈ lw_all := lw_g (lw_at lw_m2 169 rfl) rfl
theorem lk_X8_3 : xLk RX8 3 yJ18_init := Or.inl q605
theorem q610 : (Jvm.Cond.fieldLink "CompiledHouse$Cleaner" (9 : Nat) "CompiledHouse$Cleaner" "order" "[I") ∈ lw_all := lw_g (lw_at lw_m2 174 rfl) rfl
theorem f_X8_9_7 : xF RX8 9 7 2 := ⟨_, "CompiledHouse$Cleaner", rfl, by decide, Or.inl q610, Or.inl rfl⟩
theorem q606 : (Jvm.Cond.classLink "CompiledHouse$Cleaner" (15 : Nat) "java/util/ArrayList") ∈ lw_all := lw_g (lw_at lw_m2 170 rfl) rfl
theorem q607 : (Jvm.Cond.methodLink "CompiledHouse$Cleaner" (17 : Nat) ({ cls := "java/util/ArrayList", name := "<init>", desc := "()V" } : Jvm.MethodName)) ∈ lw_all := lw_g (lw_at lw_m2 171 rfl) rfl
theorem lk_X8_17 : xLk RX8 17 yJ5_init := Or.inl q607
theorem q611 : (Jvm.Cond.fieldLink "CompiledHouse$Cleaner" (18 : Nat) "CompiledHouse$Cleaner" "row" "Ljava/util/ArrayList;") ∈ lw_all := lw_g (lw_at lw_m2 175 rfl) rfl
theorem f_X8_18_7 : xF RX8 18 7 3 := ⟨_, "CompiledHouse$Cleaner", rfl, by decide, Or.inl q611, Or.inl rfl⟩
theorem q612 : (Jvm.Cond.fieldLink "CompiledHouse$Cleaner" (22 : Nat) "CompiledHouse$Cleaner" "lattices" "[I") ∈ lw_all := lw_g (lw_at lw_m2 176 rfl) rfl
theorem f_X8_22_7 : xF RX8 22 7 4 := ⟨_, "CompiledHouse$Cleaner", rfl, by decide, Or.inl q612, Or.inl rfl⟩
theorem q613 : (Jvm.Cond.fieldLink "CompiledHouse$Cleaner" (25 : Nat) "CompiledHouse$Cleaner" "knowns" "[I") ∈ lw_all := lw_g (lw_at lw_m2 177 rfl) rfl
theorem f_X8_25_7 : xF RX8 25 7 5 := ⟨_, "CompiledHouse$Cleaner", rfl, by decide, Or.inl q613, Or.inl rfl⟩
theorem q614 : (Jvm.Cond.fieldLink "CompiledHouse$Cleaner" (28 : Nat) "CompiledHouse$Cleaner" "lattice" "[I") ∈ lw_all := lw_g (lw_at lw_m2 178 rfl) rfl
theorem f_X8_28_7 : xF RX8 28 7 6 := ⟨_, "CompiledHouse$Cleaner", rfl, by decide, Or.inl q614, Or.inl rfl⟩
theorem q615 : (Jvm.Cond.fieldLink "CompiledHouse$Cleaner" (31 : Nat) "CompiledHouse$Cleaner" "known" "[I") ∈ lw_all := lw_g (lw_at lw_m2 179 rfl) rfl
theorem f_X8_31_7 : xF RX8 31 7 7 := ⟨_, "CompiledHouse$Cleaner", rfl, by decide, Or.inl q615, Or.inl rfl⟩
theorem q616 : (Jvm.Cond.fieldLink "CompiledHouse$Cleaner" (34 : Nat) "CompiledHouse$Cleaner" "tempStamp" "[I") ∈ lw_all := lw_g (lw_at lw_m2 180 rfl) rfl
theorem f_X8_34_7 : xF RX8 34 7 8 := ⟨_, "CompiledHouse$Cleaner", rfl, by decide, Or.inl q616, Or.inl rfl⟩
theorem q617 : (Jvm.Cond.fieldLink "CompiledHouse$Cleaner" (37 : Nat) "CompiledHouse$Cleaner" "tempLattice" "[I") ∈ lw_all := lw_g (lw_at lw_m2 181 rfl) rfl
theorem f_X8_37_7 : xF RX8 37 7 9 := ⟨_, "CompiledHouse$Cleaner", rfl, by decide, Or.inl q617, Or.inl rfl⟩
theorem q618 : (Jvm.Cond.fieldLink "CompiledHouse$Cleaner" (40 : Nat) "CompiledHouse$Cleaner" "tempKnown" "[I") ∈ lw_all := lw_g (lw_at lw_m2 182 rfl) rfl
theorem f_X8_40_7 : xF RX8 40 7 10 := ⟨_, "CompiledHouse$Cleaner", rfl, by decide, Or.inl q618, Or.inl rfl⟩
theorem q627 : (Jvm.Cond.fieldLink "CompiledHouse$Cleaner" (43 : Nat) "CompiledHouse$Cleaner" "numberOf" "[I") ∈ lw_all := lw_g (lw_at lw_m2 191 rfl) rfl
theorem f_X8_43_7 : xF RX8 43 7 19 := ⟨_, "CompiledHouse$Cleaner", rfl, by decide, Or.inl q627, Or.inl rfl⟩
theorem q628 : (Jvm.Cond.fieldLink "CompiledHouse$Cleaner" (46 : Nat) "CompiledHouse$Cleaner" "timeOf" "[I") ∈ lw_all := lw_g (lw_at lw_m2 192 rfl) rfl
theorem f_X8_46_7 : xF RX8 46 7 20 := ⟨_, "CompiledHouse$Cleaner", rfl, by decide, Or.inl q628, Or.inl rfl⟩
theorem q629 : (Jvm.Cond.fieldLink "CompiledHouse$Cleaner" (49 : Nat) "CompiledHouse$Cleaner" "holder" "[I") ∈ lw_all := lw_g (lw_at lw_m2 193 rfl) rfl
theorem f_X8_49_7 : xF RX8 49 7 21 := ⟨_, "CompiledHouse$Cleaner", rfl, by decide, Or.inl q629, Or.inl rfl⟩
theorem q608 : (Jvm.Cond.fieldLink "CompiledHouse$Cleaner" (52 : Nat) "CompiledHouse$Cleaner" "living" "LCompiledHouse$Living;") ∈ lw_all := lw_g (lw_at lw_m2 172 rfl) rfl
theorem f_X8_52_7 : xF RX8 52 7 0 := ⟨_, "CompiledHouse$Cleaner", rfl, by decide, Or.inl q608, Or.inl rfl⟩
abbrev cX8_clean : ByteArray := prog_10_method_2_code
def yX8_clean : MethodName := ⟨RX8, "clean", "(LCompiledHouse$Code;)V"⟩
theorem q2436 : (Jvm.Cond.code ({ cls := "CompiledHouse$Cleaner", name := "clean", desc := "(LCompiledHouse$Code;)V" } : Jvm.MethodName) prog_10_method_2_code (3 : Nat) (Option.none : Option Jvm.ClassFile.FieldType)) ∈ lw_all := lw_g (lw_at lw_m10 80 rfl) rfl
def kX8_clean : xK := (yX8_clean, cX8_clean, 3, none, [])
theorem me_X8_clean : xMe kX8_clean 1 := ⟨q2436, q211, by decide, by decide, by decide +kernel⟩
theorem q2434 : (Jvm.Cond.instanceMethod ({ cls := "CompiledHouse$Cleaner", name := "clean", desc := "(LCompiledHouse$Code;)V" } : Jvm.MethodName)) ∈ lw_all := lw_g (lw_at lw_m10 78 rfl) rfl
theorem is_X8_clean : Cond.instanceMethod kX8_clean.y ∈ lw_all := q2434
theorem se_X8_clean : Cond.selects RX8 kX8_clean.y kX8_clean.y ∈ lw_all := q2435
theorem q609 : (Jvm.Cond.fieldLink "CompiledHouse$Cleaner" (56 : Nat) "CompiledHouse$Cleaner" "code" "LCompiledHouse$Code;") ∈ lw_all := lw_g (lw_at lw_m2 173 rfl) rfl
theorem f_X8_56_7 : xF RX8 56 7 1 := ⟨_, "CompiledHouse$Cleaner", rfl, by decide, Or.inl q609, Or.inl rfl⟩
theorem q1761 : (Jvm.Cond.fieldLinkNest "CompiledHouse$Cleaner" (60 : Nat) "CompiledHouse$Code" "registers" "I" "CompiledHouse") ∈ lw_tbl := lw_at lw_m7 125 rfl
theorem f_X8_60_33 : xF RX8 60 33 2 := ⟨_, "CompiledHouse$Code", rfl, by decide, Or.inr ⟨_, q1761⟩, Or.inl rfl⟩
theorem q2437 : (Jvm.Cond.methodLinkNest "CompiledHouse$Cleaner" (66 : Nat) ({ cls := "CompiledHouse", name := "roomFor", desc := "([II)[I" } : Jvm.MethodName) "CompiledHouse") ∈ lw_tbl := lw_at lw_m10 81 rfl
theorem lk_X8_66 : xLk RX8 66 yX0_roomFor := Or.inr ⟨_, q2437⟩
theorem q1767 : (Jvm.Cond.fieldLinkNest "CompiledHouse$Cleaner" (70 : Nat) "CompiledHouse$Code" "variables" "Ljava/util/ArrayList;" "CompiledHouse") ∈ lw_tbl := lw_at lw_m7 131 rfl
theorem f_X8_70_33 : xF RX8 70 33 4 := ⟨_, "CompiledHouse$Code", rfl, by decide, Or.inr ⟨_, q1767⟩, Or.inl rfl⟩
theorem q2441 : (Jvm.Cond.methodLink "CompiledHouse$Cleaner" (73 : Nat) ({ cls := "java/util/ArrayList", name := "size", desc := "()I" } : Jvm.MethodName)) ∈ lw_all := lw_g (lw_at lw_m10 85 rfl) rfl
theorem lk_X8_73 : xLk RX8 73 yJ5_size := Or.inl q2441
theorem q2442 : (Jvm.Cond.methodLink "CompiledHouse$Cleaner" (77 : Nat) ({ cls := "java/util/ArrayList", name := "get", desc := "(I)Ljava/lang/Object;" } : Jvm.MethodName)) ∈ lw_all := lw_g (lw_at lw_m10 86 rfl) rfl
theorem lk_X8_77 : xLk RX8 77 yJ5_get := Or.inl q2442
theorem q2443 : (Jvm.Cond.classLink "CompiledHouse$Cleaner" (81 : Nat) "java/lang/Integer") ∈ lw_all := lw_g (lw_at lw_m10 87 rfl) rfl
theorem q2444 : (Jvm.Cond.methodLink "CompiledHouse$Cleaner" (83 : Nat) ({ cls := "java/lang/Integer", name := "intValue", desc := "()I" } : Jvm.MethodName)) ∈ lw_all := lw_g (lw_at lw_m10 88 rfl) rfl
abbrev cJ15_intValue : ByteArray := prog_44_method_27_code
def yJ15_intValue : MethodName := ⟨RJ15, "intValue", "()I"⟩
theorem q2447 : (Jvm.Cond.code ({ cls := "java/lang/Integer", name := "intValue", desc := "()I" } : Jvm.MethodName) prog_44_method_27_code (1 : Nat) (Option.some Jvm.ClassFile.FieldType.int)) ∈ lw_all := lw_g (lw_at lw_m10 91 rfl) rfl
def kJ15_intValue : xK := (yJ15_intValue, cJ15_intValue, 1, some .int, [])
theorem me_J15_intValue : xMe kJ15_intValue 0 := ⟨q2447, q250, by decide, by decide, by decide +kernel⟩
theorem q2445 : (Jvm.Cond.instanceMethod ({ cls := "java/lang/Integer", name := "intValue", desc := "()I" } : Jvm.MethodName)) ∈ lw_all := lw_g (lw_at lw_m10 89 rfl) rfl
theorem is_J15_intValue : Cond.instanceMethod kJ15_intValue.y ∈ lw_all := q2445
theorem se_J15_intValue : Cond.selects RJ15 kJ15_intValue.y kJ15_intValue.y ∈ lw_all := q2446
theorem lk_X8_83 : xLk RX8 83 yJ15_intValue := Or.inl q2444
theorem q2448 : (Jvm.Cond.methodLink "CompiledHouse$Cleaner" (86 : Nat) ({ cls := "CompiledHouse$Cleaner", name := "reach", desc := "()V" } : Jvm.MethodName)) ∈ lw_all := lw_g (lw_at lw_m10 92 rfl) rfl
abbrev cX8_reach : ByteArray := prog_10_method_3_code
def yX8_reach : MethodName := ⟨RX8, "reach", "()V"⟩
theorem q2451 : (Jvm.Cond.code ({ cls := "CompiledHouse$Cleaner", name := "reach", desc := "()V" } : Jvm.MethodName) prog_10_method_3_code (4 : Nat) (Option.none : Option Jvm.ClassFile.FieldType)) ∈ lw_all := lw_g (lw_at lw_m10 95 rfl) rfl
def kX8_reach : xK := (yX8_reach, cX8_reach, 4, none, [])
theorem me_X8_reach : xMe kX8_reach 0 := ⟨q2451, q211, by decide, by decide, by decide +kernel⟩
theorem q2450 : (Jvm.Cond.instanceMethod ({ cls := "CompiledHouse$Cleaner", name := "reach", desc := "()V" } : Jvm.MethodName)) ∈ lw_all := lw_g (lw_at lw_m10 94 rfl) rfl
theorem is_X8_reach : Cond.instanceMethod kX8_reach.y ∈ lw_all := q2450
theorem se_X8_reach : Cond.selects RX8 kX8_reach.y kX8_reach.y ∈ lw_all := qs52
theorem lk_X8_86 : xLk RX8 86 yX8_reach := Or.inl q2448
theorem q2479 : (Jvm.Cond.methodLink "CompiledHouse$Cleaner" (89 : Nat) ({ cls := "CompiledHouse$Cleaner", name := "propagate", desc := "()V" } : Jvm.MethodName)) ∈ lw_all := lw_g (lw_at lw_m10 123 rfl) rfl
abbrev cX8_propagate : ByteArray := prog_10_method_7_code
def yX8_propagate : MethodName := ⟨RX8, "propagate", "()V"⟩
theorem q2482 : (Jvm.Cond.code ({ cls := "CompiledHouse$Cleaner", name := "propagate", desc := "()V" } : Jvm.MethodName) prog_10_method_7_code (5 : Nat) (Option.none : Option Jvm.ClassFile.FieldType)) ∈ lw_all := lw_g (lw_at lw_m10 126 rfl) rfl
def kX8_propagate : xK := (yX8_propagate, cX8_propagate, 5, none, [])
theorem me_X8_propagate : xMe kX8_propagate 0 := ⟨q2482, q211, by decide, by decide, by decide +kernel⟩
theorem q2481 : (Jvm.Cond.instanceMethod ({ cls := "CompiledHouse$Cleaner", name := "propagate", desc := "()V" } : Jvm.MethodName)) ∈ lw_all := lw_g (lw_at lw_m10 125 rfl) rfl
theorem is_X8_propagate : Cond.instanceMethod kX8_propagate.y ∈ lw_all := q2481
theorem se_X8_propagate : Cond.selects RX8 kX8_propagate.y kX8_propagate.y ∈ lw_all := qs54
theorem lk_X8_89 : xLk RX8 89 yX8_propagate := Or.inl q2479
theorem q2505 : (Jvm.Cond.methodLink "CompiledHouse$Cleaner" (92 : Nat) ({ cls := "CompiledHouse$Cleaner", name := "numberAll", desc := "()V" } : Jvm.MethodName)) ∈ lw_all := lw_g (lw_at lw_m10 149 rfl) rfl
abbrev cX8_numberAll : ByteArray := prog_10_method_12_code
def yX8_numberAll : MethodName := ⟨RX8, "numberAll", "()V"⟩
theorem q2508 : (Jvm.Cond.code ({ cls := "CompiledHouse$Cleaner", name := "numberAll", desc := "()V" } : Jvm.MethodName) prog_10_method_12_code (6 : Nat) (Option.none : Option Jvm.ClassFile.FieldType)) ∈ lw_all := lw_g (lw_at lw_m10 152 rfl) rfl
def kX8_numberAll : xK := (yX8_numberAll, cX8_numberAll, 6, none, [])
theorem me_X8_numberAll : xMe kX8_numberAll 0 := ⟨q2508, q211, by decide, by decide, by decide +kernel⟩
theorem q2507 : (Jvm.Cond.instanceMethod ({ cls := "CompiledHouse$Cleaner", name := "numberAll", desc := "()V" } : Jvm.MethodName)) ∈ lw_all := lw_g (lw_at lw_m10 151 rfl) rfl
theorem is_X8_numberAll : Cond.instanceMethod kX8_numberAll.y ∈ lw_all := q2507
theorem se_X8_numberAll : Cond.selects RX8 kX8_numberAll.y kX8_numberAll.y ∈ lw_all := qs59
theorem lk_X8_92 : xLk RX8 92 yX8_numberAll := Or.inl q2505
theorem q2601 : (Jvm.Cond.methodLink "CompiledHouse$Cleaner" (95 : Nat) ({ cls := "CompiledHouse$Cleaner", name := "join", desc := "()V" } : Jvm.MethodName)) ∈ lw_all := lw_g (lw_at lw_m11 5 rfl) rfl
abbrev cX8_join : ByteArray := prog_10_method_6_code
def yX8_join : MethodName := ⟨RX8, "join", "()V"⟩
theorem q2604 : (Jvm.Cond.code ({ cls := "CompiledHouse$Cleaner", name := "join", desc := "()V" } : Jvm.MethodName) prog_10_method_6_code (6 : Nat) (Option.none : Option Jvm.ClassFile.FieldType)) ∈ lw_all := lw_g (lw_at lw_m11 8 rfl) rfl
def kX8_join : xK := (yX8_join, cX8_join, 6, none, [])
theorem me_X8_join : xMe kX8_join 0 := ⟨q2604, q211, by decide, by decide, by decide +kernel⟩
theorem q2603 : (Jvm.Cond.instanceMethod ({ cls := "CompiledHouse$Cleaner", name := "join", desc := "()V" } : Jvm.MethodName)) ∈ lw_all := lw_g (lw_at lw_m11 7 rfl) rfl
theorem is_X8_join : Cond.instanceMethod kX8_join.y ∈ lw_all := q2603
theorem se_X8_join : Cond.selects RX8 kX8_join.y kX8_join.y ∈ lw_all := qs78
theorem lk_X8_95 : xLk RX8 95 yX8_join := Or.inl q2601
theorem q2607 : (Jvm.Cond.methodLink "CompiledHouse$Cleaner" (98 : Nat) ({ cls := "CompiledHouse$Cleaner", name := "useless", desc := "()V" } : Jvm.MethodName)) ∈ lw_all := lw_g (lw_at lw_m11 11 rfl) rfl
abbrev cX8_useless : ByteArray := prog_10_method_33_code
def yX8_useless : MethodName := ⟨RX8, "useless", "()V"⟩
theorem q2610 : (Jvm.Cond.code ({ cls := "CompiledHouse$Cleaner", name := "useless", desc := "()V" } : Jvm.MethodName) prog_10_method_33_code (6 : Nat) (Option.none : Option Jvm.ClassFile.FieldType)) ∈ lw_all := lw_g (lw_at lw_m11 14 rfl) rfl
def kX8_useless : xK := (yX8_useless, cX8_useless, 6, none, [])
theorem me_X8_useless : xMe kX8_useless 0 := ⟨q2610, q211, by decide, by decide, by decide +kernel⟩
theorem q2609 : (Jvm.Cond.instanceMethod ({ cls := "CompiledHouse$Cleaner", name := "useless", desc := "()V" } : Jvm.MethodName)) ∈ lw_all := lw_g (lw_at lw_m11 13 rfl) rfl
theorem is_X8_useless : Cond.instanceMethod kX8_useless.y ∈ lw_all := q2609
theorem se_X8_useless : Cond.selects RX8 kX8_useless.y kX8_useless.y ∈ lw_all := qs79
theorem lk_X8_98 : xLk RX8 98 yX8_useless := Or.inl q2607
theorem q1756 : (Jvm.Cond.fieldLinkNest "CompiledHouse$Cleaner" (101 : Nat) "CompiledHouse$Code" "blocks" "Ljava/util/ArrayList;" "CompiledHouse") ∈ lw_tbl := lw_at lw_m7 120 rfl
theorem f_X8_101_33 : xF RX8 101 33 1 := ⟨_, "CompiledHouse$Code", rfl, by decide, Or.inr ⟨_, q1756⟩, Or.inl rfl⟩
theorem q2452 : (Jvm.Cond.classLink "CompiledHouse$Cleaner" (104 : Nat) "CompiledHouse$Block") ∈ lw_all := lw_g (lw_at lw_m10 96 rfl) rfl
theorem q1827 : (Jvm.Cond.fieldLinkNest "CompiledHouse$Cleaner" (106 : Nat) "CompiledHouse$Block" "isReached" "Z" "CompiledHouse") ∈ lw_tbl := lw_at lw_m7 191 rfl
theorem f_X8_106_34 : xF RX8 106 34 10 := ⟨_, "CompiledHouse$Block", rfl, by decide, Or.inr ⟨_, q1827⟩, Or.inl rfl⟩
theorem q1826 : (Jvm.Cond.fieldLinkNest "CompiledHouse$Cleaner" (110 : Nat) "CompiledHouse$Block" "ways" "I" "CompiledHouse") ∈ lw_tbl := lw_at lw_m7 190 rfl
theorem f_X8_110_34 : xF RX8 110 34 9 := ⟨_, "CompiledHouse$Block", rfl, by decide, Or.inr ⟨_, q1826⟩, Or.inl rfl⟩
theorem q2453 : (Jvm.Cond.methodLink "CompiledHouse$Cleaner" (113 : Nat) ({ cls := "CompiledHouse$Cleaner", name := "come", desc := "(LCompiledHouse$Block;)V" } : Jvm.MethodName)) ∈ lw_all := lw_g (lw_at lw_m10 97 rfl) rfl
abbrev cX8_come : ByteArray := prog_10_method_5_code
def yX8_come : MethodName := ⟨RX8, "come", "(LCompiledHouse$Block;)V"⟩
theorem q2456 : (Jvm.Cond.code ({ cls := "CompiledHouse$Cleaner", name := "come", desc := "(LCompiledHouse$Block;)V" } : Jvm.MethodName) prog_10_method_5_code (2 : Nat) (Option.none : Option Jvm.ClassFile.FieldType)) ∈ lw_all := lw_g (lw_at lw_m10 100 rfl) rfl
def kX8_come : xK := (yX8_come, cX8_come, 2, none, [])
theorem me_X8_come : xMe kX8_come 1 := ⟨q2456, q211, by decide, by decide, by decide +kernel⟩
theorem q2455 : (Jvm.Cond.instanceMethod ({ cls := "CompiledHouse$Cleaner", name := "come", desc := "(LCompiledHouse$Block;)V" } : Jvm.MethodName)) ∈ lw_all := lw_g (lw_at lw_m10 99 rfl) rfl
theorem is_X8_come : Cond.instanceMethod kX8_come.y ∈ lw_all := q2455
theorem se_X8_come : Cond.selects RX8 kX8_come.y kX8_come.y ∈ lw_all := qs53
theorem lk_X8_113 : xLk RX8 113 yX8_come := Or.inl q2453
theorem q2458 : (Jvm.Cond.methodLink "CompiledHouse$Cleaner" (117 : Nat) ({ cls := "java/util/ArrayList", name := "isEmpty", desc := "()Z" } : Jvm.MethodName)) ∈ lw_all := lw_g (lw_at lw_m10 102 rfl) rfl
theorem lk_X8_117 : xLk RX8 117 yJ5_isEmpty := Or.inl q2458
theorem q2462 : (Jvm.Cond.methodLink "CompiledHouse$Cleaner" (121 : Nat) ({ cls := "java/util/ArrayList", name := "remove", desc := "(I)Ljava/lang/Object;" } : Jvm.MethodName)) ∈ lw_all := lw_g (lw_at lw_m10 106 rfl) rfl
theorem lk_X8_121 : xLk RX8 121 yJ5_remove := Or.inl q2462
theorem q1799 : (Jvm.Cond.fieldLinkNest "CompiledHouse$Cleaner" (124 : Nat) "CompiledHouse$Block" "end" "I" "CompiledHouse") ∈ lw_tbl := lw_at lw_m7 163 rfl
theorem f_X8_124_34 : xF RX8 124 34 1 := ⟨_, "CompiledHouse$Block", rfl, by decide, Or.inr ⟨_, q1799⟩, Or.inl rfl⟩
theorem q1816 : (Jvm.Cond.fieldLinkNest "CompiledHouse$Cleaner" (127 : Nat) "CompiledHouse$Block" "yes" "LCompiledHouse$Block;" "CompiledHouse") ∈ lw_tbl := lw_at lw_m7 180 rfl
theorem f_X8_127_34 : xF RX8 127 34 5 := ⟨_, "CompiledHouse$Block", rfl, by decide, Or.inr ⟨_, q1816⟩, Or.inl rfl⟩
theorem q1820 : (Jvm.Cond.fieldLinkNest "CompiledHouse$Cleaner" (131 : Nat) "CompiledHouse$Block" "no" "LCompiledHouse$Block;" "CompiledHouse") ∈ lw_tbl := lw_at lw_m7 184 rfl
theorem f_X8_131_34 : xF RX8 131 34 6 := ⟨_, "CompiledHouse$Block", rfl, by decide, Or.inr ⟨_, q1820⟩, Or.inl rfl⟩
theorem q2463 : (Jvm.Cond.methodLink "CompiledHouse$Cleaner" (134 : Nat) ({ cls := "CompiledHouse$Block", name := "settle", desc := "(Z)V" } : Jvm.MethodName)) ∈ lw_all := lw_g (lw_at lw_m10 107 rfl) rfl
theorem lk_X8_134 : xLk RX8 134 yX36_settle := Or.inl q2463
theorem q2468 : (Jvm.Cond.methodLink "CompiledHouse$Cleaner" (138 : Nat) ({ cls := "CompiledHouse$Cleaner", name := "through", desc := "(LCompiledHouse$Block;)LCompiledHouse$Block;" } : Jvm.MethodName)) ∈ lw_all := lw_g (lw_at lw_m10 112 rfl) rfl
abbrev cX8_through : ByteArray := prog_10_method_4_code
def yX8_through : MethodName := ⟨RX8, "through", "(LCompiledHouse$Block;)LCompiledHouse$Block;"⟩
theorem q2470 : (Jvm.Cond.code ({ cls := "CompiledHouse$Cleaner", name := "through", desc := "(LCompiledHouse$Block;)LCompiledHouse$Block;" } : Jvm.MethodName) prog_10_method_4_code (3 : Nat) (Option.some (Jvm.ClassFile.FieldType.object "CompiledHouse$Block"))) ∈ lw_all := lw_g (lw_at lw_m10 114 rfl) rfl
def kX8_through : xK := (yX8_through, cX8_through, 3, some (.object "CompiledHouse$Block"), [])
theorem me_X8_through : xMe kX8_through 1 := ⟨q2470, q211, by decide, by decide, by decide +kernel⟩
theorem q2469 : (Jvm.Cond.static ({ cls := "CompiledHouse$Cleaner", name := "through", desc := "(LCompiledHouse$Block;)LCompiledHouse$Block;" } : Jvm.MethodName)) ∈ lw_all := lw_g (lw_at lw_m10 113 rfl) rfl
theorem st_X8_through : Cond.static kX8_through.y ∈ lw_all := q2469
theorem lk_X8_138 : xLk RX8 138 yX8_through := Or.inl q2468
theorem q1825 : (Jvm.Cond.fieldLinkNest "CompiledHouse$Cleaner" (142 : Nat) "CompiledHouse$Block" "index" "I" "CompiledHouse") ∈ lw_tbl := lw_at lw_m7 189 rfl
theorem f_X8_142_34 : xF RX8 142 34 8 := ⟨_, "CompiledHouse$Block", rfl, by decide, Or.inr ⟨_, q1825⟩, Or.inl rfl⟩
theorem q2471 : (Jvm.Cond.methodLink "CompiledHouse$Cleaner" (145 : Nat) ({ cls := "java/util/ArrayList", name := "set", desc := "(ILjava/lang/Object;)Ljava/lang/Object;" } : Jvm.MethodName)) ∈ lw_all := lw_g (lw_at lw_m10 115 rfl) rfl
theorem lk_X8_145 : xLk RX8 145 yJ5_set := Or.inl q2471
theorem q2475 : (Jvm.Cond.methodLinkNest "CompiledHouse$Cleaner" (149 : Nat) ({ cls := "CompiledHouse", name := "cut", desc := "(Ljava/util/ArrayList;I)V" } : Jvm.MethodName) "CompiledHouse") ∈ lw_tbl := lw_at lw_m10 119 rfl
theorem lk_X8_149 : xLk RX8 149 yX0_cut := Or.inr ⟨_, q2475⟩
theorem q2457 : (Jvm.Cond.methodLink "CompiledHouse$Cleaner" (156 : Nat) ({ cls := "java/util/ArrayList", name := "add", desc := "(Ljava/lang/Object;)Z" } : Jvm.MethodName)) ∈ lw_all := lw_g (lw_at lw_m10 101 rfl) rfl
theorem lk_X8_156 : xLk RX8 156 yJ5_add := Or.inl q2457
theorem q1796 : (Jvm.Cond.fieldLinkNest "CompiledHouse$Cleaner" (153 : Nat) "CompiledHouse$Block" "acts" "Ljava/util/ArrayList;" "CompiledHouse") ∈ lw_tbl := lw_at lw_m7 160 rfl
theorem f_X8_153_34 : xF RX8 153 34 0 := ⟨_, "CompiledHouse$Block", rfl, by decide, Or.inr ⟨_, q1796⟩, Or.inl rfl⟩
theorem q620 : (Jvm.Cond.fieldLink "CompiledHouse$Cleaner" (179 : Nat) "CompiledHouse$Cleaner" "variables" "I") ∈ lw_all := lw_g (lw_at lw_m2 184 rfl) rfl
theorem f_X8_179_7 : xF RX8 179 7 12 := ⟨_, "CompiledHouse$Cleaner", rfl, by decide, Or.inl q620, Or.inl rfl⟩
theorem q1828 : (Jvm.Cond.fieldLinkNest "CompiledHouse$Cleaner" (181 : Nat) "CompiledHouse$Block" "isKnown" "Z" "CompiledHouse") ∈ lw_tbl := lw_at lw_m7 192 rfl
theorem f_X8_181_34 : xF RX8 181 34 11 := ⟨_, "CompiledHouse$Block", rfl, by decide, Or.inr ⟨_, q1828⟩, Or.inl rfl⟩
theorem q2483 : (Jvm.Cond.methodLink "CompiledHouse$Cleaner" (184 : Nat) ({ cls := "CompiledHouse$Cleaner", name := "flow", desc := "(LCompiledHouse$Block;)V" } : Jvm.MethodName)) ∈ lw_all := lw_g (lw_at lw_m10 127 rfl) rfl
abbrev cX8_flow : ByteArray := prog_10_method_11_code
def yX8_flow : MethodName := ⟨RX8, "flow", "(LCompiledHouse$Block;)V"⟩
theorem q2486 : (Jvm.Cond.code ({ cls := "CompiledHouse$Cleaner", name := "flow", desc := "(LCompiledHouse$Block;)V" } : Jvm.MethodName) prog_10_method_11_code (7 : Nat) (Option.none : Option Jvm.ClassFile.FieldType)) ∈ lw_all := lw_g (lw_at lw_m10 130 rfl) rfl
def kX8_flow : xK := (yX8_flow, cX8_flow, 7, none, [])
theorem me_X8_flow : xMe kX8_flow 1 := ⟨q2486, q211, by decide, by decide, by decide +kernel⟩
theorem q2485 : (Jvm.Cond.instanceMethod ({ cls := "CompiledHouse$Cleaner", name := "flow", desc := "(LCompiledHouse$Block;)V" } : Jvm.MethodName)) ∈ lw_all := lw_g (lw_at lw_m10 129 rfl) rfl
theorem is_X8_flow : Cond.instanceMethod kX8_flow.y ∈ lw_all := q2485
theorem se_X8_flow : Cond.selects RX8 kX8_flow.y kX8_flow.y ∈ lw_all := qs55
theorem lk_X8_184 : xLk RX8 184 yX8_flow := Or.inl q2483
theorem q619 : (Jvm.Cond.fieldLink "CompiledHouse$Cleaner" (187 : Nat) "CompiledHouse$Cleaner" "stamp" "I") ∈ lw_all := lw_g (lw_at lw_m2 183 rfl) rfl
theorem f_X8_187_7 : xF RX8 187 7 11 := ⟨_, "CompiledHouse$Cleaner", rfl, by decide, Or.inl q619, Or.inl rfl⟩
theorem q2487 : (Jvm.Cond.classLink "CompiledHouse$Cleaner" (160 : Nat) "CompiledHouse$Act") ∈ lw_all := lw_g (lw_at lw_m10 131 rfl) rfl
theorem q2488 : (Jvm.Cond.methodLink "CompiledHouse$Cleaner" (190 : Nat) ({ cls := "CompiledHouse$Cleaner", name := "judge", desc := "(LCompiledHouse$Act;)V" } : Jvm.MethodName)) ∈ lw_all := lw_g (lw_at lw_m10 132 rfl) rfl
abbrev cX8_judge : ByteArray := prog_10_method_10_code
def yX8_judge : MethodName := ⟨RX8, "judge", "(LCompiledHouse$Act;)V"⟩
theorem q2491 : (Jvm.Cond.code ({ cls := "CompiledHouse$Cleaner", name := "judge", desc := "(LCompiledHouse$Act;)V" } : Jvm.MethodName) prog_10_method_10_code (5 : Nat) (Option.none : Option Jvm.ClassFile.FieldType)) ∈ lw_all := lw_g (lw_at lw_m10 135 rfl) rfl
def kX8_judge : xK := (yX8_judge, cX8_judge, 5, none, [])
theorem me_X8_judge : xMe kX8_judge 1 := ⟨q2491, q211, by decide, by decide, by decide +kernel⟩
theorem q2490 : (Jvm.Cond.instanceMethod ({ cls := "CompiledHouse$Cleaner", name := "judge", desc := "(LCompiledHouse$Act;)V" } : Jvm.MethodName)) ∈ lw_all := lw_g (lw_at lw_m10 134 rfl) rfl
theorem is_X8_judge : Cond.instanceMethod kX8_judge.y ∈ lw_all := q2490
theorem se_X8_judge : Cond.selects RX8 kX8_judge.y kX8_judge.y ∈ lw_all := qs56
theorem lk_X8_190 : xLk RX8 190 yX8_judge := Or.inl q2488
theorem q1808 : (Jvm.Cond.fieldLinkNest "CompiledHouse$Cleaner" (165 : Nat) "CompiledHouse$Block" "a" "J" "CompiledHouse") ∈ lw_tbl := lw_at lw_m7 172 rfl
theorem f_X8_165_34 : xF RX8 165 34 3 := ⟨_, "CompiledHouse$Block", rfl, by decide, Or.inr ⟨_, q1808⟩, Or.inl rfl⟩
theorem q2492 : (Jvm.Cond.methodLink "CompiledHouse$Cleaner" (194 : Nat) ({ cls := "CompiledHouse$Cleaner", name := "how", desc := "(J)I" } : Jvm.MethodName)) ∈ lw_all := lw_g (lw_at lw_m10 136 rfl) rfl
abbrev cX8_how : ByteArray := prog_10_method_8_code
def yX8_how : MethodName := ⟨RX8, "how", "(J)I"⟩
theorem q2495 : (Jvm.Cond.code ({ cls := "CompiledHouse$Cleaner", name := "how", desc := "(J)I" } : Jvm.MethodName) prog_10_method_8_code (4 : Nat) (Option.some Jvm.ClassFile.FieldType.int)) ∈ lw_all := lw_g (lw_at lw_m10 139 rfl) rfl
def kX8_how : xK := (yX8_how, cX8_how, 4, some .int, [])
theorem me_X8_how : xMe kX8_how 1 := ⟨q2495, q211, by decide, by decide, by decide +kernel⟩
theorem q2494 : (Jvm.Cond.instanceMethod ({ cls := "CompiledHouse$Cleaner", name := "how", desc := "(J)I" } : Jvm.MethodName)) ∈ lw_all := lw_g (lw_at lw_m10 138 rfl) rfl
theorem is_X8_how : Cond.instanceMethod kX8_how.y ∈ lw_all := q2494
theorem se_X8_how : Cond.selects RX8 kX8_how.y kX8_how.y ∈ lw_all := qs57
theorem lk_X8_194 : xLk RX8 194 yX8_how := Or.inl q2492
theorem q1811 : (Jvm.Cond.fieldLinkNest "CompiledHouse$Cleaner" (169 : Nat) "CompiledHouse$Block" "b" "J" "CompiledHouse") ∈ lw_tbl := lw_at lw_m7 175 rfl
theorem f_X8_169_34 : xF RX8 169 34 4 := ⟨_, "CompiledHouse$Block", rfl, by decide, Or.inr ⟨_, q1811⟩, Or.inl rfl⟩
theorem q1803 : (Jvm.Cond.fieldLinkNest "CompiledHouse$Cleaner" (162 : Nat) "CompiledHouse$Block" "act" "I" "CompiledHouse") ∈ lw_tbl := lw_at lw_m7 167 rfl
theorem f_X8_162_34 : xF RX8 162 34 2 := ⟨_, "CompiledHouse$Block", rfl, by decide, Or.inr ⟨_, q1803⟩, Or.inl rfl⟩
theorem q2497 : (Jvm.Cond.methodLink "CompiledHouse$Cleaner" (198 : Nat) ({ cls := "CompiledHouse$Cleaner", name := "what", desc := "(J)I" } : Jvm.MethodName)) ∈ lw_all := lw_g (lw_at lw_m10 141 rfl) rfl
abbrev cX8_what : ByteArray := prog_10_method_9_code
def yX8_what : MethodName := ⟨RX8, "what", "(J)I"⟩
theorem q2500 : (Jvm.Cond.code ({ cls := "CompiledHouse$Cleaner", name := "what", desc := "(J)I" } : Jvm.MethodName) prog_10_method_9_code (4 : Nat) (Option.some Jvm.ClassFile.FieldType.int)) ∈ lw_all := lw_g (lw_at lw_m10 144 rfl) rfl
def kX8_what : xK := (yX8_what, cX8_what, 4, some .int, [])
theorem me_X8_what : xMe kX8_what 1 := ⟨q2500, q211, by decide, by decide, by decide +kernel⟩
theorem q2499 : (Jvm.Cond.instanceMethod ({ cls := "CompiledHouse$Cleaner", name := "what", desc := "(J)I" } : Jvm.MethodName)) ∈ lw_all := lw_g (lw_at lw_m10 143 rfl) rfl
theorem is_X8_what : Cond.instanceMethod kX8_what.y ∈ lw_all := q2499
theorem se_X8_what : Cond.selects RX8 kX8_what.y kX8_what.y ∈ lw_all := qs58
theorem lk_X8_198 : xLk RX8 198 yX8_what := Or.inl q2497
theorem q2504 : (Jvm.Cond.methodLinkNest "CompiledHouse$Cleaner" (201 : Nat) ({ cls := "CompiledHouse", name := "done", desc := "(III)I" } : Jvm.MethodName) "CompiledHouse") ∈ lw_tbl := lw_at lw_m10 148 rfl
theorem lk_X8_201 : xLk RX8 201 yX0_done := Or.inr ⟨_, q2504⟩
theorem dX8_init_0 : decode cX8_init 0 = .ok (.aload_n 0, 1) := by decide +kernel
theorem dX8_init_1 : decode cX8_init 1 = .ok (.invokespecial 3, 3) := by decide +kernel
theorem dX8_init_4 : decode cX8_init 4 = .ok (.aload_n 0, 1) := by decide +kernel
theorem dX8_init_5 : decode cX8_init 5 = .ok (.bipush 64, 2) := by decide +kernel
theorem dX8_init_7 : decode cX8_init 7 = .ok (.newarray .int, 2) := by decide +kernel
theorem dX8_init_9 : decode cX8_init 9 = .ok (.putfield 9, 3) := by decide +kernel
theorem dX8_init_12 : decode cX8_init 12 = .ok (.aload_n 0, 1) := by decide +kernel
theorem dX8_init_13 : decode cX8_init 13 = .ok (.new 15, 3) := by decide +kernel
theorem dX8_init_16 : decode cX8_init 16 = .ok (.dup, 1) := by decide +kernel
theorem dX8_init_17 : decode cX8_init 17 = .ok (.invokespecial 17, 3) := by decide +kernel
theorem dX8_init_20 : decode cX8_init 20 = .ok (.putfield 18, 3) := by decide +kernel
theorem dX8_init_23 : decode cX8_init 23 = .ok (.aload_n 0, 1) := by decide +kernel
theorem dX8_init_24 : decode cX8_init 24 = .ok (.bipush 64, 2) := by decide +kernel
theorem dX8_init_26 : decode cX8_init 26 = .ok (.newarray .int, 2) := by decide +kernel
theorem dX8_init_28 : decode cX8_init 28 = .ok (.putfield 22, 3) := by decide +kernel
theorem dX8_init_31 : decode cX8_init 31 = .ok (.aload_n 0, 1) := by decide +kernel
theorem dX8_init_32 : decode cX8_init 32 = .ok (.bipush 64, 2) := by decide +kernel
theorem dX8_init_34 : decode cX8_init 34 = .ok (.newarray .int, 2) := by decide +kernel
theorem dX8_init_36 : decode cX8_init 36 = .ok (.putfield 25, 3) := by decide +kernel
theorem dX8_init_39 : decode cX8_init 39 = .ok (.aload_n 0, 1) := by decide +kernel
theorem dX8_init_40 : decode cX8_init 40 = .ok (.bipush 64, 2) := by decide +kernel
theorem dX8_init_42 : decode cX8_init 42 = .ok (.newarray .int, 2) := by decide +kernel
theorem dX8_init_44 : decode cX8_init 44 = .ok (.putfield 28, 3) := by decide +kernel
theorem dX8_init_47 : decode cX8_init 47 = .ok (.aload_n 0, 1) := by decide +kernel
theorem dX8_init_48 : decode cX8_init 48 = .ok (.bipush 64, 2) := by decide +kernel
theorem dX8_init_50 : decode cX8_init 50 = .ok (.newarray .int, 2) := by decide +kernel
theorem dX8_init_52 : decode cX8_init 52 = .ok (.putfield 31, 3) := by decide +kernel
theorem dX8_init_55 : decode cX8_init 55 = .ok (.aload_n 0, 1) := by decide +kernel
theorem dX8_init_56 : decode cX8_init 56 = .ok (.bipush 64, 2) := by decide +kernel
theorem dX8_init_58 : decode cX8_init 58 = .ok (.newarray .int, 2) := by decide +kernel
theorem dX8_init_60 : decode cX8_init 60 = .ok (.putfield 34, 3) := by decide +kernel
theorem dX8_init_63 : decode cX8_init 63 = .ok (.aload_n 0, 1) := by decide +kernel
theorem dX8_init_64 : decode cX8_init 64 = .ok (.bipush 64, 2) := by decide +kernel
theorem dX8_init_66 : decode cX8_init 66 = .ok (.newarray .int, 2) := by decide +kernel
theorem dX8_init_68 : decode cX8_init 68 = .ok (.putfield 37, 3) := by decide +kernel
theorem dX8_init_71 : decode cX8_init 71 = .ok (.aload_n 0, 1) := by decide +kernel
theorem dX8_init_72 : decode cX8_init 72 = .ok (.bipush 64, 2) := by decide +kernel
theorem dX8_init_74 : decode cX8_init 74 = .ok (.newarray .int, 2) := by decide +kernel
theorem dX8_init_76 : decode cX8_init 76 = .ok (.putfield 40, 3) := by decide +kernel
theorem dX8_init_79 : decode cX8_init 79 = .ok (.aload_n 0, 1) := by decide +kernel
theorem dX8_init_80 : decode cX8_init 80 = .ok (.bipush 64, 2) := by decide +kernel
theorem dX8_init_82 : decode cX8_init 82 = .ok (.newarray .int, 2) := by decide +kernel
theorem dX8_init_84 : decode cX8_init 84 = .ok (.putfield 43, 3) := by decide +kernel
theorem dX8_init_87 : decode cX8_init 87 = .ok (.aload_n 0, 1) := by decide +kernel
theorem dX8_init_88 : decode cX8_init 88 = .ok (.bipush 64, 2) := by decide +kernel
theorem dX8_init_90 : decode cX8_init 90 = .ok (.newarray .int, 2) := by decide +kernel
theorem dX8_init_92 : decode cX8_init 92 = .ok (.putfield 46, 3) := by decide +kernel
theorem dX8_init_95 : decode cX8_init 95 = .ok (.aload_n 0, 1) := by decide +kernel
theorem dX8_init_96 : decode cX8_init 96 = .ok (.iconst 0, 1) := by decide +kernel
theorem dX8_init_97 : decode cX8_init 97 = .ok (.newarray .int, 2) := by decide +kernel
theorem dX8_init_99 : decode cX8_init 99 = .ok (.putfield 49, 3) := by decide +kernel
theorem dX8_init_102 : decode cX8_init 102 = .ok (.aload_n 0, 1) := by decide +kernel
theorem dX8_init_103 : decode cX8_init 103 = .ok (.aload_n 1, 1) := by decide +kernel
theorem dX8_init_104 : decode cX8_init 104 = .ok (.putfield 52, 3) := by decide +kernel
theorem dX8_init_107 : decode cX8_init 107 = .ok (.return_, 1) := by decide +kernel
theorem dX8_clean_0 : decode cX8_clean 0 = .ok (.aload_n 0, 1) := by decide +kernel
theorem dX8_clean_1 : decode cX8_clean 1 = .ok (.aload_n 1, 1) := by decide +kernel
theorem dX8_clean_2 : decode cX8_clean 2 = .ok (.putfield 56, 3) := by decide +kernel
theorem dX8_clean_5 : decode cX8_clean 5 = .ok (.aload_n 0, 1) := by decide +kernel
theorem dX8_clean_6 : decode cX8_clean 6 = .ok (.aload_n 0, 1) := by decide +kernel
theorem dX8_clean_7 : decode cX8_clean 7 = .ok (.getfield 9, 3) := by decide +kernel
theorem dX8_clean_10 : decode cX8_clean 10 = .ok (.aload_n 1, 1) := by decide +kernel
theorem dX8_clean_11 : decode cX8_clean 11 = .ok (.getfield 60, 3) := by decide +kernel
theorem dX8_clean_14 : decode cX8_clean 14 = .ok (.invokestatic 66, 3) := by decide +kernel
theorem dX8_clean_17 : decode cX8_clean 17 = .ok (.putfield 9, 3) := by decide +kernel
theorem dX8_clean_20 : decode cX8_clean 20 = .ok (.iconst 0, 1) := by decide +kernel
theorem dX8_clean_21 : decode cX8_clean 21 = .ok (.istore_n 2, 1) := by decide +kernel
theorem dX8_clean_22 : decode cX8_clean 22 = .ok (.iload_n 2, 1) := by decide +kernel
theorem dX8_clean_23 : decode cX8_clean 23 = .ok (.aload_n 1, 1) := by decide +kernel
theorem dX8_clean_24 : decode cX8_clean 24 = .ok (.getfield 60, 3) := by decide +kernel
theorem dX8_clean_27 : decode cX8_clean 27 = .ok (.if_icmp .ge 16, 3) := by decide +kernel
theorem dX8_clean_30 : decode cX8_clean 30 = .ok (.aload_n 0, 1) := by decide +kernel
theorem dX8_clean_31 : decode cX8_clean 31 = .ok (.getfield 9, 3) := by decide +kernel
theorem dX8_clean_34 : decode cX8_clean 34 = .ok (.iload_n 2, 1) := by decide +kernel
theorem dX8_clean_35 : decode cX8_clean 35 = .ok (.iconst (-1), 1) := by decide +kernel
theorem dX8_clean_36 : decode cX8_clean 36 = .ok (.iastore, 1) := by decide +kernel
theorem dX8_clean_37 : decode cX8_clean 37 = .ok (.iinc 2 1, 3) := by decide +kernel
theorem dX8_clean_40 : decode cX8_clean 40 = .ok (.goto (-18), 3) := by decide +kernel
theorem dX8_clean_43 : decode cX8_clean 43 = .ok (.iconst 0, 1) := by decide +kernel
theorem dX8_clean_44 : decode cX8_clean 44 = .ok (.istore_n 2, 1) := by decide +kernel
theorem dX8_clean_45 : decode cX8_clean 45 = .ok (.iload_n 2, 1) := by decide +kernel
theorem dX8_clean_46 : decode cX8_clean 46 = .ok (.aload_n 1, 1) := by decide +kernel
theorem dX8_clean_47 : decode cX8_clean 47 = .ok (.getfield 70, 3) := by decide +kernel
theorem dX8_clean_50 : decode cX8_clean 50 = .ok (.invokevirtual 73, 3) := by decide +kernel
theorem dX8_clean_53 : decode cX8_clean 53 = .ok (.if_icmp .ge 29, 3) := by decide +kernel
theorem dX8_clean_56 : decode cX8_clean 56 = .ok (.aload_n 0, 1) := by decide +kernel
theorem dX8_clean_57 : decode cX8_clean 57 = .ok (.getfield 9, 3) := by decide +kernel
theorem dX8_clean_60 : decode cX8_clean 60 = .ok (.aload_n 1, 1) := by decide +kernel
theorem dX8_clean_61 : decode cX8_clean 61 = .ok (.getfield 70, 3) := by decide +kernel
theorem dX8_clean_64 : decode cX8_clean 64 = .ok (.iload_n 2, 1) := by decide +kernel
theorem dX8_clean_65 : decode cX8_clean 65 = .ok (.invokevirtual 77, 3) := by decide +kernel
theorem dX8_clean_68 : decode cX8_clean 68 = .ok (.checkcast 81, 3) := by decide +kernel
theorem dX8_clean_71 : decode cX8_clean 71 = .ok (.invokevirtual 83, 3) := by decide +kernel
theorem dX8_clean_74 : decode cX8_clean 74 = .ok (.iload_n 2, 1) := by decide +kernel
theorem dX8_clean_75 : decode cX8_clean 75 = .ok (.iastore, 1) := by decide +kernel
theorem dX8_clean_76 : decode cX8_clean 76 = .ok (.iinc 2 1, 3) := by decide +kernel
theorem dX8_clean_79 : decode cX8_clean 79 = .ok (.goto (-34), 3) := by decide +kernel
theorem dX8_clean_82 : decode cX8_clean 82 = .ok (.iconst 0, 1) := by decide +kernel
theorem dX8_clean_83 : decode cX8_clean 83 = .ok (.istore_n 2, 1) := by decide +kernel
theorem dX8_clean_84 : decode cX8_clean 84 = .ok (.iload_n 2, 1) := by decide +kernel
theorem dX8_clean_85 : decode cX8_clean 85 = .ok (.iconst 2, 1) := by decide +kernel
theorem dX8_clean_86 : decode cX8_clean 86 = .ok (.if_icmp .ge 37, 3) := by decide +kernel
theorem dX8_clean_89 : decode cX8_clean 89 = .ok (.aload_n 0, 1) := by decide +kernel
theorem dX8_clean_90 : decode cX8_clean 90 = .ok (.invokevirtual 86, 3) := by decide +kernel
theorem dX8_clean_93 : decode cX8_clean 93 = .ok (.aload_n 0, 1) := by decide +kernel
theorem dX8_clean_94 : decode cX8_clean 94 = .ok (.invokevirtual 89, 3) := by decide +kernel
theorem dX8_clean_97 : decode cX8_clean 97 = .ok (.aload_n 0, 1) := by decide +kernel
theorem dX8_clean_98 : decode cX8_clean 98 = .ok (.invokevirtual 92, 3) := by decide +kernel
theorem dX8_clean_101 : decode cX8_clean 101 = .ok (.aload_n 0, 1) := by decide +kernel
theorem dX8_clean_102 : decode cX8_clean 102 = .ok (.invokevirtual 86, 3) := by decide +kernel
theorem dX8_clean_105 : decode cX8_clean 105 = .ok (.aload_n 0, 1) := by decide +kernel
theorem dX8_clean_106 : decode cX8_clean 106 = .ok (.invokevirtual 95, 3) := by decide +kernel
theorem dX8_clean_109 : decode cX8_clean 109 = .ok (.aload_n 0, 1) := by decide +kernel
theorem dX8_clean_110 : decode cX8_clean 110 = .ok (.invokevirtual 86, 3) := by decide +kernel
theorem dX8_clean_113 : decode cX8_clean 113 = .ok (.aload_n 0, 1) := by decide +kernel
theorem dX8_clean_114 : decode cX8_clean 114 = .ok (.invokevirtual 98, 3) := by decide +kernel
theorem dX8_clean_117 : decode cX8_clean 117 = .ok (.iinc 2 1, 3) := by decide +kernel
theorem dX8_clean_120 : decode cX8_clean 120 = .ok (.goto (-36), 3) := by decide +kernel
theorem dX8_clean_123 : decode cX8_clean 123 = .ok (.return_, 1) := by decide +kernel
theorem dX8_reach_0 : decode cX8_reach 0 = .ok (.iconst 0, 1) := by decide +kernel
theorem dX8_reach_1 : decode cX8_reach 1 = .ok (.istore_n 1, 1) := by decide +kernel
theorem dX8_reach_2 : decode cX8_reach 2 = .ok (.iload_n 1, 1) := by decide +kernel
theorem dX8_reach_3 : decode cX8_reach 3 = .ok (.aload_n 0, 1) := by decide +kernel
theorem dX8_reach_4 : decode cX8_reach 4 = .ok (.getfield 56, 3) := by decide +kernel
theorem dX8_reach_7 : decode cX8_reach 7 = .ok (.getfield 101, 3) := by decide +kernel
theorem dX8_reach_10 : decode cX8_reach 10 = .ok (.invokevirtual 73, 3) := by decide +kernel
theorem dX8_reach_13 : decode cX8_reach 13 = .ok (.if_icmp .ge 45, 3) := by decide +kernel
theorem dX8_reach_16 : decode cX8_reach 16 = .ok (.aload_n 0, 1) := by decide +kernel
theorem dX8_reach_17 : decode cX8_reach 17 = .ok (.getfield 56, 3) := by decide +kernel
theorem dX8_reach_20 : decode cX8_reach 20 = .ok (.getfield 101, 3) := by decide +kernel
theorem dX8_reach_23 : decode cX8_reach 23 = .ok (.iload_n 1, 1) := by decide +kernel
theorem dX8_reach_24 : decode cX8_reach 24 = .ok (.invokevirtual 77, 3) := by decide +kernel
theorem dX8_reach_27 : decode cX8_reach 27 = .ok (.checkcast 104, 3) := by decide +kernel
theorem dX8_reach_30 : decode cX8_reach 30 = .ok (.iconst 0, 1) := by decide +kernel
theorem dX8_reach_31 : decode cX8_reach 31 = .ok (.putfield 106, 3) := by decide +kernel
theorem dX8_reach_34 : decode cX8_reach 34 = .ok (.aload_n 0, 1) := by decide +kernel
theorem dX8_reach_35 : decode cX8_reach 35 = .ok (.getfield 56, 3) := by decide +kernel
theorem dX8_reach_38 : decode cX8_reach 38 = .ok (.getfield 101, 3) := by decide +kernel
theorem dX8_reach_41 : decode cX8_reach 41 = .ok (.iload_n 1, 1) := by decide +kernel
theorem dX8_reach_42 : decode cX8_reach 42 = .ok (.invokevirtual 77, 3) := by decide +kernel
theorem dX8_reach_45 : decode cX8_reach 45 = .ok (.checkcast 104, 3) := by decide +kernel
theorem dX8_reach_48 : decode cX8_reach 48 = .ok (.iconst 0, 1) := by decide +kernel
theorem dX8_reach_49 : decode cX8_reach 49 = .ok (.putfield 110, 3) := by decide +kernel
theorem dX8_reach_52 : decode cX8_reach 52 = .ok (.iinc 1 1, 3) := by decide +kernel
theorem dX8_reach_55 : decode cX8_reach 55 = .ok (.goto (-53), 3) := by decide +kernel
theorem dX8_reach_58 : decode cX8_reach 58 = .ok (.aload_n 0, 1) := by decide +kernel
theorem dX8_reach_59 : decode cX8_reach 59 = .ok (.aload_n 0, 1) := by decide +kernel
theorem dX8_reach_60 : decode cX8_reach 60 = .ok (.getfield 56, 3) := by decide +kernel
theorem dX8_reach_63 : decode cX8_reach 63 = .ok (.getfield 101, 3) := by decide +kernel
theorem dX8_reach_66 : decode cX8_reach 66 = .ok (.iconst 0, 1) := by decide +kernel
theorem dX8_reach_67 : decode cX8_reach 67 = .ok (.invokevirtual 77, 3) := by decide +kernel
theorem dX8_reach_70 : decode cX8_reach 70 = .ok (.checkcast 104, 3) := by decide +kernel
theorem dX8_reach_73 : decode cX8_reach 73 = .ok (.invokevirtual 113, 3) := by decide +kernel
theorem dX8_reach_76 : decode cX8_reach 76 = .ok (.aload_n 0, 1) := by decide +kernel
theorem dX8_reach_77 : decode cX8_reach 77 = .ok (.getfield 18, 3) := by decide +kernel
theorem dX8_reach_80 : decode cX8_reach 80 = .ok (.invokevirtual 117, 3) := by decide +kernel
theorem dX8_reach_83 : decode cX8_reach 83 = .ok (.ifCond .ne 102, 3) := by decide +kernel
theorem dX8_reach_86 : decode cX8_reach 86 = .ok (.aload_n 0, 1) := by decide +kernel
theorem dX8_reach_87 : decode cX8_reach 87 = .ok (.getfield 18, 3) := by decide +kernel
theorem dX8_reach_90 : decode cX8_reach 90 = .ok (.aload_n 0, 1) := by decide +kernel
theorem dX8_reach_91 : decode cX8_reach 91 = .ok (.getfield 18, 3) := by decide +kernel
theorem dX8_reach_94 : decode cX8_reach 94 = .ok (.invokevirtual 73, 3) := by decide +kernel
theorem dX8_reach_97 : decode cX8_reach 97 = .ok (.iconst 1, 1) := by decide +kernel
theorem dX8_reach_98 : decode cX8_reach 98 = .ok (.isub, 1) := by decide +kernel
theorem dX8_reach_99 : decode cX8_reach 99 = .ok (.invokevirtual 121, 3) := by decide +kernel
theorem dX8_reach_102 : decode cX8_reach 102 = .ok (.checkcast 104, 3) := by decide +kernel
theorem dX8_reach_105 : decode cX8_reach 105 = .ok (.astore_n 1, 1) := by decide +kernel
theorem dX8_reach_106 : decode cX8_reach 106 = .ok (.aload_n 1, 1) := by decide +kernel
theorem dX8_reach_107 : decode cX8_reach 107 = .ok (.getfield 124, 3) := by decide +kernel
theorem dX8_reach_110 : decode cX8_reach 110 = .ok (.iconst 2, 1) := by decide +kernel
theorem dX8_reach_111 : decode cX8_reach 111 = .ok (.if_icmp .ne 19, 3) := by decide +kernel
theorem dX8_reach_114 : decode cX8_reach 114 = .ok (.aload_n 1, 1) := by decide +kernel
theorem dX8_reach_115 : decode cX8_reach 115 = .ok (.getfield 127, 3) := by decide +kernel
theorem dX8_reach_118 : decode cX8_reach 118 = .ok (.aload_n 1, 1) := by decide +kernel
theorem dX8_reach_119 : decode cX8_reach 119 = .ok (.getfield 131, 3) := by decide +kernel
theorem dX8_reach_122 : decode cX8_reach 122 = .ok (.if_acmp .ne 8, 3) := by decide +kernel
theorem dX8_reach_125 : decode cX8_reach 125 = .ok (.aload_n 1, 1) := by decide +kernel
theorem dX8_reach_126 : decode cX8_reach 126 = .ok (.iconst 1, 1) := by decide +kernel
theorem dX8_reach_127 : decode cX8_reach 127 = .ok (.invokevirtual 134, 3) := by decide +kernel
theorem dX8_reach_130 : decode cX8_reach 130 = .ok (.aload_n 1, 1) := by decide +kernel
theorem dX8_reach_131 : decode cX8_reach 131 = .ok (.getfield 127, 3) := by decide +kernel
theorem dX8_reach_134 : decode cX8_reach 134 = .ok (.ifnull 22, 3) := by decide +kernel
theorem dX8_reach_137 : decode cX8_reach 137 = .ok (.aload_n 1, 1) := by decide +kernel
theorem dX8_reach_138 : decode cX8_reach 138 = .ok (.aload_n 1, 1) := by decide +kernel
theorem dX8_reach_139 : decode cX8_reach 139 = .ok (.getfield 127, 3) := by decide +kernel
theorem dX8_reach_142 : decode cX8_reach 142 = .ok (.invokestatic 138, 3) := by decide +kernel
theorem dX8_reach_145 : decode cX8_reach 145 = .ok (.putfield 127, 3) := by decide +kernel
theorem dX8_reach_148 : decode cX8_reach 148 = .ok (.aload_n 0, 1) := by decide +kernel
theorem dX8_reach_149 : decode cX8_reach 149 = .ok (.aload_n 1, 1) := by decide +kernel
theorem dX8_reach_150 : decode cX8_reach 150 = .ok (.getfield 127, 3) := by decide +kernel
theorem dX8_reach_153 : decode cX8_reach 153 = .ok (.invokevirtual 113, 3) := by decide +kernel
theorem dX8_reach_156 : decode cX8_reach 156 = .ok (.aload_n 1, 1) := by decide +kernel
theorem dX8_reach_157 : decode cX8_reach 157 = .ok (.getfield 131, 3) := by decide +kernel
theorem dX8_reach_160 : decode cX8_reach 160 = .ok (.ifnull 22, 3) := by decide +kernel
theorem dX8_reach_163 : decode cX8_reach 163 = .ok (.aload_n 1, 1) := by decide +kernel
theorem dX8_reach_164 : decode cX8_reach 164 = .ok (.aload_n 1, 1) := by decide +kernel
theorem dX8_reach_165 : decode cX8_reach 165 = .ok (.getfield 131, 3) := by decide +kernel
theorem dX8_reach_168 : decode cX8_reach 168 = .ok (.invokestatic 138, 3) := by decide +kernel
theorem dX8_reach_171 : decode cX8_reach 171 = .ok (.putfield 131, 3) := by decide +kernel
theorem dX8_reach_174 : decode cX8_reach 174 = .ok (.aload_n 0, 1) := by decide +kernel
theorem dX8_reach_175 : decode cX8_reach 175 = .ok (.aload_n 1, 1) := by decide +kernel
theorem dX8_reach_176 : decode cX8_reach 176 = .ok (.getfield 131, 3) := by decide +kernel
theorem dX8_reach_179 : decode cX8_reach 179 = .ok (.invokevirtual 113, 3) := by decide +kernel
theorem dX8_reach_182 : decode cX8_reach 182 = .ok (.goto (-106), 3) := by decide +kernel
theorem dX8_reach_185 : decode cX8_reach 185 = .ok (.iconst 0, 1) := by decide +kernel
theorem dX8_reach_186 : decode cX8_reach 186 = .ok (.istore_n 1, 1) := by decide +kernel
theorem dX8_reach_187 : decode cX8_reach 187 = .ok (.iconst 0, 1) := by decide +kernel
theorem dX8_reach_188 : decode cX8_reach 188 = .ok (.istore_n 2, 1) := by decide +kernel
theorem dX8_reach_189 : decode cX8_reach 189 = .ok (.iload_n 2, 1) := by decide +kernel
theorem dX8_reach_190 : decode cX8_reach 190 = .ok (.aload_n 0, 1) := by decide +kernel
theorem dX8_reach_191 : decode cX8_reach 191 = .ok (.getfield 56, 3) := by decide +kernel
theorem dX8_reach_194 : decode cX8_reach 194 = .ok (.getfield 101, 3) := by decide +kernel
theorem dX8_reach_197 : decode cX8_reach 197 = .ok (.invokevirtual 73, 3) := by decide +kernel
theorem dX8_reach_200 : decode cX8_reach 200 = .ok (.if_icmp .ge 55, 3) := by decide +kernel
theorem dX8_reach_203 : decode cX8_reach 203 = .ok (.aload_n 0, 1) := by decide +kernel
theorem dX8_reach_204 : decode cX8_reach 204 = .ok (.getfield 56, 3) := by decide +kernel
theorem dX8_reach_207 : decode cX8_reach 207 = .ok (.getfield 101, 3) := by decide +kernel
theorem dX8_reach_210 : decode cX8_reach 210 = .ok (.iload_n 2, 1) := by decide +kernel
theorem dX8_reach_211 : decode cX8_reach 211 = .ok (.invokevirtual 77, 3) := by decide +kernel
theorem dX8_reach_214 : decode cX8_reach 214 = .ok (.checkcast 104, 3) := by decide +kernel
theorem dX8_reach_217 : decode cX8_reach 217 = .ok (.astore_n 3, 1) := by decide +kernel
theorem dX8_reach_218 : decode cX8_reach 218 = .ok (.aload_n 3, 1) := by decide +kernel
theorem dX8_reach_219 : decode cX8_reach 219 = .ok (.getfield 106, 3) := by decide +kernel
theorem dX8_reach_222 : decode cX8_reach 222 = .ok (.ifCond .ne 6, 3) := by decide +kernel
theorem dX8_reach_225 : decode cX8_reach 225 = .ok (.goto 24, 3) := by decide +kernel
theorem dX8_reach_228 : decode cX8_reach 228 = .ok (.aload_n 3, 1) := by decide +kernel
theorem dX8_reach_229 : decode cX8_reach 229 = .ok (.iload_n 1, 1) := by decide +kernel
theorem dX8_reach_230 : decode cX8_reach 230 = .ok (.putfield 142, 3) := by decide +kernel
theorem dX8_reach_233 : decode cX8_reach 233 = .ok (.aload_n 0, 1) := by decide +kernel
theorem dX8_reach_234 : decode cX8_reach 234 = .ok (.getfield 56, 3) := by decide +kernel
theorem dX8_reach_237 : decode cX8_reach 237 = .ok (.getfield 101, 3) := by decide +kernel
theorem dX8_reach_240 : decode cX8_reach 240 = .ok (.iload_n 1, 1) := by decide +kernel
theorem dX8_reach_241 : decode cX8_reach 241 = .ok (.aload_n 3, 1) := by decide +kernel
theorem dX8_reach_242 : decode cX8_reach 242 = .ok (.invokevirtual 145, 3) := by decide +kernel
theorem dX8_reach_245 : decode cX8_reach 245 = .ok (.pop, 1) := by decide +kernel
theorem dX8_reach_246 : decode cX8_reach 246 = .ok (.iinc 1 1, 3) := by decide +kernel
theorem dX8_reach_249 : decode cX8_reach 249 = .ok (.iinc 2 1, 3) := by decide +kernel
theorem dX8_reach_252 : decode cX8_reach 252 = .ok (.goto (-63), 3) := by decide +kernel
theorem dX8_reach_255 : decode cX8_reach 255 = .ok (.aload_n 0, 1) := by decide +kernel
theorem dX8_reach_256 : decode cX8_reach 256 = .ok (.getfield 56, 3) := by decide +kernel
theorem dX8_reach_259 : decode cX8_reach 259 = .ok (.getfield 101, 3) := by decide +kernel
theorem dX8_reach_262 : decode cX8_reach 262 = .ok (.iload_n 1, 1) := by decide +kernel
theorem dX8_reach_263 : decode cX8_reach 263 = .ok (.invokestatic 149, 3) := by decide +kernel
theorem dX8_reach_266 : decode cX8_reach 266 = .ok (.return_, 1) := by decide +kernel
theorem dX8_come_0 : decode cX8_come 0 = .ok (.aload_n 1, 1) := by decide +kernel
theorem dX8_come_1 : decode cX8_come 1 = .ok (.dup, 1) := by decide +kernel
theorem dX8_come_2 : decode cX8_come 2 = .ok (.getfield 110, 3) := by decide +kernel
theorem dX8_come_5 : decode cX8_come 5 = .ok (.iconst 1, 1) := by decide +kernel
theorem dX8_come_6 : decode cX8_come 6 = .ok (.iadd, 1) := by decide +kernel
theorem dX8_come_7 : decode cX8_come 7 = .ok (.putfield 110, 3) := by decide +kernel
theorem dX8_come_10 : decode cX8_come 10 = .ok (.aload_n 1, 1) := by decide +kernel
theorem dX8_come_11 : decode cX8_come 11 = .ok (.getfield 106, 3) := by decide +kernel
theorem dX8_come_14 : decode cX8_come 14 = .ok (.ifCond .eq 4, 3) := by decide +kernel
theorem dX8_come_17 : decode cX8_come 17 = .ok (.return_, 1) := by decide +kernel
theorem dX8_come_18 : decode cX8_come 18 = .ok (.aload_n 1, 1) := by decide +kernel
theorem dX8_come_19 : decode cX8_come 19 = .ok (.iconst 1, 1) := by decide +kernel
theorem dX8_come_20 : decode cX8_come 20 = .ok (.putfield 106, 3) := by decide +kernel
theorem dX8_come_23 : decode cX8_come 23 = .ok (.aload_n 0, 1) := by decide +kernel
theorem dX8_come_24 : decode cX8_come 24 = .ok (.getfield 18, 3) := by decide +kernel
theorem dX8_come_27 : decode cX8_come 27 = .ok (.aload_n 1, 1) := by decide +kernel
theorem dX8_come_28 : decode cX8_come 28 = .ok (.invokevirtual 156, 3) := by decide +kernel
theorem dX8_come_31 : decode cX8_come 31 = .ok (.pop, 1) := by decide +kernel
theorem dX8_come_32 : decode cX8_come 32 = .ok (.return_, 1) := by decide +kernel
theorem dX8_through_0 : decode cX8_through 0 = .ok (.aload_n 0, 1) := by decide +kernel
theorem dX8_through_1 : decode cX8_through 1 = .ok (.astore_n 1, 1) := by decide +kernel
theorem dX8_through_2 : decode cX8_through 2 = .ok (.sipush 5000, 3) := by decide +kernel
theorem dX8_through_5 : decode cX8_through 5 = .ok (.istore_n 2, 1) := by decide +kernel
theorem dX8_through_6 : decode cX8_through 6 = .ok (.aload_n 1, 1) := by decide +kernel
theorem dX8_through_7 : decode cX8_through 7 = .ok (.getfield 153, 3) := by decide +kernel
theorem dX8_through_10 : decode cX8_through 10 = .ok (.invokevirtual 117, 3) := by decide +kernel
theorem dX8_through_13 : decode cX8_through 13 = .ok (.ifCond .eq 34, 3) := by decide +kernel
theorem dX8_through_16 : decode cX8_through 16 = .ok (.aload_n 1, 1) := by decide +kernel
theorem dX8_through_17 : decode cX8_through 17 = .ok (.getfield 124, 3) := by decide +kernel
theorem dX8_through_20 : decode cX8_through 20 = .ok (.iconst 1, 1) := by decide +kernel
theorem dX8_through_21 : decode cX8_through 21 = .ok (.if_icmp .ne 26, 3) := by decide +kernel
theorem dX8_through_24 : decode cX8_through 24 = .ok (.aload_n 1, 1) := by decide +kernel
theorem dX8_through_25 : decode cX8_through 25 = .ok (.getfield 127, 3) := by decide +kernel
theorem dX8_through_28 : decode cX8_through 28 = .ok (.aload_n 1, 1) := by decide +kernel
theorem dX8_through_29 : decode cX8_through 29 = .ok (.if_acmp .eq 18, 3) := by decide +kernel
theorem dX8_through_32 : decode cX8_through 32 = .ok (.iload_n 2, 1) := by decide +kernel
theorem dX8_through_33 : decode cX8_through 33 = .ok (.ifCond .le 14, 3) := by decide +kernel
theorem dX8_through_36 : decode cX8_through 36 = .ok (.aload_n 1, 1) := by decide +kernel
theorem dX8_through_37 : decode cX8_through 37 = .ok (.getfield 127, 3) := by decide +kernel
theorem dX8_through_40 : decode cX8_through 40 = .ok (.astore_n 1, 1) := by decide +kernel
theorem dX8_through_41 : decode cX8_through 41 = .ok (.iinc 2 (-1), 3) := by decide +kernel
theorem dX8_through_44 : decode cX8_through 44 = .ok (.goto (-38), 3) := by decide +kernel
theorem dX8_through_47 : decode cX8_through 47 = .ok (.aload_n 1, 1) := by decide +kernel
theorem dX8_through_48 : decode cX8_through 48 = .ok (.areturn, 1) := by decide +kernel
theorem dX8_propagate_0 : decode cX8_propagate 0 = .ok (.aload_n 0, 1) := by decide +kernel
theorem dX8_propagate_1 : decode cX8_propagate 1 = .ok (.aload_n 0, 1) := by decide +kernel
theorem dX8_propagate_2 : decode cX8_propagate 2 = .ok (.getfield 56, 3) := by decide +kernel
theorem dX8_propagate_5 : decode cX8_propagate 5 = .ok (.getfield 70, 3) := by decide +kernel
theorem dX8_propagate_8 : decode cX8_propagate 8 = .ok (.invokevirtual 73, 3) := by decide +kernel
theorem dX8_propagate_11 : decode cX8_propagate 11 = .ok (.putfield 179, 3) := by decide +kernel
theorem dX8_propagate_14 : decode cX8_propagate 14 = .ok (.aload_n 0, 1) := by decide +kernel
theorem dX8_propagate_15 : decode cX8_propagate 15 = .ok (.getfield 179, 3) := by decide +kernel
theorem dX8_propagate_18 : decode cX8_propagate 18 = .ok (.istore_n 1, 1) := by decide +kernel
theorem dX8_propagate_19 : decode cX8_propagate 19 = .ok (.aload_n 0, 1) := by decide +kernel
theorem dX8_propagate_20 : decode cX8_propagate 20 = .ok (.aload_n 0, 1) := by decide +kernel
theorem dX8_propagate_21 : decode cX8_propagate 21 = .ok (.getfield 28, 3) := by decide +kernel
theorem dX8_propagate_24 : decode cX8_propagate 24 = .ok (.iload_n 1, 1) := by decide +kernel
theorem dX8_propagate_25 : decode cX8_propagate 25 = .ok (.invokestatic 66, 3) := by decide +kernel
theorem dX8_propagate_28 : decode cX8_propagate 28 = .ok (.putfield 28, 3) := by decide +kernel
theorem dX8_propagate_31 : decode cX8_propagate 31 = .ok (.aload_n 0, 1) := by decide +kernel
theorem dX8_propagate_32 : decode cX8_propagate 32 = .ok (.aload_n 0, 1) := by decide +kernel
theorem dX8_propagate_33 : decode cX8_propagate 33 = .ok (.getfield 31, 3) := by decide +kernel
theorem dX8_propagate_36 : decode cX8_propagate 36 = .ok (.iload_n 1, 1) := by decide +kernel
theorem dX8_propagate_37 : decode cX8_propagate 37 = .ok (.invokestatic 66, 3) := by decide +kernel
theorem dX8_propagate_40 : decode cX8_propagate 40 = .ok (.putfield 31, 3) := by decide +kernel
theorem dX8_propagate_43 : decode cX8_propagate 43 = .ok (.aload_n 0, 1) := by decide +kernel
theorem dX8_propagate_44 : decode cX8_propagate 44 = .ok (.aload_n 0, 1) := by decide +kernel
theorem dX8_propagate_45 : decode cX8_propagate 45 = .ok (.getfield 22, 3) := by decide +kernel
theorem dX8_propagate_48 : decode cX8_propagate 48 = .ok (.iload_n 1, 1) := by decide +kernel
theorem dX8_propagate_49 : decode cX8_propagate 49 = .ok (.aload_n 0, 1) := by decide +kernel
theorem dX8_propagate_50 : decode cX8_propagate 50 = .ok (.getfield 56, 3) := by decide +kernel
theorem dX8_propagate_53 : decode cX8_propagate 53 = .ok (.getfield 101, 3) := by decide +kernel
theorem dX8_propagate_56 : decode cX8_propagate 56 = .ok (.invokevirtual 73, 3) := by decide +kernel
theorem dX8_propagate_59 : decode cX8_propagate 59 = .ok (.imul, 1) := by decide +kernel
theorem dX8_propagate_60 : decode cX8_propagate 60 = .ok (.invokestatic 66, 3) := by decide +kernel
theorem dX8_propagate_63 : decode cX8_propagate 63 = .ok (.putfield 22, 3) := by decide +kernel
theorem dX8_propagate_66 : decode cX8_propagate 66 = .ok (.aload_n 0, 1) := by decide +kernel
theorem dX8_propagate_67 : decode cX8_propagate 67 = .ok (.aload_n 0, 1) := by decide +kernel
theorem dX8_propagate_68 : decode cX8_propagate 68 = .ok (.getfield 25, 3) := by decide +kernel
theorem dX8_propagate_71 : decode cX8_propagate 71 = .ok (.iload_n 1, 1) := by decide +kernel
theorem dX8_propagate_72 : decode cX8_propagate 72 = .ok (.aload_n 0, 1) := by decide +kernel
theorem dX8_propagate_73 : decode cX8_propagate 73 = .ok (.getfield 56, 3) := by decide +kernel
theorem dX8_propagate_76 : decode cX8_propagate 76 = .ok (.getfield 101, 3) := by decide +kernel
theorem dX8_propagate_79 : decode cX8_propagate 79 = .ok (.invokevirtual 73, 3) := by decide +kernel
theorem dX8_propagate_82 : decode cX8_propagate 82 = .ok (.imul, 1) := by decide +kernel
theorem dX8_propagate_83 : decode cX8_propagate 83 = .ok (.invokestatic 66, 3) := by decide +kernel
theorem dX8_propagate_86 : decode cX8_propagate 86 = .ok (.putfield 25, 3) := by decide +kernel
theorem dX8_propagate_89 : decode cX8_propagate 89 = .ok (.aload_n 0, 1) := by decide +kernel
theorem dX8_propagate_90 : decode cX8_propagate 90 = .ok (.aload_n 0, 1) := by decide +kernel
theorem dX8_propagate_91 : decode cX8_propagate 91 = .ok (.getfield 34, 3) := by decide +kernel
theorem dX8_propagate_94 : decode cX8_propagate 94 = .ok (.aload_n 0, 1) := by decide +kernel
theorem dX8_propagate_95 : decode cX8_propagate 95 = .ok (.getfield 56, 3) := by decide +kernel
theorem dX8_propagate_98 : decode cX8_propagate 98 = .ok (.getfield 60, 3) := by decide +kernel
theorem dX8_propagate_101 : decode cX8_propagate 101 = .ok (.invokestatic 66, 3) := by decide +kernel
theorem dX8_propagate_104 : decode cX8_propagate 104 = .ok (.putfield 34, 3) := by decide +kernel
theorem dX8_propagate_107 : decode cX8_propagate 107 = .ok (.aload_n 0, 1) := by decide +kernel
theorem dX8_propagate_108 : decode cX8_propagate 108 = .ok (.aload_n 0, 1) := by decide +kernel
theorem dX8_propagate_109 : decode cX8_propagate 109 = .ok (.getfield 37, 3) := by decide +kernel
theorem dX8_propagate_112 : decode cX8_propagate 112 = .ok (.aload_n 0, 1) := by decide +kernel
theorem dX8_propagate_113 : decode cX8_propagate 113 = .ok (.getfield 56, 3) := by decide +kernel
theorem dX8_propagate_116 : decode cX8_propagate 116 = .ok (.getfield 60, 3) := by decide +kernel
theorem dX8_propagate_119 : decode cX8_propagate 119 = .ok (.invokestatic 66, 3) := by decide +kernel
theorem dX8_propagate_122 : decode cX8_propagate 122 = .ok (.putfield 37, 3) := by decide +kernel
theorem dX8_propagate_125 : decode cX8_propagate 125 = .ok (.aload_n 0, 1) := by decide +kernel
theorem dX8_propagate_126 : decode cX8_propagate 126 = .ok (.aload_n 0, 1) := by decide +kernel
theorem dX8_propagate_127 : decode cX8_propagate 127 = .ok (.getfield 40, 3) := by decide +kernel
theorem dX8_propagate_130 : decode cX8_propagate 130 = .ok (.aload_n 0, 1) := by decide +kernel
theorem dX8_propagate_131 : decode cX8_propagate 131 = .ok (.getfield 56, 3) := by decide +kernel
theorem dX8_propagate_134 : decode cX8_propagate 134 = .ok (.getfield 60, 3) := by decide +kernel
theorem dX8_propagate_137 : decode cX8_propagate 137 = .ok (.invokestatic 66, 3) := by decide +kernel
theorem dX8_propagate_140 : decode cX8_propagate 140 = .ok (.putfield 40, 3) := by decide +kernel
theorem dX8_propagate_143 : decode cX8_propagate 143 = .ok (.iconst 0, 1) := by decide +kernel
theorem dX8_propagate_144 : decode cX8_propagate 144 = .ok (.istore_n 2, 1) := by decide +kernel
theorem dX8_propagate_145 : decode cX8_propagate 145 = .ok (.iload_n 2, 1) := by decide +kernel
theorem dX8_propagate_146 : decode cX8_propagate 146 = .ok (.iload_n 1, 1) := by decide +kernel
theorem dX8_propagate_147 : decode cX8_propagate 147 = .ok (.if_icmp .ge 16, 3) := by decide +kernel
theorem dX8_propagate_150 : decode cX8_propagate 150 = .ok (.aload_n 0, 1) := by decide +kernel
theorem dX8_propagate_151 : decode cX8_propagate 151 = .ok (.getfield 28, 3) := by decide +kernel
theorem dX8_propagate_154 : decode cX8_propagate 154 = .ok (.iload_n 2, 1) := by decide +kernel
theorem dX8_propagate_155 : decode cX8_propagate 155 = .ok (.iconst 0, 1) := by decide +kernel
theorem dX8_propagate_156 : decode cX8_propagate 156 = .ok (.iastore, 1) := by decide +kernel
theorem dX8_propagate_157 : decode cX8_propagate 157 = .ok (.iinc 2 1, 3) := by decide +kernel
theorem dX8_propagate_160 : decode cX8_propagate 160 = .ok (.goto (-15), 3) := by decide +kernel
theorem dX8_propagate_163 : decode cX8_propagate 163 = .ok (.iconst 0, 1) := by decide +kernel
theorem dX8_propagate_164 : decode cX8_propagate 164 = .ok (.istore_n 2, 1) := by decide +kernel
theorem dX8_propagate_165 : decode cX8_propagate 165 = .ok (.iload_n 2, 1) := by decide +kernel
theorem dX8_propagate_166 : decode cX8_propagate 166 = .ok (.aload_n 0, 1) := by decide +kernel
theorem dX8_propagate_167 : decode cX8_propagate 167 = .ok (.getfield 56, 3) := by decide +kernel
theorem dX8_propagate_170 : decode cX8_propagate 170 = .ok (.getfield 101, 3) := by decide +kernel
theorem dX8_propagate_173 : decode cX8_propagate 173 = .ok (.invokevirtual 73, 3) := by decide +kernel
theorem dX8_propagate_176 : decode cX8_propagate 176 = .ok (.if_icmp .ge 45, 3) := by decide +kernel
theorem dX8_propagate_179 : decode cX8_propagate 179 = .ok (.aload_n 0, 1) := by decide +kernel
theorem dX8_propagate_180 : decode cX8_propagate 180 = .ok (.getfield 56, 3) := by decide +kernel
theorem dX8_propagate_183 : decode cX8_propagate 183 = .ok (.getfield 101, 3) := by decide +kernel
theorem dX8_propagate_186 : decode cX8_propagate 186 = .ok (.iload_n 2, 1) := by decide +kernel
theorem dX8_propagate_187 : decode cX8_propagate 187 = .ok (.invokevirtual 77, 3) := by decide +kernel
theorem dX8_propagate_190 : decode cX8_propagate 190 = .ok (.checkcast 104, 3) := by decide +kernel
theorem dX8_propagate_193 : decode cX8_propagate 193 = .ok (.iconst 0, 1) := by decide +kernel
theorem dX8_propagate_194 : decode cX8_propagate 194 = .ok (.putfield 181, 3) := by decide +kernel
theorem dX8_propagate_197 : decode cX8_propagate 197 = .ok (.aload_n 0, 1) := by decide +kernel
theorem dX8_propagate_198 : decode cX8_propagate 198 = .ok (.getfield 56, 3) := by decide +kernel
theorem dX8_propagate_201 : decode cX8_propagate 201 = .ok (.getfield 101, 3) := by decide +kernel
theorem dX8_propagate_204 : decode cX8_propagate 204 = .ok (.iload_n 2, 1) := by decide +kernel
theorem dX8_propagate_205 : decode cX8_propagate 205 = .ok (.invokevirtual 77, 3) := by decide +kernel
theorem dX8_propagate_208 : decode cX8_propagate 208 = .ok (.checkcast 104, 3) := by decide +kernel
theorem dX8_propagate_211 : decode cX8_propagate 211 = .ok (.iconst 0, 1) := by decide +kernel
theorem dX8_propagate_212 : decode cX8_propagate 212 = .ok (.putfield 106, 3) := by decide +kernel
theorem dX8_propagate_215 : decode cX8_propagate 215 = .ok (.iinc 2 1, 3) := by decide +kernel
theorem dX8_propagate_218 : decode cX8_propagate 218 = .ok (.goto (-53), 3) := by decide +kernel
theorem dX8_propagate_221 : decode cX8_propagate 221 = .ok (.aload_n 0, 1) := by decide +kernel
theorem dX8_propagate_222 : decode cX8_propagate 222 = .ok (.aload_n 0, 1) := by decide +kernel
theorem dX8_propagate_223 : decode cX8_propagate 223 = .ok (.getfield 56, 3) := by decide +kernel
theorem dX8_propagate_226 : decode cX8_propagate 226 = .ok (.getfield 101, 3) := by decide +kernel
theorem dX8_propagate_229 : decode cX8_propagate 229 = .ok (.iconst 0, 1) := by decide +kernel
theorem dX8_propagate_230 : decode cX8_propagate 230 = .ok (.invokevirtual 77, 3) := by decide +kernel
theorem dX8_propagate_233 : decode cX8_propagate 233 = .ok (.checkcast 104, 3) := by decide +kernel
theorem dX8_propagate_236 : decode cX8_propagate 236 = .ok (.invokevirtual 184, 3) := by decide +kernel
theorem dX8_propagate_239 : decode cX8_propagate 239 = .ok (.aload_n 0, 1) := by decide +kernel
theorem dX8_propagate_240 : decode cX8_propagate 240 = .ok (.getfield 18, 3) := by decide +kernel
theorem dX8_propagate_243 : decode cX8_propagate 243 = .ok (.invokevirtual 117, 3) := by decide +kernel
theorem dX8_propagate_246 : decode cX8_propagate 246 = .ok (.ifCond .ne 254, 3) := by decide +kernel
theorem dX8_propagate_249 : decode cX8_propagate 249 = .ok (.aload_n 0, 1) := by decide +kernel
theorem dX8_propagate_250 : decode cX8_propagate 250 = .ok (.getfield 18, 3) := by decide +kernel
theorem dX8_propagate_253 : decode cX8_propagate 253 = .ok (.aload_n 0, 1) := by decide +kernel
theorem dX8_propagate_254 : decode cX8_propagate 254 = .ok (.getfield 18, 3) := by decide +kernel
theorem dX8_propagate_257 : decode cX8_propagate 257 = .ok (.invokevirtual 73, 3) := by decide +kernel
theorem dX8_propagate_260 : decode cX8_propagate 260 = .ok (.iconst 1, 1) := by decide +kernel
theorem dX8_propagate_261 : decode cX8_propagate 261 = .ok (.isub, 1) := by decide +kernel
theorem dX8_propagate_262 : decode cX8_propagate 262 = .ok (.invokevirtual 121, 3) := by decide +kernel
theorem dX8_propagate_265 : decode cX8_propagate 265 = .ok (.checkcast 104, 3) := by decide +kernel
theorem dX8_propagate_268 : decode cX8_propagate 268 = .ok (.astore_n 2, 1) := by decide +kernel
theorem dX8_propagate_269 : decode cX8_propagate 269 = .ok (.aload_n 2, 1) := by decide +kernel
theorem dX8_propagate_270 : decode cX8_propagate 270 = .ok (.iconst 0, 1) := by decide +kernel
theorem dX8_propagate_271 : decode cX8_propagate 271 = .ok (.putfield 106, 3) := by decide +kernel
theorem dX8_propagate_274 : decode cX8_propagate 274 = .ok (.aload_n 0, 1) := by decide +kernel
theorem dX8_propagate_275 : decode cX8_propagate 275 = .ok (.dup, 1) := by decide +kernel
theorem dX8_propagate_276 : decode cX8_propagate 276 = .ok (.getfield 187, 3) := by decide +kernel
theorem dX8_propagate_279 : decode cX8_propagate 279 = .ok (.iconst 1, 1) := by decide +kernel
theorem dX8_propagate_280 : decode cX8_propagate 280 = .ok (.iadd, 1) := by decide +kernel
theorem dX8_propagate_281 : decode cX8_propagate 281 = .ok (.putfield 187, 3) := by decide +kernel
theorem dX8_propagate_284 : decode cX8_propagate 284 = .ok (.iconst 0, 1) := by decide +kernel
theorem dX8_propagate_285 : decode cX8_propagate 285 = .ok (.istore_n 3, 1) := by decide +kernel
theorem dX8_propagate_286 : decode cX8_propagate 286 = .ok (.iload_n 3, 1) := by decide +kernel
theorem dX8_propagate_287 : decode cX8_propagate 287 = .ok (.iload_n 1, 1) := by decide +kernel
theorem dX8_propagate_288 : decode cX8_propagate 288 = .ok (.if_icmp .ge 47, 3) := by decide +kernel
theorem dX8_propagate_291 : decode cX8_propagate 291 = .ok (.aload_n 0, 1) := by decide +kernel
theorem dX8_propagate_292 : decode cX8_propagate 292 = .ok (.getfield 28, 3) := by decide +kernel
theorem dX8_propagate_295 : decode cX8_propagate 295 = .ok (.iload_n 3, 1) := by decide +kernel
theorem dX8_propagate_296 : decode cX8_propagate 296 = .ok (.aload_n 0, 1) := by decide +kernel
theorem dX8_propagate_297 : decode cX8_propagate 297 = .ok (.getfield 22, 3) := by decide +kernel
theorem dX8_propagate_300 : decode cX8_propagate 300 = .ok (.iload_n 1, 1) := by decide +kernel
theorem dX8_propagate_301 : decode cX8_propagate 301 = .ok (.aload_n 2, 1) := by decide +kernel
theorem dX8_propagate_302 : decode cX8_propagate 302 = .ok (.getfield 142, 3) := by decide +kernel
theorem dX8_propagate_305 : decode cX8_propagate 305 = .ok (.imul, 1) := by decide +kernel
theorem dX8_propagate_306 : decode cX8_propagate 306 = .ok (.iload_n 3, 1) := by decide +kernel
theorem dX8_propagate_307 : decode cX8_propagate 307 = .ok (.iadd, 1) := by decide +kernel
theorem dX8_propagate_308 : decode cX8_propagate 308 = .ok (.iaload, 1) := by decide +kernel
theorem dX8_propagate_309 : decode cX8_propagate 309 = .ok (.iastore, 1) := by decide +kernel
theorem dX8_propagate_310 : decode cX8_propagate 310 = .ok (.aload_n 0, 1) := by decide +kernel
theorem dX8_propagate_311 : decode cX8_propagate 311 = .ok (.getfield 31, 3) := by decide +kernel
theorem dX8_propagate_314 : decode cX8_propagate 314 = .ok (.iload_n 3, 1) := by decide +kernel
theorem dX8_propagate_315 : decode cX8_propagate 315 = .ok (.aload_n 0, 1) := by decide +kernel
theorem dX8_propagate_316 : decode cX8_propagate 316 = .ok (.getfield 25, 3) := by decide +kernel
theorem dX8_propagate_319 : decode cX8_propagate 319 = .ok (.iload_n 1, 1) := by decide +kernel
theorem dX8_propagate_320 : decode cX8_propagate 320 = .ok (.aload_n 2, 1) := by decide +kernel
theorem dX8_propagate_321 : decode cX8_propagate 321 = .ok (.getfield 142, 3) := by decide +kernel
theorem dX8_propagate_324 : decode cX8_propagate 324 = .ok (.imul, 1) := by decide +kernel
theorem dX8_propagate_325 : decode cX8_propagate 325 = .ok (.iload_n 3, 1) := by decide +kernel
theorem dX8_propagate_326 : decode cX8_propagate 326 = .ok (.iadd, 1) := by decide +kernel
theorem dX8_propagate_327 : decode cX8_propagate 327 = .ok (.iaload, 1) := by decide +kernel
theorem dX8_propagate_328 : decode cX8_propagate 328 = .ok (.iastore, 1) := by decide +kernel
theorem dX8_propagate_329 : decode cX8_propagate 329 = .ok (.iinc 3 1, 3) := by decide +kernel
theorem dX8_propagate_332 : decode cX8_propagate 332 = .ok (.goto (-46), 3) := by decide +kernel
theorem dX8_propagate_335 : decode cX8_propagate 335 = .ok (.iconst 0, 1) := by decide +kernel
theorem dX8_propagate_336 : decode cX8_propagate 336 = .ok (.istore_n 3, 1) := by decide +kernel
theorem dX8_propagate_337 : decode cX8_propagate 337 = .ok (.iload_n 3, 1) := by decide +kernel
theorem dX8_propagate_338 : decode cX8_propagate 338 = .ok (.aload_n 2, 1) := by decide +kernel
theorem dX8_propagate_339 : decode cX8_propagate 339 = .ok (.getfield 153, 3) := by decide +kernel
theorem dX8_propagate_342 : decode cX8_propagate 342 = .ok (.invokevirtual 73, 3) := by decide +kernel
theorem dX8_propagate_345 : decode cX8_propagate 345 = .ok (.if_icmp .ge 24, 3) := by decide +kernel
theorem dX8_propagate_348 : decode cX8_propagate 348 = .ok (.aload_n 0, 1) := by decide +kernel
theorem dX8_propagate_349 : decode cX8_propagate 349 = .ok (.aload_n 2, 1) := by decide +kernel
theorem dX8_propagate_350 : decode cX8_propagate 350 = .ok (.getfield 153, 3) := by decide +kernel
theorem dX8_propagate_353 : decode cX8_propagate 353 = .ok (.iload_n 3, 1) := by decide +kernel
theorem dX8_propagate_354 : decode cX8_propagate 354 = .ok (.invokevirtual 77, 3) := by decide +kernel
theorem dX8_propagate_357 : decode cX8_propagate 357 = .ok (.checkcast 160, 3) := by decide +kernel
theorem dX8_propagate_360 : decode cX8_propagate 360 = .ok (.invokevirtual 190, 3) := by decide +kernel
theorem dX8_propagate_363 : decode cX8_propagate 363 = .ok (.iinc 3 1, 3) := by decide +kernel
theorem dX8_propagate_366 : decode cX8_propagate 366 = .ok (.goto (-29), 3) := by decide +kernel
theorem dX8_propagate_369 : decode cX8_propagate 369 = .ok (.aload_n 2, 1) := by decide +kernel
theorem dX8_propagate_370 : decode cX8_propagate 370 = .ok (.getfield 124, 3) := by decide +kernel
theorem dX8_propagate_373 : decode cX8_propagate 373 = .ok (.iconst 1, 1) := by decide +kernel
theorem dX8_propagate_374 : decode cX8_propagate 374 = .ok (.if_icmp .ne 11, 3) := by decide +kernel
theorem dX8_propagate_377 : decode cX8_propagate 377 = .ok (.aload_n 0, 1) := by decide +kernel
theorem dX8_propagate_378 : decode cX8_propagate 378 = .ok (.aload_n 2, 1) := by decide +kernel
theorem dX8_propagate_379 : decode cX8_propagate 379 = .ok (.getfield 127, 3) := by decide +kernel
theorem dX8_propagate_382 : decode cX8_propagate 382 = .ok (.invokevirtual 184, 3) := by decide +kernel
theorem dX8_propagate_385 : decode cX8_propagate 385 = .ok (.aload_n 2, 1) := by decide +kernel
theorem dX8_propagate_386 : decode cX8_propagate 386 = .ok (.getfield 124, 3) := by decide +kernel
theorem dX8_propagate_389 : decode cX8_propagate 389 = .ok (.iconst 2, 1) := by decide +kernel
theorem dX8_propagate_390 : decode cX8_propagate 390 = .ok (.if_icmp .eq 6, 3) := by decide +kernel
theorem dX8_propagate_393 : decode cX8_propagate 393 = .ok (.goto (-154), 3) := by decide +kernel
theorem dX8_propagate_396 : decode cX8_propagate 396 = .ok (.aload_n 0, 1) := by decide +kernel
theorem dX8_propagate_397 : decode cX8_propagate 397 = .ok (.aload_n 2, 1) := by decide +kernel
theorem dX8_propagate_398 : decode cX8_propagate 398 = .ok (.getfield 165, 3) := by decide +kernel
theorem dX8_propagate_401 : decode cX8_propagate 401 = .ok (.invokevirtual 194, 3) := by decide +kernel
theorem dX8_propagate_404 : decode cX8_propagate 404 = .ok (.iconst 1, 1) := by decide +kernel
theorem dX8_propagate_405 : decode cX8_propagate 405 = .ok (.if_icmp .ne 19, 3) := by decide +kernel
theorem dX8_propagate_408 : decode cX8_propagate 408 = .ok (.aload_n 0, 1) := by decide +kernel
theorem dX8_propagate_409 : decode cX8_propagate 409 = .ok (.aload_n 2, 1) := by decide +kernel
theorem dX8_propagate_410 : decode cX8_propagate 410 = .ok (.getfield 169, 3) := by decide +kernel
theorem dX8_propagate_413 : decode cX8_propagate 413 = .ok (.invokevirtual 194, 3) := by decide +kernel
theorem dX8_propagate_416 : decode cX8_propagate 416 = .ok (.iconst 1, 1) := by decide +kernel
theorem dX8_propagate_417 : decode cX8_propagate 417 = .ok (.if_icmp .ne 7, 3) := by decide +kernel
theorem dX8_propagate_420 : decode cX8_propagate 420 = .ok (.iconst 1, 1) := by decide +kernel
theorem dX8_propagate_421 : decode cX8_propagate 421 = .ok (.goto 4, 3) := by decide +kernel
theorem dX8_propagate_424 : decode cX8_propagate 424 = .ok (.iconst 0, 1) := by decide +kernel
theorem dX8_propagate_425 : decode cX8_propagate 425 = .ok (.istore_n 3, 1) := by decide +kernel
theorem dX8_propagate_426 : decode cX8_propagate 426 = .ok (.iload_n 3, 1) := by decide +kernel
theorem dX8_propagate_427 : decode cX8_propagate 427 = .ok (.ifCond .eq 33, 3) := by decide +kernel
theorem dX8_propagate_430 : decode cX8_propagate 430 = .ok (.aload_n 2, 1) := by decide +kernel
theorem dX8_propagate_431 : decode cX8_propagate 431 = .ok (.getfield 162, 3) := by decide +kernel
theorem dX8_propagate_434 : decode cX8_propagate 434 = .ok (.aload_n 0, 1) := by decide +kernel
theorem dX8_propagate_435 : decode cX8_propagate 435 = .ok (.aload_n 2, 1) := by decide +kernel
theorem dX8_propagate_436 : decode cX8_propagate 436 = .ok (.getfield 165, 3) := by decide +kernel
theorem dX8_propagate_439 : decode cX8_propagate 439 = .ok (.invokevirtual 198, 3) := by decide +kernel
theorem dX8_propagate_442 : decode cX8_propagate 442 = .ok (.aload_n 0, 1) := by decide +kernel
theorem dX8_propagate_443 : decode cX8_propagate 443 = .ok (.aload_n 2, 1) := by decide +kernel
theorem dX8_propagate_444 : decode cX8_propagate 444 = .ok (.getfield 169, 3) := by decide +kernel
theorem dX8_propagate_447 : decode cX8_propagate 447 = .ok (.invokevirtual 198, 3) := by decide +kernel
theorem dX8_propagate_450 : decode cX8_propagate 450 = .ok (.invokestatic 201, 3) := by decide +kernel
theorem dX8_propagate_453 : decode cX8_propagate 453 = .ok (.ifCond .eq 7, 3) := by decide +kernel
theorem dX8_propagate_456 : decode cX8_propagate 456 = .ok (.iconst 1, 1) := by decide +kernel
theorem dX8_propagate_457 : decode cX8_propagate 457 = .ok (.goto 4, 3) := by decide +kernel
theorem dX8_propagate_460 : decode cX8_propagate 460 = .ok (.iconst 0, 1) := by decide +kernel
theorem dX8_propagate_461 : decode cX8_propagate 461 = .ok (.istore 4, 2) := by decide +kernel
theorem dX8_propagate_463 : decode cX8_propagate 463 = .ok (.iload_n 3, 1) := by decide +kernel
theorem dX8_propagate_464 : decode cX8_propagate 464 = .ok (.ifCond .eq 8, 3) := by decide +kernel
theorem dX8_propagate_467 : decode cX8_propagate 467 = .ok (.iload 4, 2) := by decide +kernel
theorem dX8_propagate_469 : decode cX8_propagate 469 = .ok (.ifCond .eq 11, 3) := by decide +kernel
theorem dX8_propagate_472 : decode cX8_propagate 472 = .ok (.aload_n 0, 1) := by decide +kernel
theorem dX8_propagate_473 : decode cX8_propagate 473 = .ok (.aload_n 2, 1) := by decide +kernel
theorem dX8_propagate_474 : decode cX8_propagate 474 = .ok (.getfield 127, 3) := by decide +kernel
theorem dX8_propagate_477 : decode cX8_propagate 477 = .ok (.invokevirtual 184, 3) := by decide +kernel
theorem dX8_propagate_480 : decode cX8_propagate 480 = .ok (.iload_n 3, 1) := by decide +kernel
theorem dX8_propagate_481 : decode cX8_propagate 481 = .ok (.ifCond .eq 8, 3) := by decide +kernel
theorem dX8_propagate_484 : decode cX8_propagate 484 = .ok (.iload 4, 2) := by decide +kernel
theorem dX8_propagate_486 : decode cX8_propagate 486 = .ok (.ifCond .ne 11, 3) := by decide +kernel
theorem dX8_propagate_489 : decode cX8_propagate 489 = .ok (.aload_n 0, 1) := by decide +kernel
theorem dX8_propagate_490 : decode cX8_propagate 490 = .ok (.aload_n 2, 1) := by decide +kernel
theorem dX8_propagate_491 : decode cX8_propagate 491 = .ok (.getfield 131, 3) := by decide +kernel
theorem dX8_propagate_494 : decode cX8_propagate 494 = .ok (.invokevirtual 184, 3) := by decide +kernel
theorem dX8_propagate_497 : decode cX8_propagate 497 = .ok (.goto (-258), 3) := by decide +kernel
theorem dX8_propagate_500 : decode cX8_propagate 500 = .ok (.return_, 1) := by decide +kernel
