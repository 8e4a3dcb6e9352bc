/-! names: X6_init X6_make X6_tell X6_fault X6_function X6_block X6_at X6_open X6_formal X6_unused X6_register X6_variable X6_emit X6_know X6_known X6_find X6_index (tools/chunk.py) -/
set_option maxRecDepth 100000
theorem q516 : (Jvm.Cond.methodLink "CompiledHouse$Maker" (3 : Nat) ({ cls := "java/lang/Object", name := "<init>", desc := "()V" } : Jvm.MethodName)) ∈ lw_all := lw_g (lw_at lw_m2 80 rfl) rfl
theorem lk_X6_3 : xLk RX6 3 yJ18_init := Or.inl q516
theorem q517 : (Jvm.Cond.classLink "CompiledHouse$Maker" (9 : Nat) "CompiledHouse$Stop") ∈ lw_all := lw_g (lw_at lw_m2 81 rfl) rfl
theorem q518 : (Jvm.Cond.methodLink "CompiledHouse$Maker" (11 : Nat) ({ cls := "CompiledHouse$Stop", name := "<init>", desc := "()V" } : Jvm.MethodName)) ∈ lw_all := lw_g (lw_at lw_m2 82 rfl) rfl
theorem lk_X6_11 : xLk RX6 11 yX3_init := Or.inl q518
theorem q521 : (Jvm.Cond.fieldLink "CompiledHouse$Maker" (12 : Nat) "CompiledHouse$Maker" "stop" "LCompiledHouse$Stop;") ∈ lw_all := lw_g (lw_at lw_m2 85 rfl) rfl
theorem f_X6_12_5 : xF RX6 12 5 0 := ⟨_, "CompiledHouse$Maker", rfl, by decide, Or.inl q521, Or.inl rfl⟩
theorem q519 : (Jvm.Cond.classLink "CompiledHouse$Maker" (18 : Nat) "java/util/ArrayList") ∈ lw_all := lw_g (lw_at lw_m2 83 rfl) rfl
theorem q520 : (Jvm.Cond.methodLink "CompiledHouse$Maker" (20 : Nat) ({ cls := "java/util/ArrayList", name := "<init>", desc := "()V" } : Jvm.MethodName)) ∈ lw_all := lw_g (lw_at lw_m2 84 rfl) rfl
theorem lk_X6_20 : xLk RX6 20 yJ5_init := Or.inl q520
theorem q522 : (Jvm.Cond.fieldLink "CompiledHouse$Maker" (21 : Nat) "CompiledHouse$Maker" "scope" "Ljava/util/ArrayList;") ∈ lw_all := lw_g (lw_at lw_m2 86 rfl) rfl
theorem f_X6_21_5 : xF RX6 21 5 1 := ⟨_, "CompiledHouse$Maker", rfl, by decide, Or.inl q522, Or.inl rfl⟩
theorem q544 : (Jvm.Cond.fieldLink "CompiledHouse$Maker" (25 : Nat) "CompiledHouse$Maker" "first" "[I") ∈ lw_all := lw_g (lw_at lw_m2 108 rfl) rfl
theorem f_X6_25_5 : xF RX6 25 5 15 := ⟨_, "CompiledHouse$Maker", rfl, by decide, Or.inl q544, Or.inl rfl⟩
theorem q529 : (Jvm.Cond.fieldLink "CompiledHouse$Maker" (40 : Nat) "CompiledHouse$Maker" "all" "Ljava/util/ArrayList;") ∈ lw_all := lw_g (lw_at lw_m2 93 rfl) rfl
theorem f_X6_40_5 : xF RX6 40 5 7 := ⟨_, "CompiledHouse$Maker", rfl, by decide, Or.inl q529, Or.inl rfl⟩
theorem q540 : (Jvm.Cond.fieldLink "CompiledHouse$Maker" (33 : Nat) "CompiledHouse$Maker" "fault" "I") ∈ lw_all := lw_g (lw_at lw_m2 104 rfl) rfl
theorem f_X6_33_5 : xF RX6 33 5 13 := ⟨_, "CompiledHouse$Maker", rfl, by decide, Or.inl q540, Or.inl rfl⟩
theorem q526 : (Jvm.Cond.fieldLink "CompiledHouse$Maker" (43 : Nat) "CompiledHouse$Maker" "globalWords" "I") ∈ lw_all := lw_g (lw_at lw_m2 90 rfl) rfl
theorem f_X6_43_5 : xF RX6 43 5 5 := ⟨_, "CompiledHouse$Maker", rfl, by decide, Or.inl q526, Or.inl rfl⟩
theorem q528 : (Jvm.Cond.fieldLink "CompiledHouse$Maker" (46 : Nat) "CompiledHouse$Maker" "functions" "I") ∈ lw_all := lw_g (lw_at lw_m2 92 rfl) rfl
theorem f_X6_46_5 : xF RX6 46 5 6 := ⟨_, "CompiledHouse$Maker", rfl, by decide, Or.inl q528, Or.inl rfl⟩
theorem q523 : (Jvm.Cond.fieldLink "CompiledHouse$Maker" (49 : Nat) "CompiledHouse$Maker" "from" "I") ∈ lw_all := lw_g (lw_at lw_m2 87 rfl) rfl
theorem f_X6_49_5 : xF RX6 49 5 2 := ⟨_, "CompiledHouse$Maker", rfl, by decide, Or.inl q523, Or.inl rfl⟩
theorem q1682 : (Jvm.Cond.methodLink "CompiledHouse$Maker" (52 : Nat) ({ cls := "java/util/ArrayList", name := "clear", desc := "()V" } : Jvm.MethodName)) ∈ lw_all := lw_g (lw_at lw_m7 46 rfl) rfl
theorem lk_X6_52 : xLk RX6 52 yJ5_clear := Or.inl q1682
theorem q1683 : (Jvm.Cond.methodLink "CompiledHouse$Maker" (55 : Nat) ({ cls := "java/util/ArrayList", name := "size", desc := "()I" } : Jvm.MethodName)) ∈ lw_all := lw_g (lw_at lw_m7 47 rfl) rfl
theorem lk_X6_55 : xLk RX6 55 yJ5_size := Or.inl q1683
theorem q1687 : (Jvm.Cond.methodLink "CompiledHouse$Maker" (59 : Nat) ({ cls := "java/util/ArrayList", name := "get", desc := "(I)Ljava/lang/Object;" } : Jvm.MethodName)) ∈ lw_all := lw_g (lw_at lw_m7 51 rfl) rfl
theorem lk_X6_59 : xLk RX6 59 yJ5_get := Or.inl q1687
theorem q1688 : (Jvm.Cond.classLink "CompiledHouse$Maker" (63 : Nat) "CompiledHouse$Told") ∈ lw_all := lw_g (lw_at lw_m7 52 rfl) rfl
theorem q1107 : (Jvm.Cond.fieldLinkNest "CompiledHouse$Maker" (65 : Nat) "CompiledHouse$Told" "kind" "I" "CompiledHouse") ∈ lw_tbl := lw_at lw_m4 191 rfl
theorem f_X6_65_13 : xF RX6 65 13 0 := ⟨_, "CompiledHouse$Told", rfl, by decide, Or.inr ⟨_, q1107⟩, Or.inl rfl⟩
theorem q1689 : (Jvm.Cond.classLink "CompiledHouse$Maker" (68 : Nat) "CompiledHouse$Symbol") ∈ lw_all := lw_g (lw_at lw_m7 53 rfl) rfl
theorem q1110 : (Jvm.Cond.fieldLinkNest "CompiledHouse$Maker" (70 : Nat) "CompiledHouse$Told" "name" "I" "CompiledHouse") ∈ lw_tbl := lw_at lw_m4 194 rfl
theorem f_X6_70_13 : xF RX6 70 13 1 := ⟨_, "CompiledHouse$Told", rfl, by decide, Or.inr ⟨_, q1110⟩, Or.inl rfl⟩
theorem q1691 : (Jvm.Cond.methodLink "CompiledHouse$Maker" (73 : Nat) ({ cls := "CompiledHouse$Symbol", name := "<init>", desc := "(III)V" } : Jvm.MethodName)) ∈ lw_all := lw_g (lw_at lw_m7 55 rfl) rfl
theorem lk_X6_73 : xLk RX6 73 yX34_init := Or.inl q1691
theorem q1135 : (Jvm.Cond.fieldLinkNest "CompiledHouse$Maker" (76 : Nat) "CompiledHouse$Told" "symbol" "LCompiledHouse$Symbol;" "CompiledHouse") ∈ lw_tbl := lw_at lw_m4 219 rfl
theorem f_X6_76_13 : xF RX6 76 13 10 := ⟨_, "CompiledHouse$Told", rfl, by decide, Or.inr ⟨_, q1135⟩, Or.inl rfl⟩
theorem q1715 : (Jvm.Cond.fieldLinkNest "CompiledHouse$Maker" (80 : Nat) "CompiledHouse$Symbol" "told" "LCompiledHouse$Told;" "CompiledHouse") ∈ lw_tbl := lw_at lw_m7 79 rfl
theorem f_X6_80_32 : xF RX6 80 32 5 := ⟨_, "CompiledHouse$Symbol", rfl, by decide, Or.inr ⟨_, q1715⟩, Or.inl rfl⟩
theorem q524 : (Jvm.Cond.fieldLink "CompiledHouse$Maker" (84 : Nat) "CompiledHouse$Maker" "current" "I") ∈ lw_all := lw_g (lw_at lw_m2 88 rfl) rfl
theorem f_X6_84_5 : xF RX6 84 5 3 := ⟨_, "CompiledHouse$Maker", rfl, by decide, Or.inl q524, Or.inl rfl⟩
theorem q1730 : (Jvm.Cond.methodLink "CompiledHouse$Maker" (87 : Nat) ({ cls := "CompiledHouse$Maker", name := "tell", desc := "(LCompiledHouse$Told;)V" } : Jvm.MethodName)) ∈ lw_all := lw_g (lw_at lw_m7 94 rfl) rfl
abbrev cX6_tell : ByteArray := prog_22_method_14_code
def yX6_tell : MethodName := ⟨RX6, "tell", "(LCompiledHouse$Told;)V"⟩
theorem q1733 : (Jvm.Cond.code ({ cls := "CompiledHouse$Maker", name := "tell", desc := "(LCompiledHouse$Told;)V" } : Jvm.MethodName) prog_22_method_14_code (5 : Nat) (Option.none : Option Jvm.ClassFile.FieldType)) ∈ lw_all := lw_g (lw_at lw_m7 97 rfl) rfl
def kX6_tell : xK := (yX6_tell, cX6_tell, 5, none, [])
theorem me_X6_tell : xMe kX6_tell 1 := ⟨q1733, q209, by decide, by decide, by decide +kernel⟩
theorem q1732 : (Jvm.Cond.instanceMethod ({ cls := "CompiledHouse$Maker", name := "tell", desc := "(LCompiledHouse$Told;)V" } : Jvm.MethodName)) ∈ lw_all := lw_g (lw_at lw_m7 96 rfl) rfl
theorem is_X6_tell : Cond.instanceMethod kX6_tell.y ∈ lw_all := q1732
theorem se_X6_tell : Cond.selects RX6 kX6_tell.y kX6_tell.y ∈ lw_all := qs42
theorem lk_X6_87 : xLk RX6 87 yX6_tell := Or.inl q1730
theorem q2386 : (Jvm.Cond.methodLink "CompiledHouse$Maker" (91 : Nat) ({ cls := "CompiledHouse$Maker", name := "main", desc := "()LCompiledHouse$Told;" } : Jvm.MethodName)) ∈ lw_all := lw_g (lw_at lw_m10 30 rfl) rfl
theorem lk_X6_91 : xLk RX6 91 yX6_main := Or.inl q2386
theorem q1734 : (Jvm.Cond.methodLink "CompiledHouse$Maker" (95 : Nat) ({ cls := "CompiledHouse$Maker", name := "fault", desc := "(II)LCompiledHouse$Stop;" } : Jvm.MethodName)) ∈ lw_all := lw_g (lw_at lw_m7 98 rfl) rfl
abbrev cX6_fault : ByteArray := prog_22_method_3_code
def yX6_fault : MethodName := ⟨RX6, "fault", "(II)LCompiledHouse$Stop;"⟩
theorem q1737 : (Jvm.Cond.code ({ cls := "CompiledHouse$Maker", name := "fault", desc := "(II)LCompiledHouse$Stop;" } : Jvm.MethodName) prog_22_method_3_code (3 : Nat) (Option.some (Jvm.ClassFile.FieldType.object "CompiledHouse$Stop"))) ∈ lw_all := lw_g (lw_at lw_m7 101 rfl) rfl
def kX6_fault : xK := (yX6_fault, cX6_fault, 3, some (.object "CompiledHouse$Stop"), [])
theorem me_X6_fault : xMe kX6_fault 2 := ⟨q1737, q209, by decide, by decide, by decide +kernel⟩
theorem q1735 : (Jvm.Cond.instanceMethod ({ cls := "CompiledHouse$Maker", name := "fault", desc := "(II)LCompiledHouse$Stop;" } : Jvm.MethodName)) ∈ lw_all := lw_g (lw_at lw_m7 99 rfl) rfl
theorem is_X6_fault : Cond.instanceMethod kX6_fault.y ∈ lw_all := q1735
theorem se_X6_fault : Cond.selects RX6 kX6_fault.y kX6_fault.y ∈ lw_all := q1736
theorem lk_X6_95 : xLk RX6 95 yX6_fault := Or.inl q1734
theorem q1113 : (Jvm.Cond.fieldLinkNest "CompiledHouse$Maker" (130 : Nat) "CompiledHouse$Told" "place" "I" "CompiledHouse") ∈ lw_tbl := lw_at lw_m4 197 rfl
theorem f_X6_130_13 : xF RX6 130 13 2 := ⟨_, "CompiledHouse$Told", rfl, by decide, Or.inr ⟨_, q1113⟩, Or.inl rfl⟩
theorem q1738 : (Jvm.Cond.methodLink "CompiledHouse$Maker" (131 : Nat) ({ cls := "CompiledHouse$Maker", name := "function", desc := "(LCompiledHouse$Told;)V" } : Jvm.MethodName)) ∈ lw_all := lw_g (lw_at lw_m7 102 rfl) rfl
abbrev cX6_function : ByteArray := prog_22_method_17_code
def yX6_function : MethodName := ⟨RX6, "function", "(LCompiledHouse$Told;)V"⟩
theorem q1741 : (Jvm.Cond.code ({ cls := "CompiledHouse$Maker", name := "function", desc := "(LCompiledHouse$Told;)V" } : Jvm.MethodName) prog_22_method_17_code (4 : Nat) (Option.none : Option Jvm.ClassFile.FieldType)) ∈ lw_all := lw_g (lw_at lw_m7 105 rfl) rfl
def kX6_function : xK := (yX6_function, cX6_function, 4, none, [])
theorem me_X6_function : xMe kX6_function 1 := ⟨q1741, q209, by decide, by decide, by decide +kernel⟩
theorem q1740 : (Jvm.Cond.instanceMethod ({ cls := "CompiledHouse$Maker", name := "function", desc := "(LCompiledHouse$Told;)V" } : Jvm.MethodName)) ∈ lw_all := lw_g (lw_at lw_m7 104 rfl) rfl
theorem is_X6_function : Cond.instanceMethod kX6_function.y ∈ lw_all := q1740
theorem se_X6_function : Cond.selects RX6 kX6_function.y kX6_function.y ∈ lw_all := qs43
theorem lk_X6_131 : xLk RX6 131 yX6_function := Or.inl q1738
theorem q1124 : (Jvm.Cond.fieldLinkNest "CompiledHouse$Maker" (134 : Nat) "CompiledHouse$Told" "value" "LCompiledHouse$Expr;" "CompiledHouse") ∈ lw_tbl := lw_at lw_m4 208 rfl
theorem f_X6_134_13 : xF RX6 134 13 6 := ⟨_, "CompiledHouse$Told", rfl, by decide, Or.inr ⟨_, q1124⟩, Or.inl rfl⟩
theorem q2306 : (Jvm.Cond.methodLink "CompiledHouse$Maker" (138 : Nat) ({ cls := "CompiledHouse$Expr", name := "constant", desc := "(LCompiledHouse$Maker;)I" } : Jvm.MethodName)) ∈ lw_all := lw_g (lw_at lw_m9 190 rfl) rfl
theorem q2377 : (Jvm.Cond.methodLink "CompiledHouse$Maker" (144 : Nat) ({ cls := "CompiledHouse$Maker", name := "size", desc := "(LCompiledHouse$Expr;)I" } : Jvm.MethodName)) ∈ lw_all := lw_g (lw_at lw_m10 21 rfl) rfl
abbrev cX6_size : ByteArray := prog_22_method_16_code
def yX6_size : MethodName := ⟨RX6, "size", "(LCompiledHouse$Expr;)I"⟩
theorem q2305 : (Jvm.Cond.code ({ cls := "CompiledHouse$Maker", name := "size", desc := "(LCompiledHouse$Expr;)I" } : Jvm.MethodName) prog_22_method_16_code (3 : Nat) (Option.some Jvm.ClassFile.FieldType.int)) ∈ lw_all := lw_g (lw_at lw_m9 189 rfl) rfl
def kX6_size : xK := (yX6_size, cX6_size, 3, some .int, [])
theorem me_X6_size : xMe kX6_size 1 := ⟨q2305, q209, by decide, by decide, by decide +kernel⟩
theorem q2303 : (Jvm.Cond.instanceMethod ({ cls := "CompiledHouse$Maker", name := "size", desc := "(LCompiledHouse$Expr;)I" } : Jvm.MethodName)) ∈ lw_all := lw_g (lw_at lw_m9 187 rfl) rfl
theorem is_X6_size : Cond.instanceMethod kX6_size.y ∈ lw_all := q2303
theorem se_X6_size : Cond.selects RX6 kX6_size.y kX6_size.y ∈ lw_all := q2304
theorem lk_X6_144 : xLk RX6 144 yX6_size := Or.inl q2377
theorem q1115 : (Jvm.Cond.fieldLinkNest "CompiledHouse$Maker" (147 : Nat) "CompiledHouse$Told" "isByte" "Z" "CompiledHouse") ∈ lw_tbl := lw_at lw_m4 199 rfl
theorem f_X6_147_13 : xF RX6 147 13 3 := ⟨_, "CompiledHouse$Told", rfl, by decide, Or.inr ⟨_, q1115⟩, Or.inl rfl⟩
theorem q2378 : (Jvm.Cond.methodLinkNest "CompiledHouse$Maker" (150 : Nat) ({ cls := "CompiledHouse", name := "wordsOf", desc := "(ZI)I" } : Jvm.MethodName) "CompiledHouse") ∈ lw_tbl := lw_at lw_m10 22 rfl
theorem lk_X6_150 : xLk RX6 150 yX0_wordsOf := Or.inr ⟨_, q2378⟩
theorem q1709 : (Jvm.Cond.fieldLinkNest "CompiledHouse$Maker" (154 : Nat) "CompiledHouse$Symbol" "isByte" "Z" "CompiledHouse") ∈ lw_tbl := lw_at lw_m7 73 rfl
theorem f_X6_154_32 : xF RX6 154 32 3 := ⟨_, "CompiledHouse$Symbol", rfl, by decide, Or.inr ⟨_, q1709⟩, Or.inl rfl⟩
theorem q1713 : (Jvm.Cond.fieldLinkNest "CompiledHouse$Maker" (155 : Nat) "CompiledHouse$Symbol" "size" "I" "CompiledHouse") ∈ lw_tbl := lw_at lw_m7 77 rfl
theorem f_X6_155_32 : xF RX6 155 32 4 := ⟨_, "CompiledHouse$Symbol", rfl, by decide, Or.inr ⟨_, q1713⟩, Or.inl rfl⟩
theorem q2379 : (Jvm.Cond.methodLink "CompiledHouse$Maker" (157 : Nat) ({ cls := "CompiledHouse$Maker", name := "list", desc := "(LCompiledHouse$Told;LCompiledHouse$Symbol;)V" } : Jvm.MethodName)) ∈ lw_all := lw_g (lw_at lw_m10 23 rfl) rfl
abbrev cX6_list : ByteArray := prog_22_method_15_code
def yX6_list : MethodName := ⟨RX6, "list", "(LCompiledHouse$Told;LCompiledHouse$Symbol;)V"⟩
theorem q2382 : (Jvm.Cond.code ({ cls := "CompiledHouse$Maker", name := "list", desc := "(LCompiledHouse$Told;LCompiledHouse$Symbol;)V" } : Jvm.MethodName) prog_22_method_15_code (6 : Nat) (Option.none : Option Jvm.ClassFile.FieldType)) ∈ lw_all := lw_g (lw_at lw_m10 26 rfl) rfl
def kX6_list : xK := (yX6_list, cX6_list, 6, none, [])
theorem me_X6_list : xMe kX6_list 2 := ⟨q2382, q209, by decide, by decide, by decide +kernel⟩
theorem q2381 : (Jvm.Cond.instanceMethod ({ cls := "CompiledHouse$Maker", name := "list", desc := "(LCompiledHouse$Told;LCompiledHouse$Symbol;)V" } : Jvm.MethodName)) ∈ lw_all := lw_g (lw_at lw_m10 25 rfl) rfl
theorem is_X6_list : Cond.instanceMethod kX6_list.y ∈ lw_all := q2381
theorem se_X6_list : Cond.selects RX6 kX6_list.y kX6_list.y ∈ lw_all := qs49
theorem lk_X6_157 : xLk RX6 157 yX6_list := Or.inl q2379
theorem q1705 : (Jvm.Cond.fieldLinkNest "CompiledHouse$Maker" (161 : Nat) "CompiledHouse$Symbol" "value" "I" "CompiledHouse") ∈ lw_tbl := lw_at lw_m7 69 rfl
theorem f_X6_161_32 : xF RX6 161 32 2 := ⟨_, "CompiledHouse$Symbol", rfl, by decide, Or.inr ⟨_, q1705⟩, Or.inl rfl⟩
theorem q542 : (Jvm.Cond.fieldLink "CompiledHouse$Maker" (37 : Nat) "CompiledHouse$Maker" "place" "I") ∈ lw_all := lw_g (lw_at lw_m2 106 rfl) rfl
theorem f_X6_37_5 : xF RX6 37 5 14 := ⟨_, "CompiledHouse$Maker", rfl, by decide, Or.inl q542, Or.inl rfl⟩
theorem q1138 : (Jvm.Cond.fieldLinkNest "CompiledHouse$Maker" (175 : Nat) "CompiledHouse$Told" "number" "I" "CompiledHouse") ∈ lw_tbl := lw_at lw_m4 222 rfl
theorem f_X6_175_13 : xF RX6 175 13 11 := ⟨_, "CompiledHouse$Told", rfl, by decide, Or.inr ⟨_, q1138⟩, Or.inl rfl⟩
theorem q531 : (Jvm.Cond.fieldLink "CompiledHouse$Maker" (178 : Nat) "CompiledHouse$Maker" "told" "LCompiledHouse$Told;") ∈ lw_all := lw_g (lw_at lw_m2 95 rfl) rfl
theorem f_X6_178_5 : xF RX6 178 5 8 := ⟨_, "CompiledHouse$Maker", rfl, by decide, Or.inl q531, Or.inl rfl⟩
theorem q1742 : (Jvm.Cond.classLink "CompiledHouse$Maker" (179 : Nat) "CompiledHouse$Code") ∈ lw_all := lw_g (lw_at lw_m7 106 rfl) rfl
theorem q1744 : (Jvm.Cond.methodLink "CompiledHouse$Maker" (181 : Nat) ({ cls := "CompiledHouse$Code", name := "<init>", desc := "(LCompiledHouse$Told;)V" } : Jvm.MethodName)) ∈ lw_all := lw_g (lw_at lw_m7 108 rfl) rfl
theorem lk_X6_181 : xLk RX6 181 yX35_init := Or.inl q1744
theorem q532 : (Jvm.Cond.fieldLink "CompiledHouse$Maker" (183 : Nat) "CompiledHouse$Maker" "code" "LCompiledHouse$Code;") ∈ lw_all := lw_g (lw_at lw_m2 96 rfl) rfl
theorem f_X6_183_5 : xF RX6 183 5 9 := ⟨_, "CompiledHouse$Maker", rfl, by decide, Or.inl q532, Or.inl rfl⟩
theorem q1143 : (Jvm.Cond.fieldLinkNest "CompiledHouse$Maker" (187 : Nat) "CompiledHouse$Told" "code" "LCompiledHouse$Code;" "CompiledHouse") ∈ lw_tbl := lw_at lw_m4 227 rfl
theorem f_X6_187_13 : xF RX6 187 13 13 := ⟨_, "CompiledHouse$Told", rfl, by decide, Or.inr ⟨_, q1143⟩, Or.inl rfl⟩
theorem q525 : (Jvm.Cond.fieldLink "CompiledHouse$Maker" (188 : Nat) "CompiledHouse$Maker" "words" "I") ∈ lw_all := lw_g (lw_at lw_m2 89 rfl) rfl
theorem f_X6_188_5 : xF RX6 188 5 4 := ⟨_, "CompiledHouse$Maker", rfl, by decide, Or.inl q525, Or.inl rfl⟩
theorem q536 : (Jvm.Cond.fieldLink "CompiledHouse$Maker" (191 : Nat) "CompiledHouse$Maker" "breaks" "LCompiledHouse$Block;") ∈ lw_all := lw_g (lw_at lw_m2 100 rfl) rfl
theorem f_X6_191_5 : xF RX6 191 5 11 := ⟨_, "CompiledHouse$Maker", rfl, by decide, Or.inl q536, Or.inl rfl⟩
theorem q539 : (Jvm.Cond.fieldLink "CompiledHouse$Maker" (195 : Nat) "CompiledHouse$Maker" "continues" "LCompiledHouse$Block;") ∈ lw_all := lw_g (lw_at lw_m2 103 rfl) rfl
theorem f_X6_195_5 : xF RX6 195 5 12 := ⟨_, "CompiledHouse$Maker", rfl, by decide, Or.inl q539, Or.inl rfl⟩
theorem q1780 : (Jvm.Cond.methodLink "CompiledHouse$Maker" (198 : Nat) ({ cls := "CompiledHouse$Maker", name := "block", desc := "()LCompiledHouse$Block;" } : Jvm.MethodName)) ∈ lw_all := lw_g (lw_at lw_m7 144 rfl) rfl
abbrev cX6_block : ByteArray := prog_22_method_23_code
def yX6_block : MethodName := ⟨RX6, "block", "()LCompiledHouse$Block;"⟩
theorem q1783 : (Jvm.Cond.code ({ cls := "CompiledHouse$Maker", name := "block", desc := "()LCompiledHouse$Block;" } : Jvm.MethodName) prog_22_method_23_code (1 : Nat) (Option.some (Jvm.ClassFile.FieldType.object "CompiledHouse$Block"))) ∈ lw_all := lw_g (lw_at lw_m7 147 rfl) rfl
def kX6_block : xK := (yX6_block, cX6_block, 1, some (.object "CompiledHouse$Block"), [])
theorem me_X6_block : xMe kX6_block 0 := ⟨q1783, q209, by decide, by decide, by decide +kernel⟩
theorem q1781 : (Jvm.Cond.instanceMethod ({ cls := "CompiledHouse$Maker", name := "block", desc := "()LCompiledHouse$Block;" } : Jvm.MethodName)) ∈ lw_all := lw_g (lw_at lw_m7 145 rfl) rfl
theorem is_X6_block : Cond.instanceMethod kX6_block.y ∈ lw_all := q1781
theorem se_X6_block : Cond.selects RX6 kX6_block.y kX6_block.y ∈ lw_all := q1782
theorem lk_X6_198 : xLk RX6 198 yX6_block := Or.inl q1780
theorem q1854 : (Jvm.Cond.methodLink "CompiledHouse$Maker" (202 : Nat) ({ cls := "CompiledHouse$Maker", name := "at", desc := "(LCompiledHouse$Block;)V" } : Jvm.MethodName)) ∈ lw_all := lw_g (lw_at lw_m7 218 rfl) rfl
abbrev cX6_at : ByteArray := prog_22_method_24_code
def yX6_at : MethodName := ⟨RX6, "at", "(LCompiledHouse$Block;)V"⟩
theorem q1857 : (Jvm.Cond.code ({ cls := "CompiledHouse$Maker", name := "at", desc := "(LCompiledHouse$Block;)V" } : Jvm.MethodName) prog_22_method_24_code (2 : Nat) (Option.none : Option Jvm.ClassFile.FieldType)) ∈ lw_all := lw_g (lw_at lw_m7 221 rfl) rfl
def kX6_at : xK := (yX6_at, cX6_at, 2, none, [])
theorem me_X6_at : xMe kX6_at 1 := ⟨q1857, q209, by decide, by decide, by decide +kernel⟩
theorem q1855 : (Jvm.Cond.instanceMethod ({ cls := "CompiledHouse$Maker", name := "at", desc := "(LCompiledHouse$Block;)V" } : Jvm.MethodName)) ∈ lw_all := lw_g (lw_at lw_m7 219 rfl) rfl
theorem is_X6_at : Cond.instanceMethod kX6_at.y ∈ lw_all := q1855
theorem se_X6_at : Cond.selects RX6 kX6_at.y kX6_at.y ∈ lw_all := q1856
theorem lk_X6_202 : xLk RX6 202 yX6_at := Or.inl q1854
theorem q1859 : (Jvm.Cond.methodLink "CompiledHouse$Maker" (117 : Nat) ({ cls := "CompiledHouse$Maker", name := "open", desc := "()I" } : Jvm.MethodName)) ∈ lw_all := lw_g (lw_at lw_m7 223 rfl) rfl
abbrev cX6_open : ByteArray := prog_22_method_11_code
def yX6_open : MethodName := ⟨RX6, "open", "()I"⟩
theorem q1862 : (Jvm.Cond.code ({ cls := "CompiledHouse$Maker", name := "open", desc := "()I" } : Jvm.MethodName) prog_22_method_11_code (2 : Nat) (Option.some Jvm.ClassFile.FieldType.int)) ∈ lw_all := lw_g (lw_at lw_m7 226 rfl) rfl
def kX6_open : xK := (yX6_open, cX6_open, 2, some .int, [])
theorem me_X6_open : xMe kX6_open 0 := ⟨q1862, q209, by decide, by decide, by decide +kernel⟩
theorem q1860 : (Jvm.Cond.instanceMethod ({ cls := "CompiledHouse$Maker", name := "open", desc := "()I" } : Jvm.MethodName)) ∈ lw_all := lw_g (lw_at lw_m7 224 rfl) rfl
theorem is_X6_open : Cond.instanceMethod kX6_open.y ∈ lw_all := q1860
theorem se_X6_open : Cond.selects RX6 kX6_open.y kX6_open.y ∈ lw_all := q1861
theorem lk_X6_117 : xLk RX6 117 yX6_open := Or.inl q1859
theorem q1131 : (Jvm.Cond.fieldLinkNest "CompiledHouse$Maker" (206 : Nat) "CompiledHouse$Told" "formals" "Ljava/util/ArrayList;" "CompiledHouse") ∈ lw_tbl := lw_at lw_m4 215 rfl
theorem f_X6_206_13 : xF RX6 206 13 8 := ⟨_, "CompiledHouse$Told", rfl, by decide, Or.inr ⟨_, q1131⟩, Or.inl rfl⟩
theorem q1863 : (Jvm.Cond.classLink "CompiledHouse$Maker" (209 : Nat) "CompiledHouse$Formal") ∈ lw_all := lw_g (lw_at lw_m7 227 rfl) rfl
theorem q1864 : (Jvm.Cond.methodLink "CompiledHouse$Maker" (211 : Nat) ({ cls := "CompiledHouse$Maker", name := "formal", desc := "(LCompiledHouse$Told;LCompiledHouse$Formal;I)V" } : Jvm.MethodName)) ∈ lw_all := lw_g (lw_at lw_m7 228 rfl) rfl
abbrev cX6_formal : ByteArray := prog_22_method_18_code
def yX6_formal : MethodName := ⟨RX6, "formal", "(LCompiledHouse$Told;LCompiledHouse$Formal;I)V"⟩
theorem q1867 : (Jvm.Cond.code ({ cls := "CompiledHouse$Maker", name := "formal", desc := "(LCompiledHouse$Told;LCompiledHouse$Formal;I)V" } : Jvm.MethodName) prog_22_method_18_code (7 : Nat) (Option.none : Option Jvm.ClassFile.FieldType)) ∈ lw_all := lw_g (lw_at lw_m7 231 rfl) rfl
def kX6_formal : xK := (yX6_formal, cX6_formal, 7, none, [])
theorem me_X6_formal : xMe kX6_formal 3 := ⟨q1867, q209, by decide, by decide, by decide +kernel⟩
theorem q1866 : (Jvm.Cond.instanceMethod ({ cls := "CompiledHouse$Maker", name := "formal", desc := "(LCompiledHouse$Told;LCompiledHouse$Formal;I)V" } : Jvm.MethodName)) ∈ lw_all := lw_g (lw_at lw_m7 230 rfl) rfl
theorem is_X6_formal : Cond.instanceMethod kX6_formal.y ∈ lw_all := q1866
theorem se_X6_formal : Cond.selects RX6 kX6_formal.y kX6_formal.y ∈ lw_all := qs44
theorem lk_X6_211 : xLk RX6 211 yX6_formal := Or.inl q1864
theorem q1134 : (Jvm.Cond.fieldLinkNest "CompiledHouse$Maker" (215 : Nat) "CompiledHouse$Told" "body" "LCompiledHouse$Block0;" "CompiledHouse") ∈ lw_tbl := lw_at lw_m4 218 rfl
theorem f_X6_215_13 : xF RX6 215 13 9 := ⟨_, "CompiledHouse$Told", rfl, by decide, Or.inr ⟨_, q1134⟩, Or.inl rfl⟩
theorem q1973 : (Jvm.Cond.methodLink "CompiledHouse$Maker" (219 : Nat) ({ cls := "CompiledHouse$Block0", name := "lowerAll", desc := "(LCompiledHouse$Maker;)V" } : Jvm.MethodName)) ∈ lw_all := lw_g (lw_at lw_m8 97 rfl) rfl
abbrev cX5_lowerAll : ByteArray := prog_6_method_3_code
def yX5_lowerAll : MethodName := ⟨RX5, "lowerAll", "(LCompiledHouse$Maker;)V"⟩
theorem q1976 : (Jvm.Cond.code ({ cls := "CompiledHouse$Block0", name := "lowerAll", desc := "(LCompiledHouse$Maker;)V" } : Jvm.MethodName) prog_6_method_3_code (3 : Nat) (Option.none : Option Jvm.ClassFile.FieldType)) ∈ lw_all := lw_g (lw_at lw_m8 100 rfl) rfl
def kX5_lowerAll : xK := (yX5_lowerAll, cX5_lowerAll, 3, none, [])
theorem me_X5_lowerAll : xMe kX5_lowerAll 1 := ⟨q1976, q205, by decide, by decide, by decide +kernel⟩
theorem q1974 : (Jvm.Cond.instanceMethod ({ cls := "CompiledHouse$Block0", name := "lowerAll", desc := "(LCompiledHouse$Maker;)V" } : Jvm.MethodName)) ∈ lw_all := lw_g (lw_at lw_m8 98 rfl) rfl
theorem is_X5_lowerAll : Cond.instanceMethod kX5_lowerAll.y ∈ lw_all := q1974
theorem se_X5_lowerAll : Cond.selects RX5 kX5_lowerAll.y kX5_lowerAll.y ∈ lw_all := q1975
theorem lk_X6_219 : xLk RX6 219 yX5_lowerAll := Or.inl q1973
theorem q2368 : (Jvm.Cond.methodLink "CompiledHouse$Maker" (126 : Nat) ({ cls := "CompiledHouse$Maker", name := "close", desc := "(I)V" } : Jvm.MethodName)) ∈ lw_all := lw_g (lw_at lw_m10 12 rfl) rfl
abbrev cX6_close : ByteArray := prog_22_method_12_code
def yX6_close : MethodName := ⟨RX6, "close", "(I)V"⟩
theorem q2224 : (Jvm.Cond.code ({ cls := "CompiledHouse$Maker", name := "close", desc := "(I)V" } : Jvm.MethodName) prog_22_method_12_code (2 : Nat) (Option.none : Option Jvm.ClassFile.FieldType)) ∈ lw_all := lw_g (lw_at lw_m9 108 rfl) rfl
def kX6_close : xK := (yX6_close, cX6_close, 2, none, [])
theorem me_X6_close : xMe kX6_close 1 := ⟨q2224, q209, by decide, by decide, by decide +kernel⟩
theorem q2222 : (Jvm.Cond.instanceMethod ({ cls := "CompiledHouse$Maker", name := "close", desc := "(I)V" } : Jvm.MethodName)) ∈ lw_all := lw_g (lw_at lw_m9 106 rfl) rfl
theorem is_X6_close : Cond.instanceMethod kX6_close.y ∈ lw_all := q2222
theorem se_X6_close : Cond.selects RX6 kX6_close.y kX6_close.y ∈ lw_all := q2223
theorem lk_X6_126 : xLk RX6 126 yX6_close := Or.inl q2368
theorem q533 : (Jvm.Cond.fieldLink "CompiledHouse$Maker" (224 : Nat) "CompiledHouse$Maker" "now" "LCompiledHouse$Block;") ∈ lw_all := lw_g (lw_at lw_m2 97 rfl) rfl
theorem f_X6_224_5 : xF RX6 224 5 10 := ⟨_, "CompiledHouse$Maker", rfl, by decide, Or.inl q533, Or.inl rfl⟩
theorem q1801 : (Jvm.Cond.fieldLinkNest "CompiledHouse$Maker" (227 : Nat) "CompiledHouse$Block" "end" "I" "CompiledHouse") ∈ lw_tbl := lw_at lw_m7 165 rfl
theorem f_X6_227_34 : xF RX6 227 34 1 := ⟨_, "CompiledHouse$Block", rfl, by decide, Or.inr ⟨_, q1801⟩, Or.inl rfl⟩
theorem q2091 : (Jvm.Cond.methodLink "CompiledHouse$Maker" (232 : Nat) ({ cls := "CompiledHouse$Maker", name := "constant", desc := "(I)J" } : Jvm.MethodName)) ∈ lw_all := lw_g (lw_at lw_m8 215 rfl) rfl
theorem lk_X6_232 : xLk RX6 232 yX6_constant := Or.inl q2091
theorem q2081 : (Jvm.Cond.methodLink "CompiledHouse$Maker" (235 : Nat) ({ cls := "CompiledHouse$Block", name := "ends", desc := "(IJLCompiledHouse$Block;)V" } : Jvm.MethodName)) ∈ lw_all := lw_g (lw_at lw_m8 205 rfl) rfl
theorem lk_X6_235 : xLk RX6 235 yX36_ends := Or.inl q2081
theorem q2376 : (Jvm.Cond.methodLink "CompiledHouse$Maker" (239 : Nat) ({ cls := "CompiledHouse$Told", name := "words", desc := "()I" } : Jvm.MethodName)) ∈ lw_all := lw_g (lw_at lw_m10 20 rfl) rfl
theorem lk_X6_239 : xLk RX6 239 yX14_words := Or.inl q2376
theorem q1140 : (Jvm.Cond.fieldLinkNest "CompiledHouse$Maker" (241 : Nat) "CompiledHouse$Told" "measure" "I" "CompiledHouse") ∈ lw_tbl := lw_at lw_m4 224 rfl
theorem f_X6_241_13 : xF RX6 241 13 12 := ⟨_, "CompiledHouse$Told", rfl, by decide, Or.inr ⟨_, q1140⟩, Or.inl rfl⟩
theorem q1784 : (Jvm.Cond.classLink "CompiledHouse$Maker" (228 : Nat) "CompiledHouse$Block") ∈ lw_all := lw_g (lw_at lw_m7 148 rfl) rfl
theorem q1786 : (Jvm.Cond.methodLinkNest "CompiledHouse$Maker" (289 : Nat) ({ cls := "CompiledHouse$Block", name := "<init>", desc := "()V" } : Jvm.MethodName) "CompiledHouse") ∈ lw_tbl := lw_at lw_m7 150 rfl
theorem lk_X6_289 : xLk RX6 289 yX36_init := Or.inr ⟨_, q1786⟩
theorem q1758 : (Jvm.Cond.fieldLinkNest "CompiledHouse$Maker" (290 : Nat) "CompiledHouse$Code" "blocks" "Ljava/util/ArrayList;" "CompiledHouse") ∈ lw_tbl := lw_at lw_m7 122 rfl
theorem f_X6_290_33 : xF RX6 290 33 1 := ⟨_, "CompiledHouse$Code", rfl, by decide, Or.inr ⟨_, q1758⟩, Or.inl rfl⟩
theorem q1858 : (Jvm.Cond.methodLink "CompiledHouse$Maker" (110 : Nat) ({ cls := "java/util/ArrayList", name := "add", desc := "(Ljava/lang/Object;)Z" } : Jvm.MethodName)) ∈ lw_all := lw_g (lw_at lw_m7 222 rfl) rfl
theorem lk_X6_110 : xLk RX6 110 yJ5_add := Or.inl q1858
theorem q1121 : (Jvm.Cond.fieldLinkNest "CompiledHouse$Maker" (98 : Nat) "CompiledHouse$Told" "isMain" "Z" "CompiledHouse") ∈ lw_tbl := lw_at lw_m4 205 rfl
theorem f_X6_98_13 : xF RX6 98 13 5 := ⟨_, "CompiledHouse$Told", rfl, by decide, Or.inr ⟨_, q1121⟩, Or.inl rfl⟩
theorem q1487 : (Jvm.Cond.fieldLinkNest "CompiledHouse$Maker" (244 : Nat) "CompiledHouse$Formal" "first" "I" "CompiledHouse") ∈ lw_tbl := lw_at lw_m6 91 rfl
theorem f_X6_244_22 : xF RX6 244 22 2 := ⟨_, "CompiledHouse$Formal", rfl, by decide, Or.inr ⟨_, q1487⟩, Or.inl rfl⟩
theorem q1483 : (Jvm.Cond.fieldLinkNest "CompiledHouse$Maker" (245 : Nat) "CompiledHouse$Formal" "name" "I" "CompiledHouse") ∈ lw_tbl := lw_at lw_m6 87 rfl
theorem f_X6_245_22 : xF RX6 245 22 0 := ⟨_, "CompiledHouse$Formal", rfl, by decide, Or.inr ⟨_, q1483⟩, Or.inl rfl⟩
theorem q1485 : (Jvm.Cond.fieldLinkNest "CompiledHouse$Maker" (246 : Nat) "CompiledHouse$Formal" "place" "I" "CompiledHouse") ∈ lw_tbl := lw_at lw_m6 89 rfl
theorem f_X6_246_22 : xF RX6 246 22 1 := ⟨_, "CompiledHouse$Formal", rfl, by decide, Or.inr ⟨_, q1485⟩, Or.inl rfl⟩
theorem q1868 : (Jvm.Cond.methodLink "CompiledHouse$Maker" (247 : Nat) ({ cls := "CompiledHouse$Maker", name := "unused", desc := "(II)V" } : Jvm.MethodName)) ∈ lw_all := lw_g (lw_at lw_m7 232 rfl) rfl
abbrev cX6_unused : ByteArray := prog_22_method_9_code
def yX6_unused : MethodName := ⟨RX6, "unused", "(II)V"⟩
theorem q1871 : (Jvm.Cond.code ({ cls := "CompiledHouse$Maker", name := "unused", desc := "(II)V" } : Jvm.MethodName) prog_22_method_9_code (4 : Nat) (Option.none : Option Jvm.ClassFile.FieldType)) ∈ lw_all := lw_g (lw_at lw_m7 235 rfl) rfl
def kX6_unused : xK := (yX6_unused, cX6_unused, 4, none, [])
theorem me_X6_unused : xMe kX6_unused 2 := ⟨q1871, q209, by decide, by decide, by decide +kernel⟩
theorem q1869 : (Jvm.Cond.instanceMethod ({ cls := "CompiledHouse$Maker", name := "unused", desc := "(II)V" } : Jvm.MethodName)) ∈ lw_all := lw_g (lw_at lw_m7 233 rfl) rfl
theorem is_X6_unused : Cond.instanceMethod kX6_unused.y ∈ lw_all := q1869
theorem se_X6_unused : Cond.selects RX6 kX6_unused.y kX6_unused.y ∈ lw_all := q1870
theorem lk_X6_247 : xLk RX6 247 yX6_unused := Or.inl q1868
theorem q1491 : (Jvm.Cond.fieldLinkNest "CompiledHouse$Maker" (251 : Nat) "CompiledHouse$Formal" "isArray" "Z" "CompiledHouse") ∈ lw_tbl := lw_at lw_m6 95 rfl
theorem f_X6_251_22 : xF RX6 251 22 3 := ⟨_, "CompiledHouse$Formal", rfl, by decide, Or.inr ⟨_, q1491⟩, Or.inl rfl⟩
theorem q1872 : (Jvm.Cond.methodLink "CompiledHouse$Maker" (254 : Nat) ({ cls := "CompiledHouse$Maker", name := "register", desc := "()I" } : Jvm.MethodName)) ∈ lw_all := lw_g (lw_at lw_m7 236 rfl) rfl
abbrev cX6_register : ByteArray := prog_22_method_21_code
def yX6_register : MethodName := ⟨RX6, "register", "()I"⟩
theorem q1875 : (Jvm.Cond.code ({ cls := "CompiledHouse$Maker", name := "register", desc := "()I" } : Jvm.MethodName) prog_22_method_21_code (1 : Nat) (Option.some Jvm.ClassFile.FieldType.int)) ∈ lw_all := lw_g (lw_at lw_m7 239 rfl) rfl
def kX6_register : xK := (yX6_register, cX6_register, 1, some .int, [])
theorem me_X6_register : xMe kX6_register 0 := ⟨q1875, q209, by decide, by decide, by decide +kernel⟩
theorem q1873 : (Jvm.Cond.instanceMethod ({ cls := "CompiledHouse$Maker", name := "register", desc := "()I" } : Jvm.MethodName)) ∈ lw_all := lw_g (lw_at lw_m7 237 rfl) rfl
theorem is_X6_register : Cond.instanceMethod kX6_register.y ∈ lw_all := q1873
theorem se_X6_register : Cond.selects RX6 kX6_register.y kX6_register.y ∈ lw_all := q1874
theorem lk_X6_254 : xLk RX6 254 yX6_register := Or.inl q1872
theorem q1876 : (Jvm.Cond.methodLink "CompiledHouse$Maker" (257 : Nat) ({ cls := "CompiledHouse$Maker", name := "variable", desc := "()I" } : Jvm.MethodName)) ∈ lw_all := lw_g (lw_at lw_m8 0 rfl) rfl
abbrev cX6_variable : ByteArray := prog_22_method_22_code
def yX6_variable : MethodName := ⟨RX6, "variable", "()I"⟩
theorem q1879 : (Jvm.Cond.code ({ cls := "CompiledHouse$Maker", name := "variable", desc := "()I" } : Jvm.MethodName) prog_22_method_22_code (1 : Nat) (Option.some Jvm.ClassFile.FieldType.int)) ∈ lw_all := lw_g (lw_at lw_m8 3 rfl) rfl
def kX6_variable : xK := (yX6_variable, cX6_variable, 1, some .int, [])
theorem me_X6_variable : xMe kX6_variable 0 := ⟨q1879, q209, by decide, by decide, by decide +kernel⟩
theorem q1877 : (Jvm.Cond.instanceMethod ({ cls := "CompiledHouse$Maker", name := "variable", desc := "()I" } : Jvm.MethodName)) ∈ lw_all := lw_g (lw_at lw_m8 1 rfl) rfl
theorem is_X6_variable : Cond.instanceMethod kX6_variable.y ∈ lw_all := q1877
theorem se_X6_variable : Cond.selects RX6 kX6_variable.y kX6_variable.y ∈ lw_all := q1878
theorem lk_X6_257 : xLk RX6 257 yX6_variable := Or.inl q1876
theorem q1900 : (Jvm.Cond.methodLink "CompiledHouse$Maker" (260 : Nat) ({ cls := "CompiledHouse$Maker", name := "emit", desc := "(IIJJ)LCompiledHouse$Act;" } : Jvm.MethodName)) ∈ lw_all := lw_g (lw_at lw_m8 24 rfl) rfl
abbrev cX6_emit : ByteArray := prog_22_method_25_code
def yX6_emit : MethodName := ⟨RX6, "emit", "(IIJJ)LCompiledHouse$Act;"⟩
theorem q1903 : (Jvm.Cond.code ({ cls := "CompiledHouse$Maker", name := "emit", desc := "(IIJJ)LCompiledHouse$Act;" } : Jvm.MethodName) prog_22_method_25_code (8 : Nat) (Option.some (Jvm.ClassFile.FieldType.object "CompiledHouse$Act"))) ∈ lw_all := lw_g (lw_at lw_m8 27 rfl) rfl
def kX6_emit : xK := (yX6_emit, cX6_emit, 8, some (.object "CompiledHouse$Act"), [])
theorem me_X6_emit : xMe kX6_emit 4 := ⟨q1903, q209, by decide, by decide, by decide +kernel⟩
theorem q1902 : (Jvm.Cond.instanceMethod ({ cls := "CompiledHouse$Maker", name := "emit", desc := "(IIJJ)LCompiledHouse$Act;" } : Jvm.MethodName)) ∈ lw_all := lw_g (lw_at lw_m8 26 rfl) rfl
theorem is_X6_emit : Cond.instanceMethod kX6_emit.y ∈ lw_all := q1902
theorem se_X6_emit : Cond.selects RX6 kX6_emit.y kX6_emit.y ∈ lw_all := qs45
theorem lk_X6_260 : xLk RX6 260 yX6_emit := Or.inl q1900
theorem q1935 : (Jvm.Cond.fieldLinkNest "CompiledHouse$Maker" (264 : Nat) "CompiledHouse$Act" "n" "I" "CompiledHouse") ∈ lw_tbl := lw_at lw_m8 59 rfl
theorem f_X6_264_35 : xF RX6 264 35 5 := ⟨_, "CompiledHouse$Act", rfl, by decide, Or.inr ⟨_, q1935⟩, Or.inl rfl⟩
theorem q1494 : (Jvm.Cond.fieldLinkNest "CompiledHouse$Maker" (269 : Nat) "CompiledHouse$Formal" "isByte" "Z" "CompiledHouse") ∈ lw_tbl := lw_at lw_m6 98 rfl
theorem f_X6_269_22 : xF RX6 269 22 4 := ⟨_, "CompiledHouse$Formal", rfl, by decide, Or.inr ⟨_, q1494⟩, Or.inl rfl⟩
theorem q1969 : (Jvm.Cond.methodLink "CompiledHouse$Maker" (270 : Nat) ({ cls := "CompiledHouse$Maker", name := "know", desc := "(LCompiledHouse$Symbol;)V" } : Jvm.MethodName)) ∈ lw_all := lw_g (lw_at lw_m8 93 rfl) rfl
abbrev cX6_know : ByteArray := prog_22_method_10_code
def yX6_know : MethodName := ⟨RX6, "know", "(LCompiledHouse$Symbol;)V"⟩
theorem q1972 : (Jvm.Cond.code ({ cls := "CompiledHouse$Maker", name := "know", desc := "(LCompiledHouse$Symbol;)V" } : Jvm.MethodName) prog_22_method_10_code (2 : Nat) (Option.none : Option Jvm.ClassFile.FieldType)) ∈ lw_all := lw_g (lw_at lw_m8 96 rfl) rfl
def kX6_know : xK := (yX6_know, cX6_know, 2, none, [])
theorem me_X6_know : xMe kX6_know 1 := ⟨q1972, q209, by decide, by decide, by decide +kernel⟩
theorem q1970 : (Jvm.Cond.instanceMethod ({ cls := "CompiledHouse$Maker", name := "know", desc := "(LCompiledHouse$Symbol;)V" } : Jvm.MethodName)) ∈ lw_all := lw_g (lw_at lw_m8 94 rfl) rfl
theorem is_X6_know : Cond.instanceMethod kX6_know.y ∈ lw_all := q1970
theorem se_X6_know : Cond.selects RX6 kX6_know.y kX6_know.y ∈ lw_all := q1971
theorem lk_X6_270 : xLk RX6 270 yX6_know := Or.inl q1969
theorem q1696 : (Jvm.Cond.fieldLinkNest "CompiledHouse$Maker" (105 : Nat) "CompiledHouse$Symbol" "name" "I" "CompiledHouse") ∈ lw_tbl := lw_at lw_m7 60 rfl
theorem f_X6_105_32 : xF RX6 105 32 0 := ⟨_, "CompiledHouse$Symbol", rfl, by decide, Or.inr ⟨_, q1696⟩, Or.inl rfl⟩
theorem q1763 : (Jvm.Cond.fieldLinkNest "CompiledHouse$Maker" (277 : Nat) "CompiledHouse$Code" "registers" "I" "CompiledHouse") ∈ lw_tbl := lw_at lw_m7 127 rfl
theorem f_X6_277_33 : xF RX6 277 33 2 := ⟨_, "CompiledHouse$Code", rfl, by decide, Or.inr ⟨_, q1763⟩, Or.inl rfl⟩
theorem q1768 : (Jvm.Cond.fieldLinkNest "CompiledHouse$Maker" (280 : Nat) "CompiledHouse$Code" "variables" "Ljava/util/ArrayList;" "CompiledHouse") ∈ lw_tbl := lw_at lw_m7 132 rfl
theorem f_X6_280_33 : xF RX6 280 33 4 := ⟨_, "CompiledHouse$Code", rfl, by decide, Or.inr ⟨_, q1768⟩, Or.inl rfl⟩
theorem q1880 : (Jvm.Cond.methodLink "CompiledHouse$Maker" (283 : Nat) ({ cls := "java/lang/Integer", name := "valueOf", desc := "(I)Ljava/lang/Integer;" } : Jvm.MethodName)) ∈ lw_all := lw_g (lw_at lw_m8 4 rfl) rfl
theorem lk_X6_283 : xLk RX6 283 yJ15_valueOf := Or.inl q1880
theorem q1904 : (Jvm.Cond.classLink "CompiledHouse$Maker" (265 : Nat) "CompiledHouse$Act") ∈ lw_all := lw_g (lw_at lw_m8 28 rfl) rfl
theorem q1906 : (Jvm.Cond.methodLink "CompiledHouse$Maker" (293 : Nat) ({ cls := "CompiledHouse$Act", name := "<init>", desc := "(IIJJ)V" } : Jvm.MethodName)) ∈ lw_all := lw_g (lw_at lw_m8 30 rfl) rfl
theorem lk_X6_293 : xLk RX6 293 yX37_init := Or.inl q1906
theorem q1797 : (Jvm.Cond.fieldLinkNest "CompiledHouse$Maker" (296 : Nat) "CompiledHouse$Block" "acts" "Ljava/util/ArrayList;" "CompiledHouse") ∈ lw_tbl := lw_at lw_m7 161 rfl
theorem f_X6_296_34 : xF RX6 296 34 0 := ⟨_, "CompiledHouse$Block", rfl, by decide, Or.inr ⟨_, q1797⟩, Or.inl rfl⟩
abbrev cX6_known : ByteArray := prog_22_method_8_code
def yX6_known : MethodName := ⟨RX6, "known", "(II)LCompiledHouse$Symbol;"⟩
theorem q1993 : (Jvm.Cond.code ({ cls := "CompiledHouse$Maker", name := "known", desc := "(II)LCompiledHouse$Symbol;" } : Jvm.MethodName) prog_22_method_8_code (4 : Nat) (Option.some (Jvm.ClassFile.FieldType.object "CompiledHouse$Symbol"))) ∈ lw_all := lw_g (lw_at lw_m8 117 rfl) rfl
def kX6_known : xK := (yX6_known, cX6_known, 4, some (.object "CompiledHouse$Symbol"), [])
theorem me_X6_known : xMe kX6_known 2 := ⟨q1993, q209, by decide, by decide, by decide +kernel⟩
theorem q1991 : (Jvm.Cond.instanceMethod ({ cls := "CompiledHouse$Maker", name := "known", desc := "(II)LCompiledHouse$Symbol;" } : Jvm.MethodName)) ∈ lw_all := lw_g (lw_at lw_m8 115 rfl) rfl
theorem is_X6_known : Cond.instanceMethod kX6_known.y ∈ lw_all := q1991
theorem se_X6_known : Cond.selects RX6 kX6_known.y kX6_known.y ∈ lw_all := q1992
theorem q1994 : (Jvm.Cond.methodLink "CompiledHouse$Maker" (106 : Nat) ({ cls := "CompiledHouse$Maker", name := "find", desc := "(I)LCompiledHouse$Symbol;" } : Jvm.MethodName)) ∈ lw_all := lw_g (lw_at lw_m8 118 rfl) rfl
abbrev cX6_find : ByteArray := prog_22_method_7_code
def yX6_find : MethodName := ⟨RX6, "find", "(I)LCompiledHouse$Symbol;"⟩
theorem q1997 : (Jvm.Cond.code ({ cls := "CompiledHouse$Maker", name := "find", desc := "(I)LCompiledHouse$Symbol;" } : Jvm.MethodName) prog_22_method_7_code (4 : Nat) (Option.some (Jvm.ClassFile.FieldType.object "CompiledHouse$Symbol"))) ∈ lw_all := lw_g (lw_at lw_m8 121 rfl) rfl
def kX6_find : xK := (yX6_find, cX6_find, 4, some (.object "CompiledHouse$Symbol"), [])
theorem me_X6_find : xMe kX6_find 1 := ⟨q1997, q209, by decide, by decide, by decide +kernel⟩
theorem q1996 : (Jvm.Cond.instanceMethod ({ cls := "CompiledHouse$Maker", name := "find", desc := "(I)LCompiledHouse$Symbol;" } : Jvm.MethodName)) ∈ lw_all := lw_g (lw_at lw_m8 120 rfl) rfl
theorem is_X6_find : Cond.instanceMethod kX6_find.y ∈ lw_all := q1996
theorem se_X6_find : Cond.selects RX6 kX6_find.y kX6_find.y ∈ lw_all := qs46
theorem lk_X6_106 : xLk RX6 106 yX6_find := Or.inl q1994
abbrev cX6_index : ByteArray := prog_22_method_31_code
def yX6_index : MethodName := ⟨RX6, "index", "(LCompiledHouse$Symbol;LCompiledHouse$Expr;I)J"⟩
theorem q2011 : (Jvm.Cond.code ({ cls := "CompiledHouse$Maker", name := "index", desc := "(LCompiledHouse$Symbol;LCompiledHouse$Expr;I)J" } : Jvm.MethodName) prog_22_method_31_code (6 : Nat) (Option.some Jvm.ClassFile.FieldType.long)) ∈ lw_all := lw_g (lw_at lw_m8 135 rfl) rfl
def kX6_index : xK := (yX6_index, cX6_index, 6, some .long, [])
theorem me_X6_index : xMe kX6_index 3 := ⟨q2011, q209, by decide, by decide, by decide +kernel⟩
theorem q2009 : (Jvm.Cond.instanceMethod ({ cls := "CompiledHouse$Maker", name := "index", desc := "(LCompiledHouse$Symbol;LCompiledHouse$Expr;I)J" } : Jvm.MethodName)) ∈ lw_all := lw_g (lw_at lw_m8 133 rfl) rfl
theorem is_X6_index : Cond.instanceMethod kX6_index.y ∈ lw_all := q2009
theorem se_X6_index : Cond.selects RX6 kX6_index.y kX6_index.y ∈ lw_all := q2010
theorem q2012 : (Jvm.Cond.methodLink "CompiledHouse$Maker" (326 : Nat) ({ cls := "CompiledHouse$Expr", name := "value", desc := "(LCompiledHouse$Maker;)J" } : Jvm.MethodName)) ∈ lw_all := lw_g (lw_at lw_m8 136 rfl) rfl
theorem q2201 : (Jvm.Cond.methodLink "CompiledHouse$Maker" (329 : Nat) ({ cls := "CompiledHouse$Maker", name := "length", desc := "(LCompiledHouse$Symbol;)J" } : Jvm.MethodName)) ∈ lw_all := lw_g (lw_at lw_m9 85 rfl) rfl
abbrev cX6_length : ByteArray := prog_22_method_32_code
def yX6_length : MethodName := ⟨RX6, "length", "(LCompiledHouse$Symbol;)J"⟩
theorem q2184 : (Jvm.Cond.code ({ cls := "CompiledHouse$Maker", name := "length", desc := "(LCompiledHouse$Symbol;)J" } : Jvm.MethodName) prog_22_method_32_code (2 : Nat) (Option.some Jvm.ClassFile.FieldType.long)) ∈ lw_all := lw_g (lw_at lw_m9 68 rfl) rfl
def kX6_length : xK := (yX6_length, cX6_length, 2, some .long, [])
theorem me_X6_length : xMe kX6_length 1 := ⟨q2184, q209, by decide, by decide, by decide +kernel⟩
theorem q2182 : (Jvm.Cond.instanceMethod ({ cls := "CompiledHouse$Maker", name := "length", desc := "(LCompiledHouse$Symbol;)J" } : Jvm.MethodName)) ∈ lw_all := lw_g (lw_at lw_m9 66 rfl) rfl
theorem is_X6_length : Cond.instanceMethod kX6_length.y ∈ lw_all := q2182
theorem se_X6_length : Cond.selects RX6 kX6_length.y kX6_length.y ∈ lw_all := q2183
theorem lk_X6_329 : xLk RX6 329 yX6_length := Or.inl q2201
theorem q2108 : (Jvm.Cond.methodLink "CompiledHouse$Maker" (299 : Nat) ({ cls := "CompiledHouse$Maker", name := "act", desc := "(IJJ)J" } : Jvm.MethodName)) ∈ lw_all := lw_g (lw_at lw_m8 232 rfl) rfl
abbrev cX6_act : ByteArray := prog_22_method_26_code
def yX6_act : MethodName := ⟨RX6, "act", "(IJJ)J"⟩
theorem q2107 : (Jvm.Cond.code ({ cls := "CompiledHouse$Maker", name := "act", desc := "(IJJ)J" } : Jvm.MethodName) prog_22_method_26_code (6 : Nat) (Option.some Jvm.ClassFile.FieldType.long)) ∈ lw_all := lw_g (lw_at lw_m8 231 rfl) rfl
def kX6_act : xK := (yX6_act, cX6_act, 6, some .long, [])
theorem me_X6_act : xMe kX6_act 3 := ⟨q2107, q209, by decide, by decide, by decide +kernel⟩
theorem q2105 : (Jvm.Cond.instanceMethod ({ cls := "CompiledHouse$Maker", name := "act", desc := "(IJJ)J" } : Jvm.MethodName)) ∈ lw_all := lw_g (lw_at lw_m8 229 rfl) rfl
theorem is_X6_act : Cond.instanceMethod kX6_act.y ∈ lw_all := q2105
theorem se_X6_act : Cond.selects RX6 kX6_act.y kX6_act.y ∈ lw_all := q2106
theorem lk_X6_299 : xLk RX6 299 yX6_act := Or.inl q2108
theorem dX6_init_0 : decode cX6_init 0 = .ok (.aload_n 0, 1) := by decide +kernel
theorem dX6_init_1 : decode cX6_init 1 = .ok (.invokespecial 3, 3) := by decide +kernel
theorem dX6_init_4 : decode cX6_init 4 = .ok (.aload_n 0, 1) := by decide +kernel
theorem dX6_init_5 : decode cX6_init 5 = .ok (.new 9, 3) := by decide +kernel
theorem dX6_init_8 : decode cX6_init 8 = .ok (.dup, 1) := by decide +kernel
theorem dX6_init_9 : decode cX6_init 9 = .ok (.invokespecial 11, 3) := by decide +kernel
theorem dX6_init_12 : decode cX6_init 12 = .ok (.putfield 12, 3) := by decide +kernel
theorem dX6_init_15 : decode cX6_init 15 = .ok (.aload_n 0, 1) := by decide +kernel
theorem dX6_init_16 : decode cX6_init 16 = .ok (.new 18, 3) := by decide +kernel
theorem dX6_init_19 : decode cX6_init 19 = .ok (.dup, 1) := by decide +kernel
theorem dX6_init_20 : decode cX6_init 20 = .ok (.invokespecial 20, 3) := by decide +kernel
theorem dX6_init_23 : decode cX6_init 23 = .ok (.putfield 21, 3) := by decide +kernel
theorem dX6_init_26 : decode cX6_init 26 = .ok (.aload_n 0, 1) := by decide +kernel
theorem dX6_init_27 : decode cX6_init 27 = .ok (.sipush 2000, 3) := by decide +kernel
theorem dX6_init_30 : decode cX6_init 30 = .ok (.newarray .int, 2) := by decide +kernel
theorem dX6_init_32 : decode cX6_init 32 = .ok (.putfield 25, 3) := by decide +kernel
theorem dX6_init_35 : decode cX6_init 35 = .ok (.return_, 1) := by decide +kernel
theorem dX6_make_0 : decode cX6_make 0 = .ok (.aload_n 0, 1) := by decide +kernel
theorem dX6_make_1 : decode cX6_make 1 = .ok (.aload_n 1, 1) := by decide +kernel
theorem dX6_make_2 : decode cX6_make 2 = .ok (.putfield 40, 3) := by decide +kernel
theorem dX6_make_5 : decode cX6_make 5 = .ok (.aload_n 0, 1) := by decide +kernel
theorem dX6_make_6 : decode cX6_make 6 = .ok (.iconst 0, 1) := by decide +kernel
theorem dX6_make_7 : decode cX6_make 7 = .ok (.putfield 33, 3) := by decide +kernel
theorem dX6_make_10 : decode cX6_make 10 = .ok (.aload_n 0, 1) := by decide +kernel
theorem dX6_make_11 : decode cX6_make 11 = .ok (.iconst 0, 1) := by decide +kernel
theorem dX6_make_12 : decode cX6_make 12 = .ok (.putfield 43, 3) := by decide +kernel
theorem dX6_make_15 : decode cX6_make 15 = .ok (.aload_n 0, 1) := by decide +kernel
theorem dX6_make_16 : decode cX6_make 16 = .ok (.iconst 0, 1) := by decide +kernel
theorem dX6_make_17 : decode cX6_make 17 = .ok (.putfield 46, 3) := by decide +kernel
theorem dX6_make_20 : decode cX6_make 20 = .ok (.aload_n 0, 1) := by decide +kernel
theorem dX6_make_21 : decode cX6_make 21 = .ok (.iconst 0, 1) := by decide +kernel
theorem dX6_make_22 : decode cX6_make 22 = .ok (.putfield 49, 3) := by decide +kernel
theorem dX6_make_25 : decode cX6_make 25 = .ok (.aload_n 0, 1) := by decide +kernel
theorem dX6_make_26 : decode cX6_make 26 = .ok (.getfield 21, 3) := by decide +kernel
theorem dX6_make_29 : decode cX6_make 29 = .ok (.invokevirtual 52, 3) := by decide +kernel
theorem dX6_make_32 : decode cX6_make 32 = .ok (.iconst 0, 1) := by decide +kernel
theorem dX6_make_33 : decode cX6_make 33 = .ok (.istore_n 3, 1) := by decide +kernel
theorem dX6_make_34 : decode cX6_make 34 = .ok (.iload_n 3, 1) := by decide +kernel
theorem dX6_make_35 : decode cX6_make 35 = .ok (.aload_n 0, 1) := by decide +kernel
theorem dX6_make_36 : decode cX6_make 36 = .ok (.getfield 25, 3) := by decide +kernel
theorem dX6_make_39 : decode cX6_make 39 = .ok (.arraylength, 1) := by decide +kernel
theorem dX6_make_40 : decode cX6_make 40 = .ok (.if_icmp .ge 16, 3) := by decide +kernel
theorem dX6_make_43 : decode cX6_make 43 = .ok (.aload_n 0, 1) := by decide +kernel
theorem dX6_make_44 : decode cX6_make 44 = .ok (.getfield 25, 3) := by decide +kernel
theorem dX6_make_47 : decode cX6_make 47 = .ok (.iload_n 3, 1) := by decide +kernel
theorem dX6_make_48 : decode cX6_make 48 = .ok (.iconst 0, 1) := by decide +kernel
theorem dX6_make_49 : decode cX6_make 49 = .ok (.iastore, 1) := by decide +kernel
theorem dX6_make_50 : decode cX6_make 50 = .ok (.iinc 3 1, 3) := by decide +kernel
theorem dX6_make_53 : decode cX6_make 53 = .ok (.goto (-19), 3) := by decide +kernel
theorem dX6_make_56 : decode cX6_make 56 = .ok (.iconst 0, 1) := by decide +kernel
theorem dX6_make_57 : decode cX6_make 57 = .ok (.istore_n 3, 1) := by decide +kernel
theorem dX6_make_58 : decode cX6_make 58 = .ok (.iload_n 3, 1) := by decide +kernel
theorem dX6_make_59 : decode cX6_make 59 = .ok (.aload_n 0, 1) := by decide +kernel
theorem dX6_make_60 : decode cX6_make 60 = .ok (.getfield 40, 3) := by decide +kernel
theorem dX6_make_63 : decode cX6_make 63 = .ok (.invokevirtual 55, 3) := by decide +kernel
theorem dX6_make_66 : decode cX6_make 66 = .ok (.if_icmp .ge 65, 3) := by decide +kernel
theorem dX6_make_69 : decode cX6_make 69 = .ok (.aload_n 0, 1) := by decide +kernel
theorem dX6_make_70 : decode cX6_make 70 = .ok (.getfield 40, 3) := by decide +kernel
theorem dX6_make_73 : decode cX6_make 73 = .ok (.iload_n 3, 1) := by decide +kernel
theorem dX6_make_74 : decode cX6_make 74 = .ok (.invokevirtual 59, 3) := by decide +kernel
theorem dX6_make_77 : decode cX6_make 77 = .ok (.checkcast 63, 3) := by decide +kernel
theorem dX6_make_80 : decode cX6_make 80 = .ok (.astore 4, 2) := by decide +kernel
theorem dX6_make_82 : decode cX6_make 82 = .ok (.aload 4, 2) := by decide +kernel
theorem dX6_make_84 : decode cX6_make 84 = .ok (.getfield 65, 3) := by decide +kernel
theorem dX6_make_87 : decode cX6_make 87 = .ok (.bipush 6, 2) := by decide +kernel
theorem dX6_make_89 : decode cX6_make 89 = .ok (.if_icmp .eq 6, 3) := by decide +kernel
theorem dX6_make_92 : decode cX6_make 92 = .ok (.goto 33, 3) := by decide +kernel
theorem dX6_make_95 : decode cX6_make 95 = .ok (.aload 4, 2) := by decide +kernel
theorem dX6_make_97 : decode cX6_make 97 = .ok (.new 68, 3) := by decide +kernel
theorem dX6_make_100 : decode cX6_make 100 = .ok (.dup, 1) := by decide +kernel
theorem dX6_make_101 : decode cX6_make 101 = .ok (.aload 4, 2) := by decide +kernel
theorem dX6_make_103 : decode cX6_make 103 = .ok (.getfield 70, 3) := by decide +kernel
theorem dX6_make_106 : decode cX6_make 106 = .ok (.bipush 6, 2) := by decide +kernel
theorem dX6_make_108 : decode cX6_make 108 = .ok (.iconst 0, 1) := by decide +kernel
theorem dX6_make_109 : decode cX6_make 109 = .ok (.invokespecial 73, 3) := by decide +kernel
theorem dX6_make_112 : decode cX6_make 112 = .ok (.putfield 76, 3) := by decide +kernel
theorem dX6_make_115 : decode cX6_make 115 = .ok (.aload 4, 2) := by decide +kernel
theorem dX6_make_117 : decode cX6_make 117 = .ok (.getfield 76, 3) := by decide +kernel
theorem dX6_make_120 : decode cX6_make 120 = .ok (.aload 4, 2) := by decide +kernel
theorem dX6_make_122 : decode cX6_make 122 = .ok (.putfield 80, 3) := by decide +kernel
theorem dX6_make_125 : decode cX6_make 125 = .ok (.iinc 3 1, 3) := by decide +kernel
theorem dX6_make_128 : decode cX6_make 128 = .ok (.goto (-70), 3) := by decide +kernel
theorem dX6_make_131 : decode cX6_make 131 = .ok (.aload_n 0, 1) := by decide +kernel
theorem dX6_make_132 : decode cX6_make 132 = .ok (.iconst 0, 1) := by decide +kernel
theorem dX6_make_133 : decode cX6_make 133 = .ok (.putfield 84, 3) := by decide +kernel
theorem dX6_make_136 : decode cX6_make 136 = .ok (.aload_n 0, 1) := by decide +kernel
theorem dX6_make_137 : decode cX6_make 137 = .ok (.getfield 84, 3) := by decide +kernel
theorem dX6_make_140 : decode cX6_make 140 = .ok (.aload_n 0, 1) := by decide +kernel
theorem dX6_make_141 : decode cX6_make 141 = .ok (.getfield 40, 3) := by decide +kernel
theorem dX6_make_144 : decode cX6_make 144 = .ok (.invokevirtual 55, 3) := by decide +kernel
theorem dX6_make_147 : decode cX6_make 147 = .ok (.if_icmp .ge 34, 3) := by decide +kernel
theorem dX6_make_150 : decode cX6_make 150 = .ok (.aload_n 0, 1) := by decide +kernel
theorem dX6_make_151 : decode cX6_make 151 = .ok (.aload_n 0, 1) := by decide +kernel
theorem dX6_make_152 : decode cX6_make 152 = .ok (.getfield 40, 3) := by decide +kernel
theorem dX6_make_155 : decode cX6_make 155 = .ok (.aload_n 0, 1) := by decide +kernel
theorem dX6_make_156 : decode cX6_make 156 = .ok (.getfield 84, 3) := by decide +kernel
theorem dX6_make_159 : decode cX6_make 159 = .ok (.invokevirtual 59, 3) := by decide +kernel
theorem dX6_make_162 : decode cX6_make 162 = .ok (.checkcast 63, 3) := by decide +kernel
theorem dX6_make_165 : decode cX6_make 165 = .ok (.invokevirtual 87, 3) := by decide +kernel
theorem dX6_make_168 : decode cX6_make 168 = .ok (.aload_n 0, 1) := by decide +kernel
theorem dX6_make_169 : decode cX6_make 169 = .ok (.dup, 1) := by decide +kernel
theorem dX6_make_170 : decode cX6_make 170 = .ok (.getfield 84, 3) := by decide +kernel
theorem dX6_make_173 : decode cX6_make 173 = .ok (.iconst 1, 1) := by decide +kernel
theorem dX6_make_174 : decode cX6_make 174 = .ok (.iadd, 1) := by decide +kernel
theorem dX6_make_175 : decode cX6_make 175 = .ok (.putfield 84, 3) := by decide +kernel
theorem dX6_make_178 : decode cX6_make 178 = .ok (.goto (-42), 3) := by decide +kernel
theorem dX6_make_181 : decode cX6_make 181 = .ok (.aload_n 0, 1) := by decide +kernel
theorem dX6_make_182 : decode cX6_make 182 = .ok (.invokevirtual 91, 3) := by decide +kernel
theorem dX6_make_185 : decode cX6_make 185 = .ok (.ifnonnull 11, 3) := by decide +kernel
theorem dX6_make_188 : decode cX6_make 188 = .ok (.aload_n 0, 1) := by decide +kernel
theorem dX6_make_189 : decode cX6_make 189 = .ok (.bipush 12, 2) := by decide +kernel
theorem dX6_make_191 : decode cX6_make 191 = .ok (.iload_n 2, 1) := by decide +kernel
theorem dX6_make_192 : decode cX6_make 192 = .ok (.invokevirtual 95, 3) := by decide +kernel
theorem dX6_make_195 : decode cX6_make 195 = .ok (.athrow, 1) := by decide +kernel
theorem dX6_make_196 : decode cX6_make 196 = .ok (.goto 6, 3) := by decide +kernel
theorem dX6_make_199 : decode cX6_make 199 = .ok (.astore_n 3, 1) := by decide +kernel
theorem dX6_make_200 : decode cX6_make 200 = .ok (.iconst 0, 1) := by decide +kernel
theorem dX6_make_201 : decode cX6_make 201 = .ok (.ireturn, 1) := by decide +kernel
theorem dX6_make_202 : decode cX6_make 202 = .ok (.iconst 1, 1) := by decide +kernel
theorem dX6_make_203 : decode cX6_make 203 = .ok (.ireturn, 1) := by decide +kernel
theorem dX6_tell_0 : decode cX6_tell 0 = .ok (.iconst 0, 1) := by decide +kernel
theorem dX6_tell_1 : decode cX6_tell 1 = .ok (.istore_n 2, 1) := by decide +kernel
theorem dX6_tell_2 : decode cX6_tell 2 = .ok (.iload_n 2, 1) := by decide +kernel
theorem dX6_tell_3 : decode cX6_tell 3 = .ok (.aload_n 0, 1) := by decide +kernel
theorem dX6_tell_4 : decode cX6_tell 4 = .ok (.getfield 84, 3) := by decide +kernel
theorem dX6_tell_7 : decode cX6_tell 7 = .ok (.if_icmp .ge 40, 3) := by decide +kernel
theorem dX6_tell_10 : decode cX6_tell 10 = .ok (.aload_n 0, 1) := by decide +kernel
theorem dX6_tell_11 : decode cX6_tell 11 = .ok (.getfield 40, 3) := by decide +kernel
theorem dX6_tell_14 : decode cX6_tell 14 = .ok (.iload_n 2, 1) := by decide +kernel
theorem dX6_tell_15 : decode cX6_tell 15 = .ok (.invokevirtual 59, 3) := by decide +kernel
theorem dX6_tell_18 : decode cX6_tell 18 = .ok (.checkcast 63, 3) := by decide +kernel
theorem dX6_tell_21 : decode cX6_tell 21 = .ok (.getfield 70, 3) := by decide +kernel
theorem dX6_tell_24 : decode cX6_tell 24 = .ok (.aload_n 1, 1) := by decide +kernel
theorem dX6_tell_25 : decode cX6_tell 25 = .ok (.getfield 70, 3) := by decide +kernel
theorem dX6_tell_28 : decode cX6_tell 28 = .ok (.if_icmp .ne 13, 3) := by decide +kernel
theorem dX6_tell_31 : decode cX6_tell 31 = .ok (.aload_n 0, 1) := by decide +kernel
theorem dX6_tell_32 : decode cX6_tell 32 = .ok (.iconst 5, 1) := by decide +kernel
theorem dX6_tell_33 : decode cX6_tell 33 = .ok (.aload_n 1, 1) := by decide +kernel
theorem dX6_tell_34 : decode cX6_tell 34 = .ok (.getfield 130, 3) := by decide +kernel
theorem dX6_tell_37 : decode cX6_tell 37 = .ok (.invokevirtual 95, 3) := by decide +kernel
theorem dX6_tell_40 : decode cX6_tell 40 = .ok (.athrow, 1) := by decide +kernel
theorem dX6_tell_41 : decode cX6_tell 41 = .ok (.iinc 2 1, 3) := by decide +kernel
theorem dX6_tell_44 : decode cX6_tell 44 = .ok (.goto (-42), 3) := by decide +kernel
theorem dX6_tell_47 : decode cX6_tell 47 = .ok (.aload_n 1, 1) := by decide +kernel
theorem dX6_tell_48 : decode cX6_tell 48 = .ok (.getfield 65, 3) := by decide +kernel
theorem dX6_tell_51 : decode cX6_tell 51 = .ok (.bipush 6, 2) := by decide +kernel
theorem dX6_tell_53 : decode cX6_tell 53 = .ok (.if_icmp .ne 9, 3) := by decide +kernel
theorem dX6_tell_56 : decode cX6_tell 56 = .ok (.aload_n 0, 1) := by decide +kernel
theorem dX6_tell_57 : decode cX6_tell 57 = .ok (.aload_n 1, 1) := by decide +kernel
theorem dX6_tell_58 : decode cX6_tell 58 = .ok (.invokevirtual 131, 3) := by decide +kernel
theorem dX6_tell_61 : decode cX6_tell 61 = .ok (.return_, 1) := by decide +kernel
theorem dX6_tell_62 : decode cX6_tell 62 = .ok (.aload_n 1, 1) := by decide +kernel
theorem dX6_tell_63 : decode cX6_tell 63 = .ok (.getfield 65, 3) := by decide +kernel
theorem dX6_tell_66 : decode cX6_tell 66 = .ok (.ifCond .ne 28, 3) := by decide +kernel
theorem dX6_tell_69 : decode cX6_tell 69 = .ok (.aload_n 1, 1) := by decide +kernel
theorem dX6_tell_70 : decode cX6_tell 70 = .ok (.new 68, 3) := by decide +kernel
theorem dX6_tell_73 : decode cX6_tell 73 = .ok (.dup, 1) := by decide +kernel
theorem dX6_tell_74 : decode cX6_tell 74 = .ok (.aload_n 1, 1) := by decide +kernel
theorem dX6_tell_75 : decode cX6_tell 75 = .ok (.getfield 70, 3) := by decide +kernel
theorem dX6_tell_78 : decode cX6_tell 78 = .ok (.iconst 0, 1) := by decide +kernel
theorem dX6_tell_79 : decode cX6_tell 79 = .ok (.aload_n 1, 1) := by decide +kernel
theorem dX6_tell_80 : decode cX6_tell 80 = .ok (.getfield 134, 3) := by decide +kernel
theorem dX6_tell_83 : decode cX6_tell 83 = .ok (.aload_n 0, 1) := by decide +kernel
theorem dX6_tell_84 : decode cX6_tell 84 = .ok (.invokevirtual 138, 3) := by decide +kernel
theorem dX6_tell_87 : decode cX6_tell 87 = .ok (.invokespecial 73, 3) := by decide +kernel
theorem dX6_tell_90 : decode cX6_tell 90 = .ok (.putfield 76, 3) := by decide +kernel
theorem dX6_tell_93 : decode cX6_tell 93 = .ok (.return_, 1) := by decide +kernel
theorem dX6_tell_94 : decode cX6_tell 94 = .ok (.aload_n 1, 1) := by decide +kernel
theorem dX6_tell_95 : decode cX6_tell 95 = .ok (.getfield 65, 3) := by decide +kernel
theorem dX6_tell_98 : decode cX6_tell 98 = .ok (.iconst 2, 1) := by decide +kernel
theorem dX6_tell_99 : decode cX6_tell 99 = .ok (.if_icmp .ne 14, 3) := by decide +kernel
theorem dX6_tell_102 : decode cX6_tell 102 = .ok (.aload_n 0, 1) := by decide +kernel
theorem dX6_tell_103 : decode cX6_tell 103 = .ok (.aload_n 1, 1) := by decide +kernel
theorem dX6_tell_104 : decode cX6_tell 104 = .ok (.getfield 134, 3) := by decide +kernel
theorem dX6_tell_107 : decode cX6_tell 107 = .ok (.invokevirtual 144, 3) := by decide +kernel
theorem dX6_tell_110 : decode cX6_tell 110 = .ok (.goto 4, 3) := by decide +kernel
theorem dX6_tell_113 : decode cX6_tell 113 = .ok (.iconst 1, 1) := by decide +kernel
theorem dX6_tell_114 : decode cX6_tell 114 = .ok (.istore_n 2, 1) := by decide +kernel
theorem dX6_tell_115 : decode cX6_tell 115 = .ok (.aload_n 1, 1) := by decide +kernel
theorem dX6_tell_116 : decode cX6_tell 116 = .ok (.getfield 65, 3) := by decide +kernel
theorem dX6_tell_119 : decode cX6_tell 119 = .ok (.iconst 2, 1) := by decide +kernel
theorem dX6_tell_120 : decode cX6_tell 120 = .ok (.if_icmp .ne 14, 3) := by decide +kernel
theorem dX6_tell_123 : decode cX6_tell 123 = .ok (.aload_n 1, 1) := by decide +kernel
theorem dX6_tell_124 : decode cX6_tell 124 = .ok (.getfield 147, 3) := by decide +kernel
theorem dX6_tell_127 : decode cX6_tell 127 = .ok (.iload_n 2, 1) := by decide +kernel
theorem dX6_tell_128 : decode cX6_tell 128 = .ok (.invokestatic 150, 3) := by decide +kernel
theorem dX6_tell_131 : decode cX6_tell 131 = .ok (.goto 4, 3) := by decide +kernel
theorem dX6_tell_134 : decode cX6_tell 134 = .ok (.iconst 1, 1) := by decide +kernel
theorem dX6_tell_135 : decode cX6_tell 135 = .ok (.istore_n 3, 1) := by decide +kernel
theorem dX6_tell_136 : decode cX6_tell 136 = .ok (.aload_n 0, 1) := by decide +kernel
theorem dX6_tell_137 : decode cX6_tell 137 = .ok (.getfield 43, 3) := by decide +kernel
theorem dX6_tell_140 : decode cX6_tell 140 = .ok (.iload_n 3, 1) := by decide +kernel
theorem dX6_tell_141 : decode cX6_tell 141 = .ok (.iadd, 1) := by decide +kernel
theorem dX6_tell_142 : decode cX6_tell 142 = .ok (.sipush 2000, 3) := by decide +kernel
theorem dX6_tell_145 : decode cX6_tell 145 = .ok (.if_icmp .le 14, 3) := by decide +kernel
theorem dX6_tell_148 : decode cX6_tell 148 = .ok (.aload_n 0, 1) := by decide +kernel
theorem dX6_tell_149 : decode cX6_tell 149 = .ok (.bipush 11, 2) := by decide +kernel
theorem dX6_tell_151 : decode cX6_tell 151 = .ok (.aload_n 1, 1) := by decide +kernel
theorem dX6_tell_152 : decode cX6_tell 152 = .ok (.getfield 130, 3) := by decide +kernel
theorem dX6_tell_155 : decode cX6_tell 155 = .ok (.invokevirtual 95, 3) := by decide +kernel
theorem dX6_tell_158 : decode cX6_tell 158 = .ok (.athrow, 1) := by decide +kernel
theorem dX6_tell_159 : decode cX6_tell 159 = .ok (.new 68, 3) := by decide +kernel
theorem dX6_tell_162 : decode cX6_tell 162 = .ok (.dup, 1) := by decide +kernel
theorem dX6_tell_163 : decode cX6_tell 163 = .ok (.aload_n 1, 1) := by decide +kernel
theorem dX6_tell_164 : decode cX6_tell 164 = .ok (.getfield 70, 3) := by decide +kernel
theorem dX6_tell_167 : decode cX6_tell 167 = .ok (.aload_n 1, 1) := by decide +kernel
theorem dX6_tell_168 : decode cX6_tell 168 = .ok (.getfield 65, 3) := by decide +kernel
theorem dX6_tell_171 : decode cX6_tell 171 = .ok (.aload_n 0, 1) := by decide +kernel
theorem dX6_tell_172 : decode cX6_tell 172 = .ok (.getfield 43, 3) := by decide +kernel
theorem dX6_tell_175 : decode cX6_tell 175 = .ok (.invokespecial 73, 3) := by decide +kernel
theorem dX6_tell_178 : decode cX6_tell 178 = .ok (.astore 4, 2) := by decide +kernel
theorem dX6_tell_180 : decode cX6_tell 180 = .ok (.aload_n 0, 1) := by decide +kernel
theorem dX6_tell_181 : decode cX6_tell 181 = .ok (.dup, 1) := by decide +kernel
theorem dX6_tell_182 : decode cX6_tell 182 = .ok (.getfield 43, 3) := by decide +kernel
theorem dX6_tell_185 : decode cX6_tell 185 = .ok (.iload_n 3, 1) := by decide +kernel
theorem dX6_tell_186 : decode cX6_tell 186 = .ok (.iadd, 1) := by decide +kernel
theorem dX6_tell_187 : decode cX6_tell 187 = .ok (.putfield 43, 3) := by decide +kernel
theorem dX6_tell_190 : decode cX6_tell 190 = .ok (.aload 4, 2) := by decide +kernel
theorem dX6_tell_192 : decode cX6_tell 192 = .ok (.aload_n 1, 1) := by decide +kernel
theorem dX6_tell_193 : decode cX6_tell 193 = .ok (.getfield 147, 3) := by decide +kernel
theorem dX6_tell_196 : decode cX6_tell 196 = .ok (.putfield 154, 3) := by decide +kernel
theorem dX6_tell_199 : decode cX6_tell 199 = .ok (.aload 4, 2) := by decide +kernel
theorem dX6_tell_201 : decode cX6_tell 201 = .ok (.iload_n 2, 1) := by decide +kernel
theorem dX6_tell_202 : decode cX6_tell 202 = .ok (.putfield 155, 3) := by decide +kernel
theorem dX6_tell_205 : decode cX6_tell 205 = .ok (.aload_n 1, 1) := by decide +kernel
theorem dX6_tell_206 : decode cX6_tell 206 = .ok (.getfield 65, 3) := by decide +kernel
theorem dX6_tell_209 : decode cX6_tell 209 = .ok (.iconst 2, 1) := by decide +kernel
theorem dX6_tell_210 : decode cX6_tell 210 = .ok (.if_icmp .ne 13, 3) := by decide +kernel
theorem dX6_tell_213 : decode cX6_tell 213 = .ok (.aload_n 0, 1) := by decide +kernel
theorem dX6_tell_214 : decode cX6_tell 214 = .ok (.aload_n 1, 1) := by decide +kernel
theorem dX6_tell_215 : decode cX6_tell 215 = .ok (.aload 4, 2) := by decide +kernel
theorem dX6_tell_217 : decode cX6_tell 217 = .ok (.invokevirtual 157, 3) := by decide +kernel
theorem dX6_tell_220 : decode cX6_tell 220 = .ok (.goto 28, 3) := by decide +kernel
theorem dX6_tell_223 : decode cX6_tell 223 = .ok (.aload_n 1, 1) := by decide +kernel
theorem dX6_tell_224 : decode cX6_tell 224 = .ok (.getfield 134, 3) := by decide +kernel
theorem dX6_tell_227 : decode cX6_tell 227 = .ok (.ifnull 21, 3) := by decide +kernel
theorem dX6_tell_230 : decode cX6_tell 230 = .ok (.aload_n 0, 1) := by decide +kernel
theorem dX6_tell_231 : decode cX6_tell 231 = .ok (.getfield 25, 3) := by decide +kernel
theorem dX6_tell_234 : decode cX6_tell 234 = .ok (.aload 4, 2) := by decide +kernel
theorem dX6_tell_236 : decode cX6_tell 236 = .ok (.getfield 161, 3) := by decide +kernel
theorem dX6_tell_239 : decode cX6_tell 239 = .ok (.aload_n 1, 1) := by decide +kernel
theorem dX6_tell_240 : decode cX6_tell 240 = .ok (.getfield 134, 3) := by decide +kernel
theorem dX6_tell_243 : decode cX6_tell 243 = .ok (.aload_n 0, 1) := by decide +kernel
theorem dX6_tell_244 : decode cX6_tell 244 = .ok (.invokevirtual 138, 3) := by decide +kernel
theorem dX6_tell_247 : decode cX6_tell 247 = .ok (.iastore, 1) := by decide +kernel
theorem dX6_tell_248 : decode cX6_tell 248 = .ok (.aload_n 1, 1) := by decide +kernel
theorem dX6_tell_249 : decode cX6_tell 249 = .ok (.aload 4, 2) := by decide +kernel
theorem dX6_tell_251 : decode cX6_tell 251 = .ok (.putfield 76, 3) := by decide +kernel
theorem dX6_tell_254 : decode cX6_tell 254 = .ok (.return_, 1) := by decide +kernel
theorem dX6_fault_0 : decode cX6_fault 0 = .ok (.aload_n 0, 1) := by decide +kernel
theorem dX6_fault_1 : decode cX6_fault 1 = .ok (.iload_n 1, 1) := by decide +kernel
theorem dX6_fault_2 : decode cX6_fault 2 = .ok (.putfield 33, 3) := by decide +kernel
theorem dX6_fault_5 : decode cX6_fault 5 = .ok (.aload_n 0, 1) := by decide +kernel
theorem dX6_fault_6 : decode cX6_fault 6 = .ok (.iload_n 2, 1) := by decide +kernel
theorem dX6_fault_7 : decode cX6_fault 7 = .ok (.putfield 37, 3) := by decide +kernel
theorem dX6_fault_10 : decode cX6_fault 10 = .ok (.aload_n 0, 1) := by decide +kernel
theorem dX6_fault_11 : decode cX6_fault 11 = .ok (.getfield 12, 3) := by decide +kernel
theorem dX6_fault_14 : decode cX6_fault 14 = .ok (.areturn, 1) := by decide +kernel
theorem dX6_function_0 : decode cX6_function 0 = .ok (.aload_n 0, 1) := by decide +kernel
theorem dX6_function_1 : decode cX6_function 1 = .ok (.getfield 46, 3) := by decide +kernel
theorem dX6_function_4 : decode cX6_function 4 = .ok (.bipush 40, 2) := by decide +kernel
theorem dX6_function_6 : decode cX6_function 6 = .ok (.if_icmp .ne 14, 3) := by decide +kernel
theorem dX6_function_9 : decode cX6_function 9 = .ok (.aload_n 0, 1) := by decide +kernel
theorem dX6_function_10 : decode cX6_function 10 = .ok (.bipush 11, 2) := by decide +kernel
theorem dX6_function_12 : decode cX6_function 12 = .ok (.aload_n 1, 1) := by decide +kernel
theorem dX6_function_13 : decode cX6_function 13 = .ok (.getfield 130, 3) := by decide +kernel
theorem dX6_function_16 : decode cX6_function 16 = .ok (.invokevirtual 95, 3) := by decide +kernel
theorem dX6_function_19 : decode cX6_function 19 = .ok (.athrow, 1) := by decide +kernel
theorem dX6_function_20 : decode cX6_function 20 = .ok (.aload_n 1, 1) := by decide +kernel
theorem dX6_function_21 : decode cX6_function 21 = .ok (.aload_n 0, 1) := by decide +kernel
theorem dX6_function_22 : decode cX6_function 22 = .ok (.getfield 46, 3) := by decide +kernel
theorem dX6_function_25 : decode cX6_function 25 = .ok (.putfield 175, 3) := by decide +kernel
theorem dX6_function_28 : decode cX6_function 28 = .ok (.aload_n 0, 1) := by decide +kernel
theorem dX6_function_29 : decode cX6_function 29 = .ok (.dup, 1) := by decide +kernel
theorem dX6_function_30 : decode cX6_function 30 = .ok (.getfield 46, 3) := by decide +kernel
theorem dX6_function_33 : decode cX6_function 33 = .ok (.iconst 1, 1) := by decide +kernel
theorem dX6_function_34 : decode cX6_function 34 = .ok (.iadd, 1) := by decide +kernel
theorem dX6_function_35 : decode cX6_function 35 = .ok (.putfield 46, 3) := by decide +kernel
theorem dX6_function_38 : decode cX6_function 38 = .ok (.aload_n 0, 1) := by decide +kernel
theorem dX6_function_39 : decode cX6_function 39 = .ok (.aload_n 1, 1) := by decide +kernel
theorem dX6_function_40 : decode cX6_function 40 = .ok (.putfield 178, 3) := by decide +kernel
theorem dX6_function_43 : decode cX6_function 43 = .ok (.aload_n 0, 1) := by decide +kernel
theorem dX6_function_44 : decode cX6_function 44 = .ok (.new 179, 3) := by decide +kernel
theorem dX6_function_47 : decode cX6_function 47 = .ok (.dup, 1) := by decide +kernel
theorem dX6_function_48 : decode cX6_function 48 = .ok (.aload_n 1, 1) := by decide +kernel
theorem dX6_function_49 : decode cX6_function 49 = .ok (.invokespecial 181, 3) := by decide +kernel
theorem dX6_function_52 : decode cX6_function 52 = .ok (.putfield 183, 3) := by decide +kernel
theorem dX6_function_55 : decode cX6_function 55 = .ok (.aload_n 1, 1) := by decide +kernel
theorem dX6_function_56 : decode cX6_function 56 = .ok (.aload_n 0, 1) := by decide +kernel
theorem dX6_function_57 : decode cX6_function 57 = .ok (.getfield 183, 3) := by decide +kernel
theorem dX6_function_60 : decode cX6_function 60 = .ok (.putfield 187, 3) := by decide +kernel
theorem dX6_function_63 : decode cX6_function 63 = .ok (.aload_n 0, 1) := by decide +kernel
theorem dX6_function_64 : decode cX6_function 64 = .ok (.iconst 0, 1) := by decide +kernel
theorem dX6_function_65 : decode cX6_function 65 = .ok (.putfield 188, 3) := by decide +kernel
theorem dX6_function_68 : decode cX6_function 68 = .ok (.aload_n 0, 1) := by decide +kernel
theorem dX6_function_69 : decode cX6_function 69 = .ok (.aconst_null, 1) := by decide +kernel
theorem dX6_function_70 : decode cX6_function 70 = .ok (.putfield 191, 3) := by decide +kernel
theorem dX6_function_73 : decode cX6_function 73 = .ok (.aload_n 0, 1) := by decide +kernel
theorem dX6_function_74 : decode cX6_function 74 = .ok (.aconst_null, 1) := by decide +kernel
theorem dX6_function_75 : decode cX6_function 75 = .ok (.putfield 195, 3) := by decide +kernel
theorem dX6_function_78 : decode cX6_function 78 = .ok (.aload_n 0, 1) := by decide +kernel
theorem dX6_function_79 : decode cX6_function 79 = .ok (.aload_n 0, 1) := by decide +kernel
theorem dX6_function_80 : decode cX6_function 80 = .ok (.invokevirtual 198, 3) := by decide +kernel
theorem dX6_function_83 : decode cX6_function 83 = .ok (.invokevirtual 202, 3) := by decide +kernel
theorem dX6_function_86 : decode cX6_function 86 = .ok (.aload_n 0, 1) := by decide +kernel
theorem dX6_function_87 : decode cX6_function 87 = .ok (.invokevirtual 117, 3) := by decide +kernel
theorem dX6_function_90 : decode cX6_function 90 = .ok (.istore_n 2, 1) := by decide +kernel
theorem dX6_function_91 : decode cX6_function 91 = .ok (.iconst 0, 1) := by decide +kernel
theorem dX6_function_92 : decode cX6_function 92 = .ok (.istore_n 3, 1) := by decide +kernel
theorem dX6_function_93 : decode cX6_function 93 = .ok (.iload_n 3, 1) := by decide +kernel
theorem dX6_function_94 : decode cX6_function 94 = .ok (.aload_n 1, 1) := by decide +kernel
theorem dX6_function_95 : decode cX6_function 95 = .ok (.getfield 206, 3) := by decide +kernel
theorem dX6_function_98 : decode cX6_function 98 = .ok (.invokevirtual 55, 3) := by decide +kernel
theorem dX6_function_101 : decode cX6_function 101 = .ok (.if_icmp .ge 26, 3) := by decide +kernel
theorem dX6_function_104 : decode cX6_function 104 = .ok (.aload_n 0, 1) := by decide +kernel
theorem dX6_function_105 : decode cX6_function 105 = .ok (.aload_n 1, 1) := by decide +kernel
theorem dX6_function_106 : decode cX6_function 106 = .ok (.aload_n 1, 1) := by decide +kernel
theorem dX6_function_107 : decode cX6_function 107 = .ok (.getfield 206, 3) := by decide +kernel
theorem dX6_function_110 : decode cX6_function 110 = .ok (.iload_n 3, 1) := by decide +kernel
theorem dX6_function_111 : decode cX6_function 111 = .ok (.invokevirtual 59, 3) := by decide +kernel
theorem dX6_function_114 : decode cX6_function 114 = .ok (.checkcast 209, 3) := by decide +kernel
theorem dX6_function_117 : decode cX6_function 117 = .ok (.iload_n 3, 1) := by decide +kernel
theorem dX6_function_118 : decode cX6_function 118 = .ok (.invokevirtual 211, 3) := by decide +kernel
theorem dX6_function_121 : decode cX6_function 121 = .ok (.iinc 3 1, 3) := by decide +kernel
theorem dX6_function_124 : decode cX6_function 124 = .ok (.goto (-31), 3) := by decide +kernel
theorem dX6_function_127 : decode cX6_function 127 = .ok (.aload_n 1, 1) := by decide +kernel
theorem dX6_function_128 : decode cX6_function 128 = .ok (.getfield 215, 3) := by decide +kernel
theorem dX6_function_131 : decode cX6_function 131 = .ok (.aload_n 0, 1) := by decide +kernel
theorem dX6_function_132 : decode cX6_function 132 = .ok (.invokevirtual 219, 3) := by decide +kernel
theorem dX6_function_135 : decode cX6_function 135 = .ok (.aload_n 0, 1) := by decide +kernel
theorem dX6_function_136 : decode cX6_function 136 = .ok (.iload_n 2, 1) := by decide +kernel
theorem dX6_function_137 : decode cX6_function 137 = .ok (.invokevirtual 126, 3) := by decide +kernel
theorem dX6_function_140 : decode cX6_function 140 = .ok (.aload_n 0, 1) := by decide +kernel
theorem dX6_function_141 : decode cX6_function 141 = .ok (.getfield 224, 3) := by decide +kernel
theorem dX6_function_144 : decode cX6_function 144 = .ok (.getfield 227, 3) := by decide +kernel
theorem dX6_function_147 : decode cX6_function 147 = .ok (.ifCond .ne 16, 3) := by decide +kernel
theorem dX6_function_150 : decode cX6_function 150 = .ok (.aload_n 0, 1) := by decide +kernel
theorem dX6_function_151 : decode cX6_function 151 = .ok (.getfield 224, 3) := by decide +kernel
theorem dX6_function_154 : decode cX6_function 154 = .ok (.iconst 3, 1) := by decide +kernel
theorem dX6_function_155 : decode cX6_function 155 = .ok (.iconst 0, 1) := by decide +kernel
theorem dX6_function_156 : decode cX6_function 156 = .ok (.invokestatic 232, 3) := by decide +kernel
theorem dX6_function_159 : decode cX6_function 159 = .ok (.aconst_null, 1) := by decide +kernel
theorem dX6_function_160 : decode cX6_function 160 = .ok (.invokevirtual 235, 3) := by decide +kernel
theorem dX6_function_163 : decode cX6_function 163 = .ok (.aload_n 1, 1) := by decide +kernel
theorem dX6_function_164 : decode cX6_function 164 = .ok (.iconst 4, 1) := by decide +kernel
theorem dX6_function_165 : decode cX6_function 165 = .ok (.aload_n 1, 1) := by decide +kernel
theorem dX6_function_166 : decode cX6_function 166 = .ok (.invokevirtual 239, 3) := by decide +kernel
theorem dX6_function_169 : decode cX6_function 169 = .ok (.iadd, 1) := by decide +kernel
theorem dX6_function_170 : decode cX6_function 170 = .ok (.aload_n 0, 1) := by decide +kernel
theorem dX6_function_171 : decode cX6_function 171 = .ok (.getfield 188, 3) := by decide +kernel
theorem dX6_function_174 : decode cX6_function 174 = .ok (.iadd, 1) := by decide +kernel
theorem dX6_function_175 : decode cX6_function 175 = .ok (.putfield 241, 3) := by decide +kernel
theorem dX6_function_178 : decode cX6_function 178 = .ok (.return_, 1) := by decide +kernel
theorem dX6_block_0 : decode cX6_block 0 = .ok (.new 228, 3) := by decide +kernel
theorem dX6_block_3 : decode cX6_block 3 = .ok (.dup, 1) := by decide +kernel
theorem dX6_block_4 : decode cX6_block 4 = .ok (.invokespecial 289, 3) := by decide +kernel
theorem dX6_block_7 : decode cX6_block 7 = .ok (.areturn, 1) := by decide +kernel
theorem dX6_at_0 : decode cX6_at 0 = .ok (.aload_n 0, 1) := by decide +kernel
theorem dX6_at_1 : decode cX6_at 1 = .ok (.aload_n 1, 1) := by decide +kernel
theorem dX6_at_2 : decode cX6_at 2 = .ok (.putfield 224, 3) := by decide +kernel
theorem dX6_at_5 : decode cX6_at 5 = .ok (.aload_n 0, 1) := by decide +kernel
theorem dX6_at_6 : decode cX6_at 6 = .ok (.getfield 183, 3) := by decide +kernel
theorem dX6_at_9 : decode cX6_at 9 = .ok (.getfield 290, 3) := by decide +kernel
theorem dX6_at_12 : decode cX6_at 12 = .ok (.aload_n 1, 1) := by decide +kernel
theorem dX6_at_13 : decode cX6_at 13 = .ok (.invokevirtual 110, 3) := by decide +kernel
theorem dX6_at_16 : decode cX6_at 16 = .ok (.pop, 1) := by decide +kernel
theorem dX6_at_17 : decode cX6_at 17 = .ok (.return_, 1) := by decide +kernel
theorem dX6_open_0 : decode cX6_open 0 = .ok (.aload_n 0, 1) := by decide +kernel
theorem dX6_open_1 : decode cX6_open 1 = .ok (.getfield 49, 3) := by decide +kernel
theorem dX6_open_4 : decode cX6_open 4 = .ok (.istore_n 1, 1) := by decide +kernel
theorem dX6_open_5 : decode cX6_open 5 = .ok (.aload_n 0, 1) := by decide +kernel
theorem dX6_open_6 : decode cX6_open 6 = .ok (.aload_n 0, 1) := by decide +kernel
theorem dX6_open_7 : decode cX6_open 7 = .ok (.getfield 21, 3) := by decide +kernel
theorem dX6_open_10 : decode cX6_open 10 = .ok (.invokevirtual 55, 3) := by decide +kernel
theorem dX6_open_13 : decode cX6_open 13 = .ok (.putfield 49, 3) := by decide +kernel
theorem dX6_open_16 : decode cX6_open 16 = .ok (.iload_n 1, 1) := by decide +kernel
theorem dX6_open_17 : decode cX6_open 17 = .ok (.ireturn, 1) := by decide +kernel
theorem dX6_formal_0 : decode cX6_formal 0 = .ok (.aload_n 1, 1) := by decide +kernel
theorem dX6_formal_1 : decode cX6_formal 1 = .ok (.getfield 98, 3) := by decide +kernel
theorem dX6_formal_4 : decode cX6_formal 4 = .ok (.ifCond .eq 14, 3) := by decide +kernel
theorem dX6_formal_7 : decode cX6_formal 7 = .ok (.aload_n 0, 1) := by decide +kernel
theorem dX6_formal_8 : decode cX6_formal 8 = .ok (.bipush 12, 2) := by decide +kernel
theorem dX6_formal_10 : decode cX6_formal 10 = .ok (.aload_n 2, 1) := by decide +kernel
theorem dX6_formal_11 : decode cX6_formal 11 = .ok (.getfield 244, 3) := by decide +kernel
theorem dX6_formal_14 : decode cX6_formal 14 = .ok (.invokevirtual 95, 3) := by decide +kernel
theorem dX6_formal_17 : decode cX6_formal 17 = .ok (.athrow, 1) := by decide +kernel
theorem dX6_formal_18 : decode cX6_formal 18 = .ok (.aload_n 0, 1) := by decide +kernel
theorem dX6_formal_19 : decode cX6_formal 19 = .ok (.aload_n 2, 1) := by decide +kernel
theorem dX6_formal_20 : decode cX6_formal 20 = .ok (.getfield 245, 3) := by decide +kernel
theorem dX6_formal_23 : decode cX6_formal 23 = .ok (.aload_n 2, 1) := by decide +kernel
theorem dX6_formal_24 : decode cX6_formal 24 = .ok (.getfield 246, 3) := by decide +kernel
theorem dX6_formal_27 : decode cX6_formal 27 = .ok (.invokevirtual 247, 3) := by decide +kernel
theorem dX6_formal_30 : decode cX6_formal 30 = .ok (.iload_n 3, 1) := by decide +kernel
theorem dX6_formal_31 : decode cX6_formal 31 = .ok (.iconst 4, 1) := by decide +kernel
theorem dX6_formal_32 : decode cX6_formal 32 = .ok (.if_icmp .ne 14, 3) := by decide +kernel
theorem dX6_formal_35 : decode cX6_formal 35 = .ok (.aload_n 0, 1) := by decide +kernel
theorem dX6_formal_36 : decode cX6_formal 36 = .ok (.bipush 11, 2) := by decide +kernel
theorem dX6_formal_38 : decode cX6_formal 38 = .ok (.aload_n 2, 1) := by decide +kernel
theorem dX6_formal_39 : decode cX6_formal 39 = .ok (.getfield 246, 3) := by decide +kernel
theorem dX6_formal_42 : decode cX6_formal 42 = .ok (.invokevirtual 95, 3) := by decide +kernel
theorem dX6_formal_45 : decode cX6_formal 45 = .ok (.athrow, 1) := by decide +kernel
theorem dX6_formal_46 : decode cX6_formal 46 = .ok (.aload_n 2, 1) := by decide +kernel
theorem dX6_formal_47 : decode cX6_formal 47 = .ok (.getfield 251, 3) := by decide +kernel
theorem dX6_formal_50 : decode cX6_formal 50 = .ok (.ifCond .eq 10, 3) := by decide +kernel
theorem dX6_formal_53 : decode cX6_formal 53 = .ok (.aload_n 0, 1) := by decide +kernel
theorem dX6_formal_54 : decode cX6_formal 54 = .ok (.invokevirtual 254, 3) := by decide +kernel
theorem dX6_formal_57 : decode cX6_formal 57 = .ok (.goto 7, 3) := by decide +kernel
theorem dX6_formal_60 : decode cX6_formal 60 = .ok (.aload_n 0, 1) := by decide +kernel
theorem dX6_formal_61 : decode cX6_formal 61 = .ok (.invokevirtual 257, 3) := by decide +kernel
theorem dX6_formal_64 : decode cX6_formal 64 = .ok (.istore 4, 2) := by decide +kernel
theorem dX6_formal_66 : decode cX6_formal 66 = .ok (.aload_n 0, 1) := by decide +kernel
theorem dX6_formal_67 : decode cX6_formal 67 = .ok (.bipush 33, 2) := by decide +kernel
theorem dX6_formal_69 : decode cX6_formal 69 = .ok (.iload 4, 2) := by decide +kernel
theorem dX6_formal_71 : decode cX6_formal 71 = .ok (.lconst 0, 1) := by decide +kernel
theorem dX6_formal_72 : decode cX6_formal 72 = .ok (.lconst 0, 1) := by decide +kernel
theorem dX6_formal_73 : decode cX6_formal 73 = .ok (.invokevirtual 260, 3) := by decide +kernel
theorem dX6_formal_76 : decode cX6_formal 76 = .ok (.iload 4, 2) := by decide +kernel
theorem dX6_formal_78 : decode cX6_formal 78 = .ok (.putfield 264, 3) := by decide +kernel
theorem dX6_formal_81 : decode cX6_formal 81 = .ok (.new 68, 3) := by decide +kernel
theorem dX6_formal_84 : decode cX6_formal 84 = .ok (.dup, 1) := by decide +kernel
theorem dX6_formal_85 : decode cX6_formal 85 = .ok (.aload_n 2, 1) := by decide +kernel
theorem dX6_formal_86 : decode cX6_formal 86 = .ok (.getfield 245, 3) := by decide +kernel
theorem dX6_formal_89 : decode cX6_formal 89 = .ok (.aload_n 2, 1) := by decide +kernel
theorem dX6_formal_90 : decode cX6_formal 90 = .ok (.getfield 251, 3) := by decide +kernel
theorem dX6_formal_93 : decode cX6_formal 93 = .ok (.ifCond .eq 7, 3) := by decide +kernel
theorem dX6_formal_96 : decode cX6_formal 96 = .ok (.iconst 5, 1) := by decide +kernel
theorem dX6_formal_97 : decode cX6_formal 97 = .ok (.goto 4, 3) := by decide +kernel
theorem dX6_formal_100 : decode cX6_formal 100 = .ok (.iconst 3, 1) := by decide +kernel
theorem dX6_formal_101 : decode cX6_formal 101 = .ok (.iload 4, 2) := by decide +kernel
theorem dX6_formal_103 : decode cX6_formal 103 = .ok (.invokespecial 73, 3) := by decide +kernel
theorem dX6_formal_106 : decode cX6_formal 106 = .ok (.astore 5, 2) := by decide +kernel
theorem dX6_formal_108 : decode cX6_formal 108 = .ok (.aload 5, 2) := by decide +kernel
theorem dX6_formal_110 : decode cX6_formal 110 = .ok (.aload_n 2, 1) := by decide +kernel
theorem dX6_formal_111 : decode cX6_formal 111 = .ok (.getfield 269, 3) := by decide +kernel
theorem dX6_formal_114 : decode cX6_formal 114 = .ok (.putfield 154, 3) := by decide +kernel
theorem dX6_formal_117 : decode cX6_formal 117 = .ok (.aload_n 2, 1) := by decide +kernel
theorem dX6_formal_118 : decode cX6_formal 118 = .ok (.getfield 251, 3) := by decide +kernel
theorem dX6_formal_121 : decode cX6_formal 121 = .ok (.ifCond .eq 24, 3) := by decide +kernel
theorem dX6_formal_124 : decode cX6_formal 124 = .ok (.aload_n 0, 1) := by decide +kernel
theorem dX6_formal_125 : decode cX6_formal 125 = .ok (.invokevirtual 254, 3) := by decide +kernel
theorem dX6_formal_128 : decode cX6_formal 128 = .ok (.istore 6, 2) := by decide +kernel
theorem dX6_formal_130 : decode cX6_formal 130 = .ok (.aload_n 0, 1) := by decide +kernel
theorem dX6_formal_131 : decode cX6_formal 131 = .ok (.bipush 33, 2) := by decide +kernel
theorem dX6_formal_133 : decode cX6_formal 133 = .ok (.iload 6, 2) := by decide +kernel
theorem dX6_formal_135 : decode cX6_formal 135 = .ok (.lconst 0, 1) := by decide +kernel
theorem dX6_formal_136 : decode cX6_formal 136 = .ok (.lconst 0, 1) := by decide +kernel
theorem dX6_formal_137 : decode cX6_formal 137 = .ok (.invokevirtual 260, 3) := by decide +kernel
theorem dX6_formal_140 : decode cX6_formal 140 = .ok (.iload 6, 2) := by decide +kernel
theorem dX6_formal_142 : decode cX6_formal 142 = .ok (.putfield 264, 3) := by decide +kernel
theorem dX6_formal_145 : decode cX6_formal 145 = .ok (.aload_n 0, 1) := by decide +kernel
theorem dX6_formal_146 : decode cX6_formal 146 = .ok (.aload 5, 2) := by decide +kernel
theorem dX6_formal_148 : decode cX6_formal 148 = .ok (.invokevirtual 270, 3) := by decide +kernel
theorem dX6_formal_151 : decode cX6_formal 151 = .ok (.return_, 1) := by decide +kernel
theorem dX6_unused_0 : decode cX6_unused 0 = .ok (.aload_n 0, 1) := by decide +kernel
theorem dX6_unused_1 : decode cX6_unused 1 = .ok (.getfield 49, 3) := by decide +kernel
theorem dX6_unused_4 : decode cX6_unused 4 = .ok (.istore_n 3, 1) := by decide +kernel
theorem dX6_unused_5 : decode cX6_unused 5 = .ok (.iload_n 3, 1) := by decide +kernel
theorem dX6_unused_6 : decode cX6_unused 6 = .ok (.aload_n 0, 1) := by decide +kernel
theorem dX6_unused_7 : decode cX6_unused 7 = .ok (.getfield 21, 3) := by decide +kernel
theorem dX6_unused_10 : decode cX6_unused 10 = .ok (.invokevirtual 55, 3) := by decide +kernel
theorem dX6_unused_13 : decode cX6_unused 13 = .ok (.if_icmp .ge 34, 3) := by decide +kernel
theorem dX6_unused_16 : decode cX6_unused 16 = .ok (.aload_n 0, 1) := by decide +kernel
theorem dX6_unused_17 : decode cX6_unused 17 = .ok (.getfield 21, 3) := by decide +kernel
theorem dX6_unused_20 : decode cX6_unused 20 = .ok (.iload_n 3, 1) := by decide +kernel
theorem dX6_unused_21 : decode cX6_unused 21 = .ok (.invokevirtual 59, 3) := by decide +kernel
theorem dX6_unused_24 : decode cX6_unused 24 = .ok (.checkcast 68, 3) := by decide +kernel
theorem dX6_unused_27 : decode cX6_unused 27 = .ok (.getfield 105, 3) := by decide +kernel
theorem dX6_unused_30 : decode cX6_unused 30 = .ok (.iload_n 1, 1) := by decide +kernel
theorem dX6_unused_31 : decode cX6_unused 31 = .ok (.if_icmp .ne 10, 3) := by decide +kernel
theorem dX6_unused_34 : decode cX6_unused 34 = .ok (.aload_n 0, 1) := by decide +kernel
theorem dX6_unused_35 : decode cX6_unused 35 = .ok (.iconst 5, 1) := by decide +kernel
theorem dX6_unused_36 : decode cX6_unused 36 = .ok (.iload_n 2, 1) := by decide +kernel
theorem dX6_unused_37 : decode cX6_unused 37 = .ok (.invokevirtual 95, 3) := by decide +kernel
theorem dX6_unused_40 : decode cX6_unused 40 = .ok (.athrow, 1) := by decide +kernel
theorem dX6_unused_41 : decode cX6_unused 41 = .ok (.iinc 3 1, 3) := by decide +kernel
theorem dX6_unused_44 : decode cX6_unused 44 = .ok (.goto (-39), 3) := by decide +kernel
theorem dX6_unused_47 : decode cX6_unused 47 = .ok (.return_, 1) := by decide +kernel
theorem dX6_register_0 : decode cX6_register 0 = .ok (.aload_n 0, 1) := by decide +kernel
theorem dX6_register_1 : decode cX6_register 1 = .ok (.getfield 183, 3) := by decide +kernel
theorem dX6_register_4 : decode cX6_register 4 = .ok (.dup, 1) := by decide +kernel
theorem dX6_register_5 : decode cX6_register 5 = .ok (.getfield 277, 3) := by decide +kernel
theorem dX6_register_8 : decode cX6_register 8 = .ok (.iconst 1, 1) := by decide +kernel
theorem dX6_register_9 : decode cX6_register 9 = .ok (.iadd, 1) := by decide +kernel
theorem dX6_register_10 : decode cX6_register 10 = .ok (.putfield 277, 3) := by decide +kernel
theorem dX6_register_13 : decode cX6_register 13 = .ok (.aload_n 0, 1) := by decide +kernel
theorem dX6_register_14 : decode cX6_register 14 = .ok (.getfield 183, 3) := by decide +kernel
theorem dX6_register_17 : decode cX6_register 17 = .ok (.getfield 277, 3) := by decide +kernel
theorem dX6_register_20 : decode cX6_register 20 = .ok (.iconst 1, 1) := by decide +kernel
theorem dX6_register_21 : decode cX6_register 21 = .ok (.isub, 1) := by decide +kernel
theorem dX6_register_22 : decode cX6_register 22 = .ok (.ireturn, 1) := by decide +kernel
theorem dX6_variable_0 : decode cX6_variable 0 = .ok (.aload_n 0, 1) := by decide +kernel
theorem dX6_variable_1 : decode cX6_variable 1 = .ok (.getfield 183, 3) := by decide +kernel
theorem dX6_variable_4 : decode cX6_variable 4 = .ok (.getfield 280, 3) := by decide +kernel
theorem dX6_variable_7 : decode cX6_variable 7 = .ok (.aload_n 0, 1) := by decide +kernel
theorem dX6_variable_8 : decode cX6_variable 8 = .ok (.getfield 183, 3) := by decide +kernel
theorem dX6_variable_11 : decode cX6_variable 11 = .ok (.getfield 277, 3) := by decide +kernel
theorem dX6_variable_14 : decode cX6_variable 14 = .ok (.invokestatic 283, 3) := by decide +kernel
theorem dX6_variable_17 : decode cX6_variable 17 = .ok (.invokevirtual 110, 3) := by decide +kernel
theorem dX6_variable_20 : decode cX6_variable 20 = .ok (.pop, 1) := by decide +kernel
theorem dX6_variable_21 : decode cX6_variable 21 = .ok (.aload_n 0, 1) := by decide +kernel
theorem dX6_variable_22 : decode cX6_variable 22 = .ok (.invokevirtual 254, 3) := by decide +kernel
theorem dX6_variable_25 : decode cX6_variable 25 = .ok (.ireturn, 1) := by decide +kernel
theorem dX6_emit_0 : decode cX6_emit 0 = .ok (.new 265, 3) := by decide +kernel
theorem dX6_emit_3 : decode cX6_emit 3 = .ok (.dup, 1) := by decide +kernel
theorem dX6_emit_4 : decode cX6_emit 4 = .ok (.iload_n 1, 1) := by decide +kernel
theorem dX6_emit_5 : decode cX6_emit 5 = .ok (.iload_n 2, 1) := by decide +kernel
theorem dX6_emit_6 : decode cX6_emit 6 = .ok (.lload_n 3, 1) := by decide +kernel
theorem dX6_emit_7 : decode cX6_emit 7 = .ok (.lload 5, 2) := by decide +kernel
theorem dX6_emit_9 : decode cX6_emit 9 = .ok (.invokespecial 293, 3) := by decide +kernel
theorem dX6_emit_12 : decode cX6_emit 12 = .ok (.astore 7, 2) := by decide +kernel
theorem dX6_emit_14 : decode cX6_emit 14 = .ok (.aload_n 0, 1) := by decide +kernel
theorem dX6_emit_15 : decode cX6_emit 15 = .ok (.getfield 224, 3) := by decide +kernel
theorem dX6_emit_18 : decode cX6_emit 18 = .ok (.getfield 296, 3) := by decide +kernel
theorem dX6_emit_21 : decode cX6_emit 21 = .ok (.aload 7, 2) := by decide +kernel
theorem dX6_emit_23 : decode cX6_emit 23 = .ok (.invokevirtual 110, 3) := by decide +kernel
theorem dX6_emit_26 : decode cX6_emit 26 = .ok (.pop, 1) := by decide +kernel
theorem dX6_emit_27 : decode cX6_emit 27 = .ok (.aload 7, 2) := by decide +kernel
theorem dX6_emit_29 : decode cX6_emit 29 = .ok (.areturn, 1) := by decide +kernel
theorem dX6_know_0 : decode cX6_know 0 = .ok (.aload_n 0, 1) := by decide +kernel
theorem dX6_know_1 : decode cX6_know 1 = .ok (.getfield 21, 3) := by decide +kernel
theorem dX6_know_4 : decode cX6_know 4 = .ok (.aload_n 1, 1) := by decide +kernel
theorem dX6_know_5 : decode cX6_know 5 = .ok (.invokevirtual 110, 3) := by decide +kernel
theorem dX6_know_8 : decode cX6_know 8 = .ok (.pop, 1) := by decide +kernel
theorem dX6_know_9 : decode cX6_know 9 = .ok (.return_, 1) := by decide +kernel
theorem dX6_known_0 : decode cX6_known 0 = .ok (.aload_n 0, 1) := by decide +kernel
theorem dX6_known_1 : decode cX6_known 1 = .ok (.iload_n 1, 1) := by decide +kernel
theorem dX6_known_2 : decode cX6_known 2 = .ok (.invokevirtual 106, 3) := by decide +kernel
theorem dX6_known_5 : decode cX6_known 5 = .ok (.astore_n 3, 1) := by decide +kernel
theorem dX6_known_6 : decode cX6_known 6 = .ok (.aload_n 3, 1) := by decide +kernel
theorem dX6_known_7 : decode cX6_known 7 = .ok (.ifnonnull 10, 3) := by decide +kernel
theorem dX6_known_10 : decode cX6_known 10 = .ok (.aload_n 0, 1) := by decide +kernel
theorem dX6_known_11 : decode cX6_known 11 = .ok (.iconst 4, 1) := by decide +kernel
theorem dX6_known_12 : decode cX6_known 12 = .ok (.iload_n 2, 1) := by decide +kernel
theorem dX6_known_13 : decode cX6_known 13 = .ok (.invokevirtual 95, 3) := by decide +kernel
theorem dX6_known_16 : decode cX6_known 16 = .ok (.athrow, 1) := by decide +kernel
theorem dX6_known_17 : decode cX6_known 17 = .ok (.aload_n 3, 1) := by decide +kernel
theorem dX6_known_18 : decode cX6_known 18 = .ok (.areturn, 1) := by decide +kernel
theorem dX6_find_0 : decode cX6_find 0 = .ok (.aload_n 0, 1) := by decide +kernel
theorem dX6_find_1 : decode cX6_find 1 = .ok (.getfield 21, 3) := by decide +kernel
theorem dX6_find_4 : decode cX6_find 4 = .ok (.invokevirtual 55, 3) := by decide +kernel
theorem dX6_find_7 : decode cX6_find 7 = .ok (.iconst 1, 1) := by decide +kernel
theorem dX6_find_8 : decode cX6_find 8 = .ok (.isub, 1) := by decide +kernel
theorem dX6_find_9 : decode cX6_find 9 = .ok (.istore_n 2, 1) := by decide +kernel
theorem dX6_find_10 : decode cX6_find 10 = .ok (.iload_n 2, 1) := by decide +kernel
theorem dX6_find_11 : decode cX6_find 11 = .ok (.ifCond .lt 39, 3) := by decide +kernel
theorem dX6_find_14 : decode cX6_find 14 = .ok (.aload_n 0, 1) := by decide +kernel
theorem dX6_find_15 : decode cX6_find 15 = .ok (.getfield 21, 3) := by decide +kernel
theorem dX6_find_18 : decode cX6_find 18 = .ok (.iload_n 2, 1) := by decide +kernel
theorem dX6_find_19 : decode cX6_find 19 = .ok (.invokevirtual 59, 3) := by decide +kernel
theorem dX6_find_22 : decode cX6_find 22 = .ok (.checkcast 68, 3) := by decide +kernel
theorem dX6_find_25 : decode cX6_find 25 = .ok (.getfield 105, 3) := by decide +kernel
theorem dX6_find_28 : decode cX6_find 28 = .ok (.iload_n 1, 1) := by decide +kernel
theorem dX6_find_29 : decode cX6_find 29 = .ok (.if_icmp .ne 15, 3) := by decide +kernel
theorem dX6_find_32 : decode cX6_find 32 = .ok (.aload_n 0, 1) := by decide +kernel
theorem dX6_find_33 : decode cX6_find 33 = .ok (.getfield 21, 3) := by decide +kernel
theorem dX6_find_36 : decode cX6_find 36 = .ok (.iload_n 2, 1) := by decide +kernel
theorem dX6_find_37 : decode cX6_find 37 = .ok (.invokevirtual 59, 3) := by decide +kernel
theorem dX6_find_40 : decode cX6_find 40 = .ok (.checkcast 68, 3) := by decide +kernel
theorem dX6_find_43 : decode cX6_find 43 = .ok (.areturn, 1) := by decide +kernel
theorem dX6_find_44 : decode cX6_find 44 = .ok (.iinc 2 (-1), 3) := by decide +kernel
theorem dX6_find_47 : decode cX6_find 47 = .ok (.goto (-37), 3) := by decide +kernel
theorem dX6_find_50 : decode cX6_find 50 = .ok (.iconst 0, 1) := by decide +kernel
theorem dX6_find_51 : decode cX6_find 51 = .ok (.istore_n 2, 1) := by decide +kernel
theorem dX6_find_52 : decode cX6_find 52 = .ok (.iload_n 2, 1) := by decide +kernel
theorem dX6_find_53 : decode cX6_find 53 = .ok (.aload_n 0, 1) := by decide +kernel
theorem dX6_find_54 : decode cX6_find 54 = .ok (.getfield 40, 3) := by decide +kernel
theorem dX6_find_57 : decode cX6_find 57 = .ok (.invokevirtual 55, 3) := by decide +kernel
theorem dX6_find_60 : decode cX6_find 60 = .ok (.if_icmp .ge 51, 3) := by decide +kernel
theorem dX6_find_63 : decode cX6_find 63 = .ok (.aload_n 0, 1) := by decide +kernel
theorem dX6_find_64 : decode cX6_find 64 = .ok (.getfield 40, 3) := by decide +kernel
theorem dX6_find_67 : decode cX6_find 67 = .ok (.iload_n 2, 1) := by decide +kernel
theorem dX6_find_68 : decode cX6_find 68 = .ok (.invokevirtual 59, 3) := by decide +kernel
theorem dX6_find_71 : decode cX6_find 71 = .ok (.checkcast 63, 3) := by decide +kernel
theorem dX6_find_74 : decode cX6_find 74 = .ok (.astore_n 3, 1) := by decide +kernel
theorem dX6_find_75 : decode cX6_find 75 = .ok (.aload_n 3, 1) := by decide +kernel
theorem dX6_find_76 : decode cX6_find 76 = .ok (.getfield 70, 3) := by decide +kernel
theorem dX6_find_79 : decode cX6_find 79 = .ok (.iload_n 1, 1) := by decide +kernel
theorem dX6_find_80 : decode cX6_find 80 = .ok (.if_icmp .ne 25, 3) := by decide +kernel
theorem dX6_find_83 : decode cX6_find 83 = .ok (.aload_n 3, 1) := by decide +kernel
theorem dX6_find_84 : decode cX6_find 84 = .ok (.getfield 65, 3) := by decide +kernel
theorem dX6_find_87 : decode cX6_find 87 = .ok (.bipush 6, 2) := by decide +kernel
theorem dX6_find_89 : decode cX6_find 89 = .ok (.if_icmp .eq 11, 3) := by decide +kernel
theorem dX6_find_92 : decode cX6_find 92 = .ok (.iload_n 2, 1) := by decide +kernel
theorem dX6_find_93 : decode cX6_find 93 = .ok (.aload_n 0, 1) := by decide +kernel
theorem dX6_find_94 : decode cX6_find 94 = .ok (.getfield 84, 3) := by decide +kernel
theorem dX6_find_97 : decode cX6_find 97 = .ok (.if_icmp .ge 8, 3) := by decide +kernel
theorem dX6_find_100 : decode cX6_find 100 = .ok (.aload_n 3, 1) := by decide +kernel
theorem dX6_find_101 : decode cX6_find 101 = .ok (.getfield 76, 3) := by decide +kernel
theorem dX6_find_104 : decode cX6_find 104 = .ok (.areturn, 1) := by decide +kernel
theorem dX6_find_105 : decode cX6_find 105 = .ok (.iinc 2 1, 3) := by decide +kernel
theorem dX6_find_108 : decode cX6_find 108 = .ok (.goto (-56), 3) := by decide +kernel
theorem dX6_find_111 : decode cX6_find 111 = .ok (.aconst_null, 1) := by decide +kernel
theorem dX6_find_112 : decode cX6_find 112 = .ok (.areturn, 1) := by decide +kernel
theorem dX6_index_0 : decode cX6_index 0 = .ok (.aload_n 2, 1) := by decide +kernel
theorem dX6_index_1 : decode cX6_index 1 = .ok (.aload_n 0, 1) := by decide +kernel
theorem dX6_index_2 : decode cX6_index 2 = .ok (.invokevirtual 326, 3) := by decide +kernel
theorem dX6_index_5 : decode cX6_index 5 = .ok (.lstore 4, 2) := by decide +kernel
theorem dX6_index_7 : decode cX6_index 7 = .ok (.aload_n 0, 1) := by decide +kernel
theorem dX6_index_8 : decode cX6_index 8 = .ok (.bipush 25, 2) := by decide +kernel
theorem dX6_index_10 : decode cX6_index 10 = .ok (.iconst (-1), 1) := by decide +kernel
theorem dX6_index_11 : decode cX6_index 11 = .ok (.lload 4, 2) := by decide +kernel
theorem dX6_index_13 : decode cX6_index 13 = .ok (.aload_n 0, 1) := by decide +kernel
theorem dX6_index_14 : decode cX6_index 14 = .ok (.aload_n 1, 1) := by decide +kernel
theorem dX6_index_15 : decode cX6_index 15 = .ok (.invokevirtual 329, 3) := by decide +kernel
theorem dX6_index_18 : decode cX6_index 18 = .ok (.invokevirtual 260, 3) := by decide +kernel
theorem dX6_index_21 : decode cX6_index 21 = .ok (.iload_n 3, 1) := by decide +kernel
theorem dX6_index_22 : decode cX6_index 22 = .ok (.putfield 264, 3) := by decide +kernel
theorem dX6_index_25 : decode cX6_index 25 = .ok (.aload_n 1, 1) := by decide +kernel
theorem dX6_index_26 : decode cX6_index 26 = .ok (.getfield 154, 3) := by decide +kernel
theorem dX6_index_29 : decode cX6_index 29 = .ok (.ifCond .eq 8, 3) := by decide +kernel
theorem dX6_index_32 : decode cX6_index 32 = .ok (.lload 4, 2) := by decide +kernel
theorem dX6_index_34 : decode cX6_index 34 = .ok (.goto 15, 3) := by decide +kernel
theorem dX6_index_37 : decode cX6_index 37 = .ok (.aload_n 0, 1) := by decide +kernel
theorem dX6_index_38 : decode cX6_index 38 = .ok (.bipush 8, 2) := by decide +kernel
theorem dX6_index_40 : decode cX6_index 40 = .ok (.lload 4, 2) := by decide +kernel
theorem dX6_index_42 : decode cX6_index 42 = .ok (.iconst 2, 1) := by decide +kernel
theorem dX6_index_43 : decode cX6_index 43 = .ok (.invokestatic 232, 3) := by decide +kernel
theorem dX6_index_46 : decode cX6_index 46 = .ok (.invokevirtual 299, 3) := by decide +kernel
theorem dX6_index_49 : decode cX6_index 49 = .ok (.lreturn, 1) := by decide +kernel
