/-! names: X10_init X10_functions X10_lay X10_step X10_keep X10_one X10_toFrame X10_fromFrame X10_act (tools/chunk.py) -/
set_option maxRecDepth 100000
abbrev cX10_init : ByteArray := prog_17_method_1_code
def yX10_init : MethodName := ⟨RX10, "<init>", "(LCompiledHouse$Words;LCompiledHouse$Living;)V"⟩
theorem q761 : (Jvm.Cond.code ({ cls := "CompiledHouse$Layer", name := "<init>", desc := "(LCompiledHouse$Words;LCompiledHouse$Living;)V" } : Jvm.MethodName) prog_17_method_1_code (3 : Nat) (Option.none : Option Jvm.ClassFile.FieldType)) ∈ lw_all := lw_g (lw_at lw_m3 85 rfl) rfl
def kX10_init : xK := (yX10_init, cX10_init, 3, none, [])
theorem me_X10_init : xMe kX10_init 2 := ⟨q761, q213, by decide, by decide, by decide +kernel⟩
theorem q760 : (Jvm.Cond.instanceMethod ({ cls := "CompiledHouse$Layer", name := "<init>", desc := "(LCompiledHouse$Words;LCompiledHouse$Living;)V" } : Jvm.MethodName)) ∈ lw_all := lw_g (lw_at lw_m3 84 rfl) rfl
theorem is_X10_init : Cond.instanceMethod kX10_init.y ∈ lw_all := q760
theorem q762 : (Jvm.Cond.methodLink "CompiledHouse$Layer" (3 : Nat) ({ cls := "java/lang/Object", name := "<init>", desc := "()V" } : Jvm.MethodName)) ∈ lw_all := lw_g (lw_at lw_m3 86 rfl) rfl
theorem lk_X10_3 : xLk RX10 3 yJ18_init := Or.inl q762
theorem q819 : (Jvm.Cond.fieldLink "CompiledHouse$Layer" (9 : Nat) "CompiledHouse$Layer" "entries" "[I") ∈ lw_all := lw_g (lw_at lw_m3 143 rfl) rfl
theorem f_X10_9_9 : xF RX10 9 9 7 := ⟨_, "CompiledHouse$Layer", rfl, by decide, Or.inl q819, Or.inl rfl⟩
theorem q812 : (Jvm.Cond.fieldLink "CompiledHouse$Layer" (15 : Nat) "CompiledHouse$Layer" "words" "LCompiledHouse$Words;") ∈ lw_all := lw_g (lw_at lw_m3 136 rfl) rfl
theorem f_X10_15_9 : xF RX10 15 9 0 := ⟨_, "CompiledHouse$Layer", rfl, by decide, Or.inl q812, Or.inl rfl⟩
theorem q763 : (Jvm.Cond.classLink "CompiledHouse$Layer" (19 : Nat) "CompiledHouse$Painter") ∈ lw_all := lw_g (lw_at lw_m3 87 rfl) rfl
theorem q765 : (Jvm.Cond.methodLink "CompiledHouse$Layer" (21 : Nat) ({ cls := "CompiledHouse$Painter", name := "<init>", desc := "(LCompiledHouse$Living;)V" } : Jvm.MethodName)) ∈ lw_all := lw_g (lw_at lw_m3 89 rfl) rfl
theorem lk_X10_21 : xLk RX10 21 yX11_init := Or.inl q765
theorem q813 : (Jvm.Cond.fieldLink "CompiledHouse$Layer" (24 : Nat) "CompiledHouse$Layer" "painter" "LCompiledHouse$Painter;") ∈ lw_all := lw_g (lw_at lw_m3 137 rfl) rfl
theorem f_X10_24_9 : xF RX10 24 9 1 := ⟨_, "CompiledHouse$Layer", rfl, by decide, Or.inl q813, Or.inl rfl⟩
abbrev cX10_functions : ByteArray := prog_17_method_2_code
def yX10_functions : MethodName := ⟨RX10, "functions", "(I)V"⟩
theorem q2409 : (Jvm.Cond.code ({ cls := "CompiledHouse$Layer", name := "functions", desc := "(I)V" } : Jvm.MethodName) prog_17_method_2_code (3 : Nat) (Option.none : Option Jvm.ClassFile.FieldType)) ∈ lw_all := lw_g (lw_at lw_m10 53 rfl) rfl
def kX10_functions : xK := (yX10_functions, cX10_functions, 3, none, [])
theorem me_X10_functions : xMe kX10_functions 1 := ⟨q2409, q213, by decide, by decide, by decide +kernel⟩
theorem q2407 : (Jvm.Cond.instanceMethod ({ cls := "CompiledHouse$Layer", name := "functions", desc := "(I)V" } : Jvm.MethodName)) ∈ lw_all := lw_g (lw_at lw_m10 51 rfl) rfl
theorem is_X10_functions : Cond.instanceMethod kX10_functions.y ∈ lw_all := q2407
theorem se_X10_functions : Cond.selects RX10 kX10_functions.y kX10_functions.y ∈ lw_all := q2408
theorem q2410 : (Jvm.Cond.methodLink "CompiledHouse$Layer" (28 : Nat) ({ cls := "CompiledHouse$Words", name := "newMark", desc := "()I" } : Jvm.MethodName)) ∈ lw_all := lw_g (lw_at lw_m10 54 rfl) rfl
theorem lk_X10_28 : xLk RX10 28 yX9_newMark := Or.inl q2410
abbrev cX10_lay : ByteArray := prog_17_method_3_code
def yX10_lay : MethodName := ⟨RX10, "lay", "(LCompiledHouse$Code;)I"⟩
theorem q2660 : (Jvm.Cond.code ({ cls := "CompiledHouse$Layer", name := "lay", desc := "(LCompiledHouse$Code;)I" } : Jvm.MethodName) prog_17_method_3_code (6 : Nat) (Option.some Jvm.ClassFile.FieldType.int)) ∈ lw_all := lw_g (lw_at lw_m11 64 rfl) rfl
def kX10_lay : xK := (yX10_lay, cX10_lay, 6, some .int, [])
theorem me_X10_lay : xMe kX10_lay 1 := ⟨q2660, q213, by decide, by decide, by decide +kernel⟩
theorem q2658 : (Jvm.Cond.instanceMethod ({ cls := "CompiledHouse$Layer", name := "lay", desc := "(LCompiledHouse$Code;)I" } : Jvm.MethodName)) ∈ lw_all := lw_g (lw_at lw_m11 62 rfl) rfl
theorem is_X10_lay : Cond.instanceMethod kX10_lay.y ∈ lw_all := q2658
theorem se_X10_lay : Cond.selects RX10 kX10_lay.y kX10_lay.y ∈ lw_all := q2659
theorem q814 : (Jvm.Cond.fieldLink "CompiledHouse$Layer" (34 : Nat) "CompiledHouse$Layer" "code" "LCompiledHouse$Code;") ∈ lw_all := lw_g (lw_at lw_m3 138 rfl) rfl
theorem f_X10_34_9 : xF RX10 34 9 2 := ⟨_, "CompiledHouse$Layer", rfl, by decide, Or.inl q814, Or.inl rfl⟩
theorem q2661 : (Jvm.Cond.methodLink "CompiledHouse$Layer" (38 : Nat) ({ cls := "CompiledHouse$Painter", name := "paint", desc := "(LCompiledHouse$Code;)V" } : Jvm.MethodName)) ∈ lw_all := lw_g (lw_at lw_m11 65 rfl) rfl
theorem lk_X10_38 : xLk RX10 38 yX11_paint := Or.inl q2661
theorem q1764 : (Jvm.Cond.fieldLinkNest "CompiledHouse$Layer" (42 : Nat) "CompiledHouse$Code" "own" "I" "CompiledHouse") ∈ lw_tbl := lw_at lw_m7 128 rfl
theorem f_X10_42_33 : xF RX10 42 33 3 := ⟨_, "CompiledHouse$Code", rfl, by decide, Or.inr ⟨_, q1764⟩, Or.inl rfl⟩
theorem q815 : (Jvm.Cond.fieldLink "CompiledHouse$Layer" (48 : Nat) "CompiledHouse$Layer" "own" "I") ∈ lw_all := lw_g (lw_at lw_m3 139 rfl) rfl
theorem f_X10_48_9 : xF RX10 48 9 3 := ⟨_, "CompiledHouse$Layer", rfl, by decide, Or.inl q815, Or.inl rfl⟩
theorem q772 : (Jvm.Cond.fieldLinkNest "CompiledHouse$Layer" (49 : Nat) "CompiledHouse$Painter" "slots" "I" "CompiledHouse") ∈ lw_tbl := lw_at lw_m3 96 rfl
theorem f_X10_49_10 : xF RX10 49 10 3 := ⟨_, "CompiledHouse$Painter", rfl, by decide, Or.inr ⟨_, q772⟩, Or.inl rfl⟩
theorem q816 : (Jvm.Cond.fieldLink "CompiledHouse$Layer" (52 : Nat) "CompiledHouse$Layer" "saved" "I") ∈ lw_all := lw_g (lw_at lw_m3 140 rfl) rfl
theorem f_X10_52_9 : xF RX10 52 9 4 := ⟨_, "CompiledHouse$Layer", rfl, by decide, Or.inl q816, Or.inl rfl⟩
theorem q818 : (Jvm.Cond.fieldLink "CompiledHouse$Layer" (55 : Nat) "CompiledHouse$Layer" "calls" "Z") ∈ lw_all := lw_g (lw_at lw_m3 142 rfl) rfl
theorem f_X10_55_9 : xF RX10 55 9 6 := ⟨_, "CompiledHouse$Layer", rfl, by decide, Or.inl q818, Or.inl rfl⟩
theorem q1757 : (Jvm.Cond.fieldLinkNest "CompiledHouse$Layer" (59 : Nat) "CompiledHouse$Code" "blocks" "Ljava/util/ArrayList;" "CompiledHouse") ∈ lw_tbl := lw_at lw_m7 121 rfl
theorem f_X10_59_33 : xF RX10 59 33 1 := ⟨_, "CompiledHouse$Code", rfl, by decide, Or.inr ⟨_, q1757⟩, Or.inl rfl⟩
theorem q2714 : (Jvm.Cond.methodLink "CompiledHouse$Layer" (63 : Nat) ({ cls := "java/util/ArrayList", name := "size", desc := "()I" } : Jvm.MethodName)) ∈ lw_all := lw_g (lw_at lw_m11 118 rfl) rfl
theorem lk_X10_63 : xLk RX10 63 yJ5_size := Or.inl q2714
theorem q2715 : (Jvm.Cond.methodLink "CompiledHouse$Layer" (68 : Nat) ({ cls := "java/util/ArrayList", name := "get", desc := "(I)Ljava/lang/Object;" } : Jvm.MethodName)) ∈ lw_all := lw_g (lw_at lw_m11 119 rfl) rfl
theorem lk_X10_68 : xLk RX10 68 yJ5_get := Or.inl q2715
theorem q2716 : (Jvm.Cond.classLink "CompiledHouse$Layer" (72 : Nat) "CompiledHouse$Block") ∈ lw_all := lw_g (lw_at lw_m11 120 rfl) rfl
theorem q1823 : (Jvm.Cond.fieldLinkNest "CompiledHouse$Layer" (74 : Nat) "CompiledHouse$Block" "number" "I" "CompiledHouse") ∈ lw_tbl := lw_at lw_m7 187 rfl
theorem f_X10_74_34 : xF RX10 74 34 7 := ⟨_, "CompiledHouse$Block", rfl, by decide, Or.inr ⟨_, q1823⟩, Or.inl rfl⟩
theorem q1794 : (Jvm.Cond.fieldLinkNest "CompiledHouse$Layer" (77 : Nat) "CompiledHouse$Block" "acts" "Ljava/util/ArrayList;" "CompiledHouse") ∈ lw_tbl := lw_at lw_m7 158 rfl
theorem f_X10_77_34 : xF RX10 77 34 0 := ⟨_, "CompiledHouse$Block", rfl, by decide, Or.inr ⟨_, q1794⟩, Or.inl rfl⟩
theorem q2717 : (Jvm.Cond.classLink "CompiledHouse$Layer" (80 : Nat) "CompiledHouse$Act") ∈ lw_all := lw_g (lw_at lw_m11 121 rfl) rfl
theorem q1912 : (Jvm.Cond.fieldLinkNest "CompiledHouse$Layer" (82 : Nat) "CompiledHouse$Act" "act" "I" "CompiledHouse") ∈ lw_tbl := lw_at lw_m8 36 rfl
theorem f_X10_82_35 : xF RX10 82 35 0 := ⟨_, "CompiledHouse$Act", rfl, by decide, Or.inr ⟨_, q1912⟩, Or.inl rfl⟩
theorem q1762 : (Jvm.Cond.fieldLinkNest "CompiledHouse$Layer" (85 : Nat) "CompiledHouse$Code" "registers" "I" "CompiledHouse") ∈ lw_tbl := lw_at lw_m7 126 rfl
theorem f_X10_85_33 : xF RX10 85 33 2 := ⟨_, "CompiledHouse$Code", rfl, by decide, Or.inr ⟨_, q1762⟩, Or.inl rfl⟩
theorem q781 : (Jvm.Cond.fieldLinkNest "CompiledHouse$Layer" (88 : Nat) "CompiledHouse$Painter" "colour" "[I" "CompiledHouse") ∈ lw_tbl := lw_at lw_m3 105 rfl
theorem f_X10_88_10 : xF RX10 88 10 10 := ⟨_, "CompiledHouse$Painter", rfl, by decide, Or.inr ⟨_, q781⟩, Or.inl rfl⟩
theorem q2718 : (Jvm.Cond.methodLink "CompiledHouse$Layer" (91 : Nat) ({ cls := "java/lang/Integer", name := "bitCount", desc := "(I)I" } : Jvm.MethodName)) ∈ lw_all := lw_g (lw_at lw_m11 122 rfl) rfl
theorem lk_X10_91 : xLk RX10 91 yJ15_bitCount := Or.inl q2718
theorem q817 : (Jvm.Cond.fieldLink "CompiledHouse$Layer" (97 : Nat) "CompiledHouse$Layer" "frame" "I") ∈ lw_all := lw_g (lw_at lw_m3 141 rfl) rfl
theorem f_X10_97_9 : xF RX10 97 9 5 := ⟨_, "CompiledHouse$Layer", rfl, by decide, Or.inl q817, Or.inl rfl⟩
theorem q739 : (Jvm.Cond.fieldLinkNest "CompiledHouse$Layer" (100 : Nat) "CompiledHouse$Words" "mark" "[I" "CompiledHouse") ∈ lw_tbl := lw_at lw_m3 63 rfl
theorem f_X10_100_8 : xF RX10 100 8 6 := ⟨_, "CompiledHouse$Words", rfl, by decide, Or.inr ⟨_, q739⟩, Or.inl rfl⟩
theorem q1752 : (Jvm.Cond.fieldLinkNest "CompiledHouse$Layer" (103 : Nat) "CompiledHouse$Code" "told" "LCompiledHouse$Told;" "CompiledHouse") ∈ lw_tbl := lw_at lw_m7 116 rfl
theorem f_X10_103_33 : xF RX10 103 33 0 := ⟨_, "CompiledHouse$Code", rfl, by decide, Or.inr ⟨_, q1752⟩, Or.inl rfl⟩
theorem q1136 : (Jvm.Cond.fieldLinkNest "CompiledHouse$Layer" (107 : Nat) "CompiledHouse$Told" "number" "I" "CompiledHouse") ∈ lw_tbl := lw_at lw_m4 220 rfl
theorem f_X10_107_13 : xF RX10 107 13 11 := ⟨_, "CompiledHouse$Told", rfl, by decide, Or.inr ⟨_, q1136⟩, Or.inl rfl⟩
theorem q735 : (Jvm.Cond.fieldLinkNest "CompiledHouse$Layer" (110 : Nat) "CompiledHouse$Words" "many" "I" "CompiledHouse") ∈ lw_tbl := lw_at lw_m3 59 rfl
theorem f_X10_110_8 : xF RX10 110 8 4 := ⟨_, "CompiledHouse$Words", rfl, by decide, Or.inr ⟨_, q735⟩, Or.inl rfl⟩
theorem q2724 : (Jvm.Cond.methodLink "CompiledHouse$Layer" (113 : Nat) ({ cls := "CompiledHouse$Layer", name := "step", desc := "(I)V" } : Jvm.MethodName)) ∈ lw_all := lw_g (lw_at lw_m11 128 rfl) rfl
abbrev cX10_step : ByteArray := prog_17_method_4_code
def yX10_step : MethodName := ⟨RX10, "step", "(I)V"⟩
theorem q2727 : (Jvm.Cond.code ({ cls := "CompiledHouse$Layer", name := "step", desc := "(I)V" } : Jvm.MethodName) prog_17_method_4_code (2 : Nat) (Option.none : Option Jvm.ClassFile.FieldType)) ∈ lw_all := lw_g (lw_at lw_m11 131 rfl) rfl
def kX10_step : xK := (yX10_step, cX10_step, 2, none, [])
theorem me_X10_step : xMe kX10_step 1 := ⟨q2727, q213, by decide, by decide, by decide +kernel⟩
theorem q2726 : (Jvm.Cond.instanceMethod ({ cls := "CompiledHouse$Layer", name := "step", desc := "(I)V" } : Jvm.MethodName)) ∈ lw_all := lw_g (lw_at lw_m11 130 rfl) rfl
theorem is_X10_step : Cond.instanceMethod kX10_step.y ∈ lw_all := q2726
theorem se_X10_step : Cond.selects RX10 kX10_step.y kX10_step.y ∈ lw_all := qs88
theorem lk_X10_113 : xLk RX10 113 yX10_step := Or.inl q2724
theorem q2737 : (Jvm.Cond.methodLink "CompiledHouse$Layer" (117 : Nat) ({ cls := "CompiledHouse$Layer", name := "keep", desc := "(IZ)V" } : Jvm.MethodName)) ∈ lw_all := lw_g (lw_at lw_m11 141 rfl) rfl
abbrev cX10_keep : ByteArray := prog_17_method_5_code
def yX10_keep : MethodName := ⟨RX10, "keep", "(IZ)V"⟩
theorem q2740 : (Jvm.Cond.code ({ cls := "CompiledHouse$Layer", name := "keep", desc := "(IZ)V" } : Jvm.MethodName) prog_17_method_5_code (5 : Nat) (Option.none : Option Jvm.ClassFile.FieldType)) ∈ lw_all := lw_g (lw_at lw_m11 144 rfl) rfl
def kX10_keep : xK := (yX10_keep, cX10_keep, 5, none, [])
theorem me_X10_keep : xMe kX10_keep 2 := ⟨q2740, q213, by decide, by decide, by decide +kernel⟩
theorem q2739 : (Jvm.Cond.instanceMethod ({ cls := "CompiledHouse$Layer", name := "keep", desc := "(IZ)V" } : Jvm.MethodName)) ∈ lw_all := lw_g (lw_at lw_m11 143 rfl) rfl
theorem is_X10_keep : Cond.instanceMethod kX10_keep.y ∈ lw_all := q2739
theorem se_X10_keep : Cond.selects RX10 kX10_keep.y kX10_keep.y ∈ lw_all := qs89
theorem lk_X10_117 : xLk RX10 117 yX10_keep := Or.inl q2737
theorem q2762 : (Jvm.Cond.methodLink "CompiledHouse$Layer" (121 : Nat) ({ cls := "CompiledHouse$Words", name := "put", desc := "(I)V" } : Jvm.MethodName)) ∈ lw_all := lw_g (lw_at lw_m11 166 rfl) rfl
theorem lk_X10_121 : xLk RX10 121 yX9_put := Or.inl q2762
theorem q2766 : (Jvm.Cond.methodLink "CompiledHouse$Layer" (124 : Nat) ({ cls := "CompiledHouse$Layer", name := "act", desc := "(LCompiledHouse$Act;)V" } : Jvm.MethodName)) ∈ lw_all := lw_g (lw_at lw_m11 170 rfl) rfl
abbrev cX10_act : ByteArray := prog_17_method_15_code
def yX10_act : MethodName := ⟨RX10, "act", "(LCompiledHouse$Act;)V"⟩
theorem q2769 : (Jvm.Cond.code ({ cls := "CompiledHouse$Layer", name := "act", desc := "(LCompiledHouse$Act;)V" } : Jvm.MethodName) prog_17_method_15_code (2 : Nat) (Option.none : Option Jvm.ClassFile.FieldType)) ∈ lw_all := lw_g (lw_at lw_m11 173 rfl) rfl
def kX10_act : xK := (yX10_act, cX10_act, 2, none, [])
theorem me_X10_act : xMe kX10_act 1 := ⟨q2769, q213, by decide, by decide, by decide +kernel⟩
theorem q2768 : (Jvm.Cond.instanceMethod ({ cls := "CompiledHouse$Layer", name := "act", desc := "(LCompiledHouse$Act;)V" } : Jvm.MethodName)) ∈ lw_all := lw_g (lw_at lw_m11 172 rfl) rfl
theorem is_X10_act : Cond.instanceMethod kX10_act.y ∈ lw_all := q2768
theorem se_X10_act : Cond.selects RX10 kX10_act.y kX10_act.y ∈ lw_all := qs93
theorem lk_X10_124 : xLk RX10 124 yX10_act := Or.inl q2766
theorem q2844 : (Jvm.Cond.methodLink "CompiledHouse$Layer" (127 : Nat) ({ cls := "CompiledHouse$Layer", name := "end", desc := "(LCompiledHouse$Block;LCompiledHouse$Block;I)V" } : Jvm.MethodName)) ∈ lw_all := lw_g (lw_at lw_m12 8 rfl) rfl
abbrev cX10_end : ByteArray := prog_17_method_23_code
def yX10_end : MethodName := ⟨RX10, "end", "(LCompiledHouse$Block;LCompiledHouse$Block;I)V"⟩
theorem q2847 : (Jvm.Cond.code ({ cls := "CompiledHouse$Layer", name := "end", desc := "(LCompiledHouse$Block;LCompiledHouse$Block;I)V" } : Jvm.MethodName) prog_17_method_23_code (8 : Nat) (Option.none : Option Jvm.ClassFile.FieldType)) ∈ lw_all := lw_g (lw_at lw_m12 11 rfl) rfl
def kX10_end : xK := (yX10_end, cX10_end, 8, none, [])
theorem me_X10_end : xMe kX10_end 3 := ⟨q2847, q213, by decide, by decide, by decide +kernel⟩
theorem q2846 : (Jvm.Cond.instanceMethod ({ cls := "CompiledHouse$Layer", name := "end", desc := "(LCompiledHouse$Block;LCompiledHouse$Block;I)V" } : Jvm.MethodName)) ∈ lw_all := lw_g (lw_at lw_m12 10 rfl) rfl
theorem is_X10_end : Cond.instanceMethod kX10_end.y ∈ lw_all := q2846
theorem se_X10_end : Cond.selects RX10 kX10_end.y kX10_end.y ∈ lw_all := qs106
theorem lk_X10_127 : xLk RX10 127 yX10_end := Or.inl q2844
theorem q2728 : (Jvm.Cond.methodLink "CompiledHouse$Layer" (131 : Nat) ({ cls := "CompiledHouse$Words", name := "two", desc := "(IIII)V" } : Jvm.MethodName)) ∈ lw_all := lw_g (lw_at lw_m11 132 rfl) rfl
theorem lk_X10_131 : xLk RX10 131 yX9_two := Or.inl q2728
theorem q2729 : (Jvm.Cond.methodLink "CompiledHouse$Layer" (135 : Nat) ({ cls := "CompiledHouse$Words", name := "number", desc := "(II)V" } : Jvm.MethodName)) ∈ lw_all := lw_g (lw_at lw_m11 133 rfl) rfl
theorem lk_X10_135 : xLk RX10 135 yX9_number := Or.inl q2729
theorem q2733 : (Jvm.Cond.methodLink "CompiledHouse$Layer" (138 : Nat) ({ cls := "CompiledHouse$Words", name := "three", desc := "(IIIII)V" } : Jvm.MethodName)) ∈ lw_all := lw_g (lw_at lw_m11 137 rfl) rfl
theorem lk_X10_138 : xLk RX10 138 yX9_three := Or.inl q2733
theorem q2741 : (Jvm.Cond.methodLink "CompiledHouse$Layer" (142 : Nat) ({ cls := "CompiledHouse$Layer", name := "one", desc := "(IIZ)V" } : Jvm.MethodName)) ∈ lw_all := lw_g (lw_at lw_m11 145 rfl) rfl
abbrev cX10_one : ByteArray := prog_17_method_6_code
def yX10_one : MethodName := ⟨RX10, "one", "(IIZ)V"⟩
theorem q2744 : (Jvm.Cond.code ({ cls := "CompiledHouse$Layer", name := "one", desc := "(IIZ)V" } : Jvm.MethodName) prog_17_method_6_code (4 : Nat) (Option.none : Option Jvm.ClassFile.FieldType)) ∈ lw_all := lw_g (lw_at lw_m11 148 rfl) rfl
def kX10_one : xK := (yX10_one, cX10_one, 4, none, [])
theorem me_X10_one : xMe kX10_one 3 := ⟨q2744, q213, by decide, by decide, by decide +kernel⟩
theorem q2743 : (Jvm.Cond.instanceMethod ({ cls := "CompiledHouse$Layer", name := "one", desc := "(IIZ)V" } : Jvm.MethodName)) ∈ lw_all := lw_g (lw_at lw_m11 147 rfl) rfl
theorem is_X10_one : Cond.instanceMethod kX10_one.y ∈ lw_all := q2743
theorem se_X10_one : Cond.selects RX10 kX10_one.y kX10_one.y ∈ lw_all := qs90
theorem lk_X10_142 : xLk RX10 142 yX10_one := Or.inl q2741
theorem q2761 : (Jvm.Cond.fieldLinkNest "CompiledHouse$Layer" (146 : Nat) "CompiledHouse" "COLOUR" "[I" "CompiledHouse") ∈ lw_tbl := lw_at lw_m11 165 rfl
theorem q2745 : (Jvm.Cond.methodLink "CompiledHouse$Layer" (149 : Nat) ({ cls := "CompiledHouse$Layer", name := "toFrame", desc := "(III)V" } : Jvm.MethodName)) ∈ lw_all := lw_g (lw_at lw_m11 149 rfl) rfl
abbrev cX10_toFrame : ByteArray := prog_17_method_7_code
def yX10_toFrame : MethodName := ⟨RX10, "toFrame", "(III)V"⟩
theorem q2748 : (Jvm.Cond.code ({ cls := "CompiledHouse$Layer", name := "toFrame", desc := "(III)V" } : Jvm.MethodName) prog_17_method_7_code (4 : Nat) (Option.none : Option Jvm.ClassFile.FieldType)) ∈ lw_all := lw_g (lw_at lw_m11 152 rfl) rfl
def kX10_toFrame : xK := (yX10_toFrame, cX10_toFrame, 4, none, [])
theorem me_X10_toFrame : xMe kX10_toFrame 3 := ⟨q2748, q213, by decide, by decide, by decide +kernel⟩
theorem q2747 : (Jvm.Cond.instanceMethod ({ cls := "CompiledHouse$Layer", name := "toFrame", desc := "(III)V" } : Jvm.MethodName)) ∈ lw_all := lw_g (lw_at lw_m11 151 rfl) rfl
theorem is_X10_toFrame : Cond.instanceMethod kX10_toFrame.y ∈ lw_all := q2747
theorem se_X10_toFrame : Cond.selects RX10 kX10_toFrame.y kX10_toFrame.y ∈ lw_all := qs91
theorem lk_X10_149 : xLk RX10 149 yX10_toFrame := Or.inl q2745
theorem q2753 : (Jvm.Cond.methodLink "CompiledHouse$Layer" (153 : Nat) ({ cls := "CompiledHouse$Layer", name := "fromFrame", desc := "(II)V" } : Jvm.MethodName)) ∈ lw_all := lw_g (lw_at lw_m11 157 rfl) rfl
abbrev cX10_fromFrame : ByteArray := prog_17_method_8_code
def yX10_fromFrame : MethodName := ⟨RX10, "fromFrame", "(II)V"⟩
theorem q2756 : (Jvm.Cond.code ({ cls := "CompiledHouse$Layer", name := "fromFrame", desc := "(II)V" } : Jvm.MethodName) prog_17_method_8_code (3 : Nat) (Option.none : Option Jvm.ClassFile.FieldType)) ∈ lw_all := lw_g (lw_at lw_m11 160 rfl) rfl
def kX10_fromFrame : xK := (yX10_fromFrame, cX10_fromFrame, 3, none, [])
theorem me_X10_fromFrame : xMe kX10_fromFrame 2 := ⟨q2756, q213, by decide, by decide, by decide +kernel⟩
theorem q2755 : (Jvm.Cond.instanceMethod ({ cls := "CompiledHouse$Layer", name := "fromFrame", desc := "(II)V" } : Jvm.MethodName)) ∈ lw_all := lw_g (lw_at lw_m11 159 rfl) rfl
theorem is_X10_fromFrame : Cond.instanceMethod kX10_fromFrame.y ∈ lw_all := q2755
theorem se_X10_fromFrame : Cond.selects RX10 kX10_fromFrame.y kX10_fromFrame.y ∈ lw_all := qs92
theorem lk_X10_153 : xLk RX10 153 yX10_fromFrame := Or.inl q2753
theorem q2749 : (Jvm.Cond.methodLink "CompiledHouse$Layer" (156 : Nat) ({ cls := "CompiledHouse$Words", name := "store", desc := "(IIII)V" } : Jvm.MethodName)) ∈ lw_all := lw_g (lw_at lw_m11 153 rfl) rfl
theorem lk_X10_156 : xLk RX10 156 yX9_store := Or.inl q2749
theorem q2757 : (Jvm.Cond.methodLink "CompiledHouse$Layer" (159 : Nat) ({ cls := "CompiledHouse$Words", name := "load", desc := "(IIII)V" } : Jvm.MethodName)) ∈ lw_all := lw_g (lw_at lw_m11 161 rfl) rfl
theorem lk_X10_159 : xLk RX10 159 yX9_load := Or.inl q2757
theorem q2770 : (Jvm.Cond.methodLinkNest "CompiledHouse$Layer" (179 : Nat) ({ cls := "CompiledHouse", name := "below", desc := "(I)Z" } : Jvm.MethodName) "CompiledHouse") ∈ lw_tbl := lw_at lw_m11 174 rfl
theorem lk_X10_179 : xLk RX10 179 yX0_below := Or.inr ⟨_, q2770⟩
theorem q2771 : (Jvm.Cond.methodLink "CompiledHouse$Layer" (183 : Nat) ({ cls := "CompiledHouse$Layer", name := "sum", desc := "(LCompiledHouse$Act;)V" } : Jvm.MethodName)) ∈ lw_all := lw_g (lw_at lw_m11 175 rfl) rfl
abbrev cX10_sum : ByteArray := prog_17_method_16_code
def yX10_sum : MethodName := ⟨RX10, "sum", "(LCompiledHouse$Act;)V"⟩
theorem q2774 : (Jvm.Cond.code ({ cls := "CompiledHouse$Layer", name := "sum", desc := "(LCompiledHouse$Act;)V" } : Jvm.MethodName) prog_17_method_16_code (11 : Nat) (Option.none : Option Jvm.ClassFile.FieldType)) ∈ lw_all := lw_g (lw_at lw_m11 178 rfl) rfl
def kX10_sum : xK := (yX10_sum, cX10_sum, 11, none, [])
theorem me_X10_sum : xMe kX10_sum 1 := ⟨q2774, q213, by decide, by decide, by decide +kernel⟩
theorem q2773 : (Jvm.Cond.instanceMethod ({ cls := "CompiledHouse$Layer", name := "sum", desc := "(LCompiledHouse$Act;)V" } : Jvm.MethodName)) ∈ lw_all := lw_g (lw_at lw_m11 177 rfl) rfl
theorem is_X10_sum : Cond.instanceMethod kX10_sum.y ∈ lw_all := q2773
theorem se_X10_sum : Cond.selects RX10 kX10_sum.y kX10_sum.y ∈ lw_all := qs94
theorem lk_X10_183 : xLk RX10 183 yX10_sum := Or.inl q2771
theorem q1919 : (Jvm.Cond.fieldLinkNest "CompiledHouse$Layer" (186 : Nat) "CompiledHouse$Act" "d" "I" "CompiledHouse") ∈ lw_tbl := lw_at lw_m8 43 rfl
theorem f_X10_186_35 : xF RX10 186 35 1 := ⟨_, "CompiledHouse$Act", rfl, by decide, Or.inr ⟨_, q1919⟩, Or.inl rfl⟩
theorem q1925 : (Jvm.Cond.fieldLinkNest "CompiledHouse$Layer" (189 : Nat) "CompiledHouse$Act" "a" "J" "CompiledHouse") ∈ lw_tbl := lw_at lw_m8 49 rfl
theorem f_X10_189_35 : xF RX10 189 35 2 := ⟨_, "CompiledHouse$Act", rfl, by decide, Or.inr ⟨_, q1925⟩, Or.inl rfl⟩
theorem q2775 : (Jvm.Cond.methodLink "CompiledHouse$Layer" (193 : Nat) ({ cls := "CompiledHouse$Layer", name := "into", desc := "(I)I" } : Jvm.MethodName)) ∈ lw_all := lw_g (lw_at lw_m11 179 rfl) rfl
abbrev cX10_into : ByteArray := prog_17_method_12_code
def yX10_into : MethodName := ⟨RX10, "into", "(I)I"⟩
theorem q2778 : (Jvm.Cond.code ({ cls := "CompiledHouse$Layer", name := "into", desc := "(I)I" } : Jvm.MethodName) prog_17_method_12_code (2 : Nat) (Option.some Jvm.ClassFile.FieldType.int)) ∈ lw_all := lw_g (lw_at lw_m11 182 rfl) rfl
def kX10_into : xK := (yX10_into, cX10_into, 2, some .int, [])
theorem me_X10_into : xMe kX10_into 1 := ⟨q2778, q213, by decide, by decide, by decide +kernel⟩
theorem q2777 : (Jvm.Cond.instanceMethod ({ cls := "CompiledHouse$Layer", name := "into", desc := "(I)I" } : Jvm.MethodName)) ∈ lw_all := lw_g (lw_at lw_m11 181 rfl) rfl
theorem is_X10_into : Cond.instanceMethod kX10_into.y ∈ lw_all := q2777
theorem se_X10_into : Cond.selects RX10 kX10_into.y kX10_into.y ∈ lw_all := qs95
theorem lk_X10_193 : xLk RX10 193 yX10_into := Or.inl q2775
theorem q2804 : (Jvm.Cond.methodLink "CompiledHouse$Layer" (196 : Nat) ({ cls := "CompiledHouse$Layer", name := "bring", desc := "(JI)V" } : Jvm.MethodName)) ∈ lw_all := lw_g (lw_at lw_m11 208 rfl) rfl
abbrev cX10_bring : ByteArray := prog_17_method_11_code
def yX10_bring : MethodName := ⟨RX10, "bring", "(JI)V"⟩
theorem q2807 : (Jvm.Cond.code ({ cls := "CompiledHouse$Layer", name := "bring", desc := "(JI)V" } : Jvm.MethodName) prog_17_method_11_code (4 : Nat) (Option.none : Option Jvm.ClassFile.FieldType)) ∈ lw_all := lw_g (lw_at lw_m11 211 rfl) rfl
def kX10_bring : xK := (yX10_bring, cX10_bring, 4, none, [])
theorem me_X10_bring : xMe kX10_bring 2 := ⟨q2807, q213, by decide, by decide, by decide +kernel⟩
theorem q2806 : (Jvm.Cond.instanceMethod ({ cls := "CompiledHouse$Layer", name := "bring", desc := "(JI)V" } : Jvm.MethodName)) ∈ lw_all := lw_g (lw_at lw_m11 210 rfl) rfl
theorem is_X10_bring : Cond.instanceMethod kX10_bring.y ∈ lw_all := q2806
theorem se_X10_bring : Cond.selects RX10 kX10_bring.y kX10_bring.y ∈ lw_all := qs100
theorem lk_X10_196 : xLk RX10 196 yX10_bring := Or.inl q2804
theorem q2779 : (Jvm.Cond.methodLink "CompiledHouse$Layer" (172 : Nat) ({ cls := "CompiledHouse$Layer", name := "from", desc := "(JI)I" } : Jvm.MethodName)) ∈ lw_all := lw_g (lw_at lw_m11 183 rfl) rfl
abbrev cX10_from : ByteArray := prog_17_method_10_code
def yX10_from : MethodName := ⟨RX10, "from", "(JI)I"⟩
theorem q2782 : (Jvm.Cond.code ({ cls := "CompiledHouse$Layer", name := "from", desc := "(JI)I" } : Jvm.MethodName) prog_17_method_10_code (5 : Nat) (Option.some Jvm.ClassFile.FieldType.int)) ∈ lw_all := lw_g (lw_at lw_m11 186 rfl) rfl
def kX10_from : xK := (yX10_from, cX10_from, 5, some .int, [])
theorem me_X10_from : xMe kX10_from 2 := ⟨q2782, q213, by decide, by decide, by decide +kernel⟩
theorem q2781 : (Jvm.Cond.instanceMethod ({ cls := "CompiledHouse$Layer", name := "from", desc := "(JI)I" } : Jvm.MethodName)) ∈ lw_all := lw_g (lw_at lw_m11 185 rfl) rfl
theorem is_X10_from : Cond.instanceMethod kX10_from.y ∈ lw_all := q2781
theorem se_X10_from : Cond.selects RX10 kX10_from.y kX10_from.y ∈ lw_all := qs96
theorem lk_X10_172 : xLk RX10 172 yX10_from := Or.inl q2779
theorem q2796 : (Jvm.Cond.methodLink "CompiledHouse$Layer" (200 : Nat) ({ cls := "CompiledHouse$Layer", name := "made", desc := "(II)V" } : Jvm.MethodName)) ∈ lw_all := lw_g (lw_at lw_m11 200 rfl) rfl
abbrev cX10_made : ByteArray := prog_17_method_13_code
def yX10_made : MethodName := ⟨RX10, "made", "(II)V"⟩
theorem q2799 : (Jvm.Cond.code ({ cls := "CompiledHouse$Layer", name := "made", desc := "(II)V" } : Jvm.MethodName) prog_17_method_13_code (3 : Nat) (Option.none : Option Jvm.ClassFile.FieldType)) ∈ lw_all := lw_g (lw_at lw_m11 203 rfl) rfl
def kX10_made : xK := (yX10_made, cX10_made, 3, none, [])
theorem me_X10_made : xMe kX10_made 2 := ⟨q2799, q213, by decide, by decide, by decide +kernel⟩
theorem q2798 : (Jvm.Cond.instanceMethod ({ cls := "CompiledHouse$Layer", name := "made", desc := "(II)V" } : Jvm.MethodName)) ∈ lw_all := lw_g (lw_at lw_m11 202 rfl) rfl
theorem is_X10_made : Cond.instanceMethod kX10_made.y ∈ lw_all := q2798
theorem se_X10_made : Cond.selects RX10 kX10_made.y kX10_made.y ∈ lw_all := qs99
theorem lk_X10_200 : xLk RX10 200 yX10_made := Or.inl q2796
theorem q2808 : (Jvm.Cond.methodLink "CompiledHouse$Layer" (203 : Nat) ({ cls := "CompiledHouse$Layer", name := "memory", desc := "(LCompiledHouse$Act;)V" } : Jvm.MethodName)) ∈ lw_all := lw_g (lw_at lw_m11 212 rfl) rfl
abbrev cX10_memory : ByteArray := prog_17_method_18_code
def yX10_memory : MethodName := ⟨RX10, "memory", "(LCompiledHouse$Act;)V"⟩
theorem q2811 : (Jvm.Cond.code ({ cls := "CompiledHouse$Layer", name := "memory", desc := "(LCompiledHouse$Act;)V" } : Jvm.MethodName) prog_17_method_18_code (7 : Nat) (Option.none : Option Jvm.ClassFile.FieldType)) ∈ lw_all := lw_g (lw_at lw_m11 215 rfl) rfl
def kX10_memory : xK := (yX10_memory, cX10_memory, 7, none, [])
theorem me_X10_memory : xMe kX10_memory 1 := ⟨q2811, q213, by decide, by decide, by decide +kernel⟩
theorem q2810 : (Jvm.Cond.instanceMethod ({ cls := "CompiledHouse$Layer", name := "memory", desc := "(LCompiledHouse$Act;)V" } : Jvm.MethodName)) ∈ lw_all := lw_g (lw_at lw_m11 214 rfl) rfl
theorem is_X10_memory : Cond.instanceMethod kX10_memory.y ∈ lw_all := q2810
theorem se_X10_memory : Cond.selects RX10 kX10_memory.y kX10_memory.y ∈ lw_all := qs101
theorem lk_X10_203 : xLk RX10 203 yX10_memory := Or.inl q2808
theorem q2813 : (Jvm.Cond.methodLink "CompiledHouse$Layer" (206 : Nat) ({ cls := "CompiledHouse$Layer", name := "check", desc := "(LCompiledHouse$Act;)V" } : Jvm.MethodName)) ∈ lw_all := lw_g (lw_at lw_m11 217 rfl) rfl
abbrev cX10_check : ByteArray := prog_17_method_19_code
def yX10_check : MethodName := ⟨RX10, "check", "(LCompiledHouse$Act;)V"⟩
theorem q2816 : (Jvm.Cond.code ({ cls := "CompiledHouse$Layer", name := "check", desc := "(LCompiledHouse$Act;)V" } : Jvm.MethodName) prog_17_method_19_code (5 : Nat) (Option.none : Option Jvm.ClassFile.FieldType)) ∈ lw_all := lw_g (lw_at lw_m11 220 rfl) rfl
def kX10_check : xK := (yX10_check, cX10_check, 5, none, [])
theorem me_X10_check : xMe kX10_check 1 := ⟨q2816, q213, by decide, by decide, by decide +kernel⟩
theorem q2815 : (Jvm.Cond.instanceMethod ({ cls := "CompiledHouse$Layer", name := "check", desc := "(LCompiledHouse$Act;)V" } : Jvm.MethodName)) ∈ lw_all := lw_g (lw_at lw_m11 219 rfl) rfl
theorem is_X10_check : Cond.instanceMethod kX10_check.y ∈ lw_all := q2815
theorem se_X10_check : Cond.selects RX10 kX10_check.y kX10_check.y ∈ lw_all := qs102
theorem lk_X10_206 : xLk RX10 206 yX10_check := Or.inl q2813
theorem q2829 : (Jvm.Cond.methodLink "CompiledHouse$Layer" (209 : Nat) ({ cls := "CompiledHouse$Layer", name := "call", desc := "(LCompiledHouse$Act;)V" } : Jvm.MethodName)) ∈ lw_all := lw_g (lw_at lw_m11 233 rfl) rfl
abbrev cX10_call : ByteArray := prog_17_method_21_code
def yX10_call : MethodName := ⟨RX10, "call", "(LCompiledHouse$Act;)V"⟩
theorem q2832 : (Jvm.Cond.code ({ cls := "CompiledHouse$Layer", name := "call", desc := "(LCompiledHouse$Act;)V" } : Jvm.MethodName) prog_17_method_21_code (5 : Nat) (Option.none : Option Jvm.ClassFile.FieldType)) ∈ lw_all := lw_g (lw_at lw_m11 236 rfl) rfl
def kX10_call : xK := (yX10_call, cX10_call, 5, none, [])
theorem me_X10_call : xMe kX10_call 1 := ⟨q2832, q213, by decide, by decide, by decide +kernel⟩
theorem q2831 : (Jvm.Cond.instanceMethod ({ cls := "CompiledHouse$Layer", name := "call", desc := "(LCompiledHouse$Act;)V" } : Jvm.MethodName)) ∈ lw_all := lw_g (lw_at lw_m11 235 rfl) rfl
theorem is_X10_call : Cond.instanceMethod kX10_call.y ∈ lw_all := q2831
theorem se_X10_call : Cond.selects RX10 kX10_call.y kX10_call.y ∈ lw_all := qs103
theorem lk_X10_209 : xLk RX10 209 yX10_call := Or.inl q2829
theorem q2833 : (Jvm.Cond.methodLink "CompiledHouse$Layer" (212 : Nat) ({ cls := "CompiledHouse$Layer", name := "turn", desc := "()V" } : Jvm.MethodName)) ∈ lw_all := lw_g (lw_at lw_m11 237 rfl) rfl
abbrev cX10_turn : ByteArray := prog_17_method_20_code
def yX10_turn : MethodName := ⟨RX10, "turn", "()V"⟩
theorem q2836 : (Jvm.Cond.code ({ cls := "CompiledHouse$Layer", name := "turn", desc := "()V" } : Jvm.MethodName) prog_17_method_20_code (2 : Nat) (Option.none : Option Jvm.ClassFile.FieldType)) ∈ lw_all := lw_g (lw_at lw_m12 0 rfl) rfl
def kX10_turn : xK := (yX10_turn, cX10_turn, 2, none, [])
theorem me_X10_turn : xMe kX10_turn 0 := ⟨q2836, q213, by decide, by decide, by decide +kernel⟩
theorem q2835 : (Jvm.Cond.instanceMethod ({ cls := "CompiledHouse$Layer", name := "turn", desc := "()V" } : Jvm.MethodName)) ∈ lw_all := lw_g (lw_at lw_m11 239 rfl) rfl
theorem is_X10_turn : Cond.instanceMethod kX10_turn.y ∈ lw_all := q2835
theorem se_X10_turn : Cond.selects RX10 kX10_turn.y kX10_turn.y ∈ lw_all := qs104
theorem lk_X10_212 : xLk RX10 212 yX10_turn := Or.inl q2833
theorem q2821 : (Jvm.Cond.methodLink "CompiledHouse$Layer" (215 : Nat) ({ cls := "CompiledHouse$Words", name := "service", desc := "(I)V" } : Jvm.MethodName)) ∈ lw_all := lw_g (lw_at lw_m11 225 rfl) rfl
theorem lk_X10_215 : xLk RX10 215 yX9_service := Or.inl q2821
theorem q1938 : (Jvm.Cond.fieldLinkNest "CompiledHouse$Layer" (218 : Nat) "CompiledHouse$Act" "of" "LCompiledHouse$Symbol;" "CompiledHouse") ∈ lw_tbl := lw_at lw_m8 62 rfl
theorem f_X10_218_35 : xF RX10 218 35 7 := ⟨_, "CompiledHouse$Act", rfl, by decide, Or.inr ⟨_, q1938⟩, Or.inl rfl⟩
theorem q2838 : (Jvm.Cond.methodLink "CompiledHouse$Layer" (222 : Nat) ({ cls := "CompiledHouse$Layer", name := "zero", desc := "(LCompiledHouse$Symbol;)V" } : Jvm.MethodName)) ∈ lw_all := lw_g (lw_at lw_m12 2 rfl) rfl
abbrev cX10_zero : ByteArray := prog_17_method_22_code
def yX10_zero : MethodName := ⟨RX10, "zero", "(LCompiledHouse$Symbol;)V"⟩
theorem q2841 : (Jvm.Cond.code ({ cls := "CompiledHouse$Layer", name := "zero", desc := "(LCompiledHouse$Symbol;)V" } : Jvm.MethodName) prog_17_method_22_code (2 : Nat) (Option.none : Option Jvm.ClassFile.FieldType)) ∈ lw_all := lw_g (lw_at lw_m12 5 rfl) rfl
def kX10_zero : xK := (yX10_zero, cX10_zero, 2, none, [])
theorem me_X10_zero : xMe kX10_zero 1 := ⟨q2841, q213, by decide, by decide, by decide +kernel⟩
theorem q2840 : (Jvm.Cond.instanceMethod ({ cls := "CompiledHouse$Layer", name := "zero", desc := "(LCompiledHouse$Symbol;)V" } : Jvm.MethodName)) ∈ lw_all := lw_g (lw_at lw_m12 4 rfl) rfl
theorem is_X10_zero : Cond.instanceMethod kX10_zero.y ∈ lw_all := q2840
theorem se_X10_zero : Cond.selects RX10 kX10_zero.y kX10_zero.y ∈ lw_all := qs105
theorem lk_X10_222 : xLk RX10 222 yX10_zero := Or.inl q2838
theorem q1934 : (Jvm.Cond.fieldLinkNest "CompiledHouse$Layer" (226 : Nat) "CompiledHouse$Act" "n" "I" "CompiledHouse") ∈ lw_tbl := lw_at lw_m8 58 rfl
theorem f_X10_226_35 : xF RX10 226 35 5 := ⟨_, "CompiledHouse$Act", rfl, by decide, Or.inr ⟨_, q1934⟩, Or.inl rfl⟩
theorem dX10_init_0 : decode cX10_init 0 = .ok (.aload_n 0, 1) := by decide +kernel
theorem dX10_init_1 : decode cX10_init 1 = .ok (.invokespecial 3, 3) := by decide +kernel
theorem dX10_init_4 : decode cX10_init 4 = .ok (.aload_n 0, 1) := by decide +kernel
theorem dX10_init_5 : decode cX10_init 5 = .ok (.bipush 40, 2) := by decide +kernel
theorem dX10_init_7 : decode cX10_init 7 = .ok (.newarray .int, 2) := by decide +kernel
theorem dX10_init_9 : decode cX10_init 9 = .ok (.putfield 9, 3) := by decide +kernel
theorem dX10_init_12 : decode cX10_init 12 = .ok (.aload_n 0, 1) := by decide +kernel
theorem dX10_init_13 : decode cX10_init 13 = .ok (.aload_n 1, 1) := by decide +kernel
theorem dX10_init_14 : decode cX10_init 14 = .ok (.putfield 15, 3) := by decide +kernel
theorem dX10_init_17 : decode cX10_init 17 = .ok (.aload_n 0, 1) := by decide +kernel
theorem dX10_init_18 : decode cX10_init 18 = .ok (.new 19, 3) := by decide +kernel
theorem dX10_init_21 : decode cX10_init 21 = .ok (.dup, 1) := by decide +kernel
theorem dX10_init_22 : decode cX10_init 22 = .ok (.aload_n 2, 1) := by decide +kernel
theorem dX10_init_23 : decode cX10_init 23 = .ok (.invokespecial 21, 3) := by decide +kernel
theorem dX10_init_26 : decode cX10_init 26 = .ok (.putfield 24, 3) := by decide +kernel
theorem dX10_init_29 : decode cX10_init 29 = .ok (.return_, 1) := by decide +kernel
theorem dX10_functions_0 : decode cX10_functions 0 = .ok (.iconst 0, 1) := by decide +kernel
theorem dX10_functions_1 : decode cX10_functions 1 = .ok (.istore_n 2, 1) := by decide +kernel
theorem dX10_functions_2 : decode cX10_functions 2 = .ok (.iload_n 2, 1) := by decide +kernel
theorem dX10_functions_3 : decode cX10_functions 3 = .ok (.iload_n 1, 1) := by decide +kernel
theorem dX10_functions_4 : decode cX10_functions 4 = .ok (.if_icmp .ge 22, 3) := by decide +kernel
theorem dX10_functions_7 : decode cX10_functions 7 = .ok (.aload_n 0, 1) := by decide +kernel
theorem dX10_functions_8 : decode cX10_functions 8 = .ok (.getfield 9, 3) := by decide +kernel
theorem dX10_functions_11 : decode cX10_functions 11 = .ok (.iload_n 2, 1) := by decide +kernel
theorem dX10_functions_12 : decode cX10_functions 12 = .ok (.aload_n 0, 1) := by decide +kernel
theorem dX10_functions_13 : decode cX10_functions 13 = .ok (.getfield 15, 3) := by decide +kernel
theorem dX10_functions_16 : decode cX10_functions 16 = .ok (.invokevirtual 28, 3) := by decide +kernel
theorem dX10_functions_19 : decode cX10_functions 19 = .ok (.iastore, 1) := by decide +kernel
theorem dX10_functions_20 : decode cX10_functions 20 = .ok (.iinc 2 1, 3) := by decide +kernel
theorem dX10_functions_23 : decode cX10_functions 23 = .ok (.goto (-21), 3) := by decide +kernel
theorem dX10_functions_26 : decode cX10_functions 26 = .ok (.return_, 1) := by decide +kernel
theorem dX10_lay_0 : decode cX10_lay 0 = .ok (.aload_n 0, 1) := by decide +kernel
theorem dX10_lay_1 : decode cX10_lay 1 = .ok (.aload_n 1, 1) := by decide +kernel
theorem dX10_lay_2 : decode cX10_lay 2 = .ok (.putfield 34, 3) := by decide +kernel
theorem dX10_lay_5 : decode cX10_lay 5 = .ok (.aload_n 0, 1) := by decide +kernel
theorem dX10_lay_6 : decode cX10_lay 6 = .ok (.getfield 24, 3) := by decide +kernel
theorem dX10_lay_9 : decode cX10_lay 9 = .ok (.aload_n 1, 1) := by decide +kernel
theorem dX10_lay_10 : decode cX10_lay 10 = .ok (.invokevirtual 38, 3) := by decide +kernel
theorem dX10_lay_13 : decode cX10_lay 13 = .ok (.aload_n 0, 1) := by decide +kernel
theorem dX10_lay_14 : decode cX10_lay 14 = .ok (.iconst 4, 1) := by decide +kernel
theorem dX10_lay_15 : decode cX10_lay 15 = .ok (.aload_n 1, 1) := by decide +kernel
theorem dX10_lay_16 : decode cX10_lay 16 = .ok (.getfield 42, 3) := by decide +kernel
theorem dX10_lay_19 : decode cX10_lay 19 = .ok (.imul, 1) := by decide +kernel
theorem dX10_lay_20 : decode cX10_lay 20 = .ok (.putfield 48, 3) := by decide +kernel
theorem dX10_lay_23 : decode cX10_lay 23 = .ok (.aload_n 0, 1) := by decide +kernel
theorem dX10_lay_24 : decode cX10_lay 24 = .ok (.aload_n 0, 1) := by decide +kernel
theorem dX10_lay_25 : decode cX10_lay 25 = .ok (.getfield 48, 3) := by decide +kernel
theorem dX10_lay_28 : decode cX10_lay 28 = .ok (.iconst 4, 1) := by decide +kernel
theorem dX10_lay_29 : decode cX10_lay 29 = .ok (.aload_n 0, 1) := by decide +kernel
theorem dX10_lay_30 : decode cX10_lay 30 = .ok (.getfield 24, 3) := by decide +kernel
theorem dX10_lay_33 : decode cX10_lay 33 = .ok (.getfield 49, 3) := by decide +kernel
theorem dX10_lay_36 : decode cX10_lay 36 = .ok (.imul, 1) := by decide +kernel
theorem dX10_lay_37 : decode cX10_lay 37 = .ok (.iadd, 1) := by decide +kernel
theorem dX10_lay_38 : decode cX10_lay 38 = .ok (.putfield 52, 3) := by decide +kernel
theorem dX10_lay_41 : decode cX10_lay 41 = .ok (.aload_n 0, 1) := by decide +kernel
theorem dX10_lay_42 : decode cX10_lay 42 = .ok (.iconst 0, 1) := by decide +kernel
theorem dX10_lay_43 : decode cX10_lay 43 = .ok (.putfield 55, 3) := by decide +kernel
theorem dX10_lay_46 : decode cX10_lay 46 = .ok (.iconst 0, 1) := by decide +kernel
theorem dX10_lay_47 : decode cX10_lay 47 = .ok (.istore_n 2, 1) := by decide +kernel
theorem dX10_lay_48 : decode cX10_lay 48 = .ok (.iconst 0, 1) := by decide +kernel
theorem dX10_lay_49 : decode cX10_lay 49 = .ok (.istore_n 3, 1) := by decide +kernel
theorem dX10_lay_50 : decode cX10_lay 50 = .ok (.iload_n 3, 1) := by decide +kernel
theorem dX10_lay_51 : decode cX10_lay 51 = .ok (.aload_n 1, 1) := by decide +kernel
theorem dX10_lay_52 : decode cX10_lay 52 = .ok (.getfield 59, 3) := by decide +kernel
theorem dX10_lay_55 : decode cX10_lay 55 = .ok (.invokevirtual 63, 3) := by decide +kernel
theorem dX10_lay_58 : decode cX10_lay 58 = .ok (.if_icmp .ge 93, 3) := by decide +kernel
theorem dX10_lay_61 : decode cX10_lay 61 = .ok (.aload_n 1, 1) := by decide +kernel
theorem dX10_lay_62 : decode cX10_lay 62 = .ok (.getfield 59, 3) := by decide +kernel
theorem dX10_lay_65 : decode cX10_lay 65 = .ok (.iload_n 3, 1) := by decide +kernel
theorem dX10_lay_66 : decode cX10_lay 66 = .ok (.invokevirtual 68, 3) := by decide +kernel
theorem dX10_lay_69 : decode cX10_lay 69 = .ok (.checkcast 72, 3) := by decide +kernel
theorem dX10_lay_72 : decode cX10_lay 72 = .ok (.astore 4, 2) := by decide +kernel
theorem dX10_lay_74 : decode cX10_lay 74 = .ok (.aload 4, 2) := by decide +kernel
theorem dX10_lay_76 : decode cX10_lay 76 = .ok (.aload_n 0, 1) := by decide +kernel
theorem dX10_lay_77 : decode cX10_lay 77 = .ok (.getfield 15, 3) := by decide +kernel
theorem dX10_lay_80 : decode cX10_lay 80 = .ok (.invokevirtual 28, 3) := by decide +kernel
theorem dX10_lay_83 : decode cX10_lay 83 = .ok (.putfield 74, 3) := by decide +kernel
theorem dX10_lay_86 : decode cX10_lay 86 = .ok (.iconst 0, 1) := by decide +kernel
theorem dX10_lay_87 : decode cX10_lay 87 = .ok (.istore 5, 2) := by decide +kernel
theorem dX10_lay_89 : decode cX10_lay 89 = .ok (.iload 5, 2) := by decide +kernel
theorem dX10_lay_91 : decode cX10_lay 91 = .ok (.aload 4, 2) := by decide +kernel
theorem dX10_lay_93 : decode cX10_lay 93 = .ok (.getfield 77, 3) := by decide +kernel
theorem dX10_lay_96 : decode cX10_lay 96 = .ok (.invokevirtual 63, 3) := by decide +kernel
theorem dX10_lay_99 : decode cX10_lay 99 = .ok (.if_icmp .ge 46, 3) := by decide +kernel
theorem dX10_lay_102 : decode cX10_lay 102 = .ok (.aload_n 0, 1) := by decide +kernel
theorem dX10_lay_103 : decode cX10_lay 103 = .ok (.aload_n 0, 1) := by decide +kernel
theorem dX10_lay_104 : decode cX10_lay 104 = .ok (.getfield 55, 3) := by decide +kernel
theorem dX10_lay_107 : decode cX10_lay 107 = .ok (.ifCond .ne 24, 3) := by decide +kernel
theorem dX10_lay_110 : decode cX10_lay 110 = .ok (.aload 4, 2) := by decide +kernel
theorem dX10_lay_112 : decode cX10_lay 112 = .ok (.getfield 77, 3) := by decide +kernel
theorem dX10_lay_115 : decode cX10_lay 115 = .ok (.iload 5, 2) := by decide +kernel
theorem dX10_lay_117 : decode cX10_lay 117 = .ok (.invokevirtual 68, 3) := by decide +kernel
theorem dX10_lay_120 : decode cX10_lay 120 = .ok (.checkcast 80, 3) := by decide +kernel
theorem dX10_lay_123 : decode cX10_lay 123 = .ok (.getfield 82, 3) := by decide +kernel
theorem dX10_lay_126 : decode cX10_lay 126 = .ok (.bipush 26, 2) := by decide +kernel
theorem dX10_lay_128 : decode cX10_lay 128 = .ok (.if_icmp .ne 7, 3) := by decide +kernel
theorem dX10_lay_131 : decode cX10_lay 131 = .ok (.iconst 1, 1) := by decide +kernel
theorem dX10_lay_132 : decode cX10_lay 132 = .ok (.goto 4, 3) := by decide +kernel
theorem dX10_lay_135 : decode cX10_lay 135 = .ok (.iconst 0, 1) := by decide +kernel
theorem dX10_lay_136 : decode cX10_lay 136 = .ok (.putfield 55, 3) := by decide +kernel
theorem dX10_lay_139 : decode cX10_lay 139 = .ok (.iinc 5 1, 3) := by decide +kernel
theorem dX10_lay_142 : decode cX10_lay 142 = .ok (.goto (-53), 3) := by decide +kernel
theorem dX10_lay_145 : decode cX10_lay 145 = .ok (.iinc 3 1, 3) := by decide +kernel
theorem dX10_lay_148 : decode cX10_lay 148 = .ok (.goto (-98), 3) := by decide +kernel
theorem dX10_lay_151 : decode cX10_lay 151 = .ok (.iconst 0, 1) := by decide +kernel
theorem dX10_lay_152 : decode cX10_lay 152 = .ok (.istore_n 3, 1) := by decide +kernel
theorem dX10_lay_153 : decode cX10_lay 153 = .ok (.iload_n 3, 1) := by decide +kernel
theorem dX10_lay_154 : decode cX10_lay 154 = .ok (.aload_n 1, 1) := by decide +kernel
theorem dX10_lay_155 : decode cX10_lay 155 = .ok (.getfield 85, 3) := by decide +kernel
theorem dX10_lay_158 : decode cX10_lay 158 = .ok (.if_icmp .ge 36, 3) := by decide +kernel
theorem dX10_lay_161 : decode cX10_lay 161 = .ok (.aload_n 0, 1) := by decide +kernel
theorem dX10_lay_162 : decode cX10_lay 162 = .ok (.getfield 24, 3) := by decide +kernel
theorem dX10_lay_165 : decode cX10_lay 165 = .ok (.getfield 88, 3) := by decide +kernel
theorem dX10_lay_168 : decode cX10_lay 168 = .ok (.iload_n 3, 1) := by decide +kernel
theorem dX10_lay_169 : decode cX10_lay 169 = .ok (.iaload, 1) := by decide +kernel
theorem dX10_lay_170 : decode cX10_lay 170 = .ok (.iconst 5, 1) := by decide +kernel
theorem dX10_lay_171 : decode cX10_lay 171 = .ok (.if_icmp .lt 17, 3) := by decide +kernel
theorem dX10_lay_174 : decode cX10_lay 174 = .ok (.iload_n 2, 1) := by decide +kernel
theorem dX10_lay_175 : decode cX10_lay 175 = .ok (.iconst 1, 1) := by decide +kernel
theorem dX10_lay_176 : decode cX10_lay 176 = .ok (.aload_n 0, 1) := by decide +kernel
theorem dX10_lay_177 : decode cX10_lay 177 = .ok (.getfield 24, 3) := by decide +kernel
theorem dX10_lay_180 : decode cX10_lay 180 = .ok (.getfield 88, 3) := by decide +kernel
theorem dX10_lay_183 : decode cX10_lay 183 = .ok (.iload_n 3, 1) := by decide +kernel
theorem dX10_lay_184 : decode cX10_lay 184 = .ok (.iaload, 1) := by decide +kernel
theorem dX10_lay_185 : decode cX10_lay 185 = .ok (.ishl, 1) := by decide +kernel
theorem dX10_lay_186 : decode cX10_lay 186 = .ok (.ior, 1) := by decide +kernel
theorem dX10_lay_187 : decode cX10_lay 187 = .ok (.istore_n 2, 1) := by decide +kernel
theorem dX10_lay_188 : decode cX10_lay 188 = .ok (.iinc 3 1, 3) := by decide +kernel
theorem dX10_lay_191 : decode cX10_lay 191 = .ok (.goto (-38), 3) := by decide +kernel
theorem dX10_lay_194 : decode cX10_lay 194 = .ok (.aload_n 0, 1) := by decide +kernel
theorem dX10_lay_195 : decode cX10_lay 195 = .ok (.aload_n 0, 1) := by decide +kernel
theorem dX10_lay_196 : decode cX10_lay 196 = .ok (.getfield 52, 3) := by decide +kernel
theorem dX10_lay_199 : decode cX10_lay 199 = .ok (.iconst 4, 1) := by decide +kernel
theorem dX10_lay_200 : decode cX10_lay 200 = .ok (.iload_n 2, 1) := by decide +kernel
theorem dX10_lay_201 : decode cX10_lay 201 = .ok (.invokestatic 91, 3) := by decide +kernel
theorem dX10_lay_204 : decode cX10_lay 204 = .ok (.imul, 1) := by decide +kernel
theorem dX10_lay_205 : decode cX10_lay 205 = .ok (.iadd, 1) := by decide +kernel
theorem dX10_lay_206 : decode cX10_lay 206 = .ok (.iconst 4, 1) := by decide +kernel
theorem dX10_lay_207 : decode cX10_lay 207 = .ok (.iadd, 1) := by decide +kernel
theorem dX10_lay_208 : decode cX10_lay 208 = .ok (.putfield 97, 3) := by decide +kernel
theorem dX10_lay_211 : decode cX10_lay 211 = .ok (.aload_n 0, 1) := by decide +kernel
theorem dX10_lay_212 : decode cX10_lay 212 = .ok (.getfield 15, 3) := by decide +kernel
theorem dX10_lay_215 : decode cX10_lay 215 = .ok (.getfield 100, 3) := by decide +kernel
theorem dX10_lay_218 : decode cX10_lay 218 = .ok (.aload_n 0, 1) := by decide +kernel
theorem dX10_lay_219 : decode cX10_lay 219 = .ok (.getfield 9, 3) := by decide +kernel
theorem dX10_lay_222 : decode cX10_lay 222 = .ok (.aload_n 1, 1) := by decide +kernel
theorem dX10_lay_223 : decode cX10_lay 223 = .ok (.getfield 103, 3) := by decide +kernel
theorem dX10_lay_226 : decode cX10_lay 226 = .ok (.getfield 107, 3) := by decide +kernel
theorem dX10_lay_229 : decode cX10_lay 229 = .ok (.iaload, 1) := by decide +kernel
theorem dX10_lay_230 : decode cX10_lay 230 = .ok (.aload_n 0, 1) := by decide +kernel
theorem dX10_lay_231 : decode cX10_lay 231 = .ok (.getfield 15, 3) := by decide +kernel
theorem dX10_lay_234 : decode cX10_lay 234 = .ok (.getfield 110, 3) := by decide +kernel
theorem dX10_lay_237 : decode cX10_lay 237 = .ok (.iastore, 1) := by decide +kernel
theorem dX10_lay_238 : decode cX10_lay 238 = .ok (.aload_n 0, 1) := by decide +kernel
theorem dX10_lay_239 : decode cX10_lay 239 = .ok (.aload_n 0, 1) := by decide +kernel
theorem dX10_lay_240 : decode cX10_lay 240 = .ok (.getfield 97, 3) := by decide +kernel
theorem dX10_lay_243 : decode cX10_lay 243 = .ok (.ineg, 1) := by decide +kernel
theorem dX10_lay_244 : decode cX10_lay 244 = .ok (.invokevirtual 113, 3) := by decide +kernel
theorem dX10_lay_247 : decode cX10_lay 247 = .ok (.aload_n 0, 1) := by decide +kernel
theorem dX10_lay_248 : decode cX10_lay 248 = .ok (.iload_n 2, 1) := by decide +kernel
theorem dX10_lay_249 : decode cX10_lay 249 = .ok (.iconst 1, 1) := by decide +kernel
theorem dX10_lay_250 : decode cX10_lay 250 = .ok (.invokevirtual 117, 3) := by decide +kernel
theorem dX10_lay_253 : decode cX10_lay 253 = .ok (.iconst 0, 1) := by decide +kernel
theorem dX10_lay_254 : decode cX10_lay 254 = .ok (.istore_n 3, 1) := by decide +kernel
theorem dX10_lay_255 : decode cX10_lay 255 = .ok (.iload_n 3, 1) := by decide +kernel
theorem dX10_lay_256 : decode cX10_lay 256 = .ok (.aload_n 1, 1) := by decide +kernel
theorem dX10_lay_257 : decode cX10_lay 257 = .ok (.getfield 59, 3) := by decide +kernel
theorem dX10_lay_260 : decode cX10_lay 260 = .ok (.invokevirtual 63, 3) := by decide +kernel
theorem dX10_lay_263 : decode cX10_lay 263 = .ok (.if_icmp .ge 110, 3) := by decide +kernel
theorem dX10_lay_266 : decode cX10_lay 266 = .ok (.aload_n 1, 1) := by decide +kernel
theorem dX10_lay_267 : decode cX10_lay 267 = .ok (.getfield 59, 3) := by decide +kernel
theorem dX10_lay_270 : decode cX10_lay 270 = .ok (.iload_n 3, 1) := by decide +kernel
theorem dX10_lay_271 : decode cX10_lay 271 = .ok (.invokevirtual 68, 3) := by decide +kernel
theorem dX10_lay_274 : decode cX10_lay 274 = .ok (.checkcast 72, 3) := by decide +kernel
theorem dX10_lay_277 : decode cX10_lay 277 = .ok (.astore 4, 2) := by decide +kernel
theorem dX10_lay_279 : decode cX10_lay 279 = .ok (.aload_n 0, 1) := by decide +kernel
theorem dX10_lay_280 : decode cX10_lay 280 = .ok (.getfield 15, 3) := by decide +kernel
theorem dX10_lay_283 : decode cX10_lay 283 = .ok (.aload 4, 2) := by decide +kernel
theorem dX10_lay_285 : decode cX10_lay 285 = .ok (.getfield 74, 3) := by decide +kernel
theorem dX10_lay_288 : decode cX10_lay 288 = .ok (.invokevirtual 121, 3) := by decide +kernel
theorem dX10_lay_291 : decode cX10_lay 291 = .ok (.iconst 0, 1) := by decide +kernel
theorem dX10_lay_292 : decode cX10_lay 292 = .ok (.istore 5, 2) := by decide +kernel
theorem dX10_lay_294 : decode cX10_lay 294 = .ok (.iload 5, 2) := by decide +kernel
theorem dX10_lay_296 : decode cX10_lay 296 = .ok (.aload 4, 2) := by decide +kernel
theorem dX10_lay_298 : decode cX10_lay 298 = .ok (.getfield 77, 3) := by decide +kernel
theorem dX10_lay_301 : decode cX10_lay 301 = .ok (.invokevirtual 63, 3) := by decide +kernel
theorem dX10_lay_304 : decode cX10_lay 304 = .ok (.if_icmp .ge 26, 3) := by decide +kernel
theorem dX10_lay_307 : decode cX10_lay 307 = .ok (.aload_n 0, 1) := by decide +kernel
theorem dX10_lay_308 : decode cX10_lay 308 = .ok (.aload 4, 2) := by decide +kernel
theorem dX10_lay_310 : decode cX10_lay 310 = .ok (.getfield 77, 3) := by decide +kernel
theorem dX10_lay_313 : decode cX10_lay 313 = .ok (.iload 5, 2) := by decide +kernel
theorem dX10_lay_315 : decode cX10_lay 315 = .ok (.invokevirtual 68, 3) := by decide +kernel
theorem dX10_lay_318 : decode cX10_lay 318 = .ok (.checkcast 80, 3) := by decide +kernel
theorem dX10_lay_321 : decode cX10_lay 321 = .ok (.invokevirtual 124, 3) := by decide +kernel
theorem dX10_lay_324 : decode cX10_lay 324 = .ok (.iinc 5 1, 3) := by decide +kernel
theorem dX10_lay_327 : decode cX10_lay 327 = .ok (.goto (-33), 3) := by decide +kernel
theorem dX10_lay_330 : decode cX10_lay 330 = .ok (.aload_n 0, 1) := by decide +kernel
theorem dX10_lay_331 : decode cX10_lay 331 = .ok (.aload 4, 2) := by decide +kernel
theorem dX10_lay_333 : decode cX10_lay 333 = .ok (.iload_n 3, 1) := by decide +kernel
theorem dX10_lay_334 : decode cX10_lay 334 = .ok (.iconst 1, 1) := by decide +kernel
theorem dX10_lay_335 : decode cX10_lay 335 = .ok (.iadd, 1) := by decide +kernel
theorem dX10_lay_336 : decode cX10_lay 336 = .ok (.aload_n 1, 1) := by decide +kernel
theorem dX10_lay_337 : decode cX10_lay 337 = .ok (.getfield 59, 3) := by decide +kernel
theorem dX10_lay_340 : decode cX10_lay 340 = .ok (.invokevirtual 63, 3) := by decide +kernel
theorem dX10_lay_343 : decode cX10_lay 343 = .ok (.if_icmp .ge 19, 3) := by decide +kernel
theorem dX10_lay_346 : decode cX10_lay 346 = .ok (.aload_n 1, 1) := by decide +kernel
theorem dX10_lay_347 : decode cX10_lay 347 = .ok (.getfield 59, 3) := by decide +kernel
theorem dX10_lay_350 : decode cX10_lay 350 = .ok (.iload_n 3, 1) := by decide +kernel
theorem dX10_lay_351 : decode cX10_lay 351 = .ok (.iconst 1, 1) := by decide +kernel
theorem dX10_lay_352 : decode cX10_lay 352 = .ok (.iadd, 1) := by decide +kernel
theorem dX10_lay_353 : decode cX10_lay 353 = .ok (.invokevirtual 68, 3) := by decide +kernel
theorem dX10_lay_356 : decode cX10_lay 356 = .ok (.checkcast 72, 3) := by decide +kernel
theorem dX10_lay_359 : decode cX10_lay 359 = .ok (.goto 4, 3) := by decide +kernel
theorem dX10_lay_362 : decode cX10_lay 362 = .ok (.aconst_null, 1) := by decide +kernel
theorem dX10_lay_363 : decode cX10_lay 363 = .ok (.iload_n 2, 1) := by decide +kernel
theorem dX10_lay_364 : decode cX10_lay 364 = .ok (.invokevirtual 127, 3) := by decide +kernel
theorem dX10_lay_367 : decode cX10_lay 367 = .ok (.iinc 3 1, 3) := by decide +kernel
theorem dX10_lay_370 : decode cX10_lay 370 = .ok (.goto (-115), 3) := by decide +kernel
theorem dX10_lay_373 : decode cX10_lay 373 = .ok (.aload_n 0, 1) := by decide +kernel
theorem dX10_lay_374 : decode cX10_lay 374 = .ok (.getfield 97, 3) := by decide +kernel
theorem dX10_lay_377 : decode cX10_lay 377 = .ok (.ireturn, 1) := by decide +kernel
theorem dX10_step_0 : decode cX10_step 0 = .ok (.iload_n 1, 1) := by decide +kernel
theorem dX10_step_1 : decode cX10_step 1 = .ok (.sipush (-2048), 3) := by decide +kernel
theorem dX10_step_4 : decode cX10_step 4 = .ok (.if_icmp .lt 22, 3) := by decide +kernel
theorem dX10_step_7 : decode cX10_step 7 = .ok (.iload_n 1, 1) := by decide +kernel
theorem dX10_step_8 : decode cX10_step 8 = .ok (.sipush 2048, 3) := by decide +kernel
theorem dX10_step_11 : decode cX10_step 11 = .ok (.if_icmp .ge 15, 3) := by decide +kernel
theorem dX10_step_14 : decode cX10_step 14 = .ok (.aload_n 0, 1) := by decide +kernel
theorem dX10_step_15 : decode cX10_step 15 = .ok (.getfield 15, 3) := by decide +kernel
theorem dX10_step_18 : decode cX10_step 18 = .ok (.iconst 0, 1) := by decide +kernel
theorem dX10_step_19 : decode cX10_step 19 = .ok (.iconst 2, 1) := by decide +kernel
theorem dX10_step_20 : decode cX10_step 20 = .ok (.iconst 2, 1) := by decide +kernel
theorem dX10_step_21 : decode cX10_step 21 = .ok (.iload_n 1, 1) := by decide +kernel
theorem dX10_step_22 : decode cX10_step 22 = .ok (.invokevirtual 131, 3) := by decide +kernel
theorem dX10_step_25 : decode cX10_step 25 = .ok (.return_, 1) := by decide +kernel
theorem dX10_step_26 : decode cX10_step 26 = .ok (.aload_n 0, 1) := by decide +kernel
theorem dX10_step_27 : decode cX10_step 27 = .ok (.getfield 15, 3) := by decide +kernel
theorem dX10_step_30 : decode cX10_step 30 = .ok (.bipush 30, 2) := by decide +kernel
theorem dX10_step_32 : decode cX10_step 32 = .ok (.iload_n 1, 1) := by decide +kernel
theorem dX10_step_33 : decode cX10_step 33 = .ok (.invokevirtual 135, 3) := by decide +kernel
theorem dX10_step_36 : decode cX10_step 36 = .ok (.aload_n 0, 1) := by decide +kernel
theorem dX10_step_37 : decode cX10_step 37 = .ok (.getfield 15, 3) := by decide +kernel
theorem dX10_step_40 : decode cX10_step 40 = .ok (.iconst 0, 1) := by decide +kernel
theorem dX10_step_41 : decode cX10_step 41 = .ok (.iconst 0, 1) := by decide +kernel
theorem dX10_step_42 : decode cX10_step 42 = .ok (.iconst 2, 1) := by decide +kernel
theorem dX10_step_43 : decode cX10_step 43 = .ok (.iconst 2, 1) := by decide +kernel
theorem dX10_step_44 : decode cX10_step 44 = .ok (.bipush 30, 2) := by decide +kernel
theorem dX10_step_46 : decode cX10_step 46 = .ok (.invokevirtual 138, 3) := by decide +kernel
theorem dX10_step_49 : decode cX10_step 49 = .ok (.return_, 1) := by decide +kernel
theorem dX10_keep_0 : decode cX10_keep 0 = .ok (.aload_n 0, 1) := by decide +kernel
theorem dX10_keep_1 : decode cX10_keep 1 = .ok (.getfield 52, 3) := by decide +kernel
theorem dX10_keep_4 : decode cX10_keep 4 = .ok (.istore_n 3, 1) := by decide +kernel
theorem dX10_keep_5 : decode cX10_keep 5 = .ok (.aload_n 0, 1) := by decide +kernel
theorem dX10_keep_6 : decode cX10_keep 6 = .ok (.getfield 55, 3) := by decide +kernel
theorem dX10_keep_9 : decode cX10_keep 9 = .ok (.ifCond .eq 10, 3) := by decide +kernel
theorem dX10_keep_12 : decode cX10_keep 12 = .ok (.aload_n 0, 1) := by decide +kernel
theorem dX10_keep_13 : decode cX10_keep 13 = .ok (.iconst 1, 1) := by decide +kernel
theorem dX10_keep_14 : decode cX10_keep 14 = .ok (.iload_n 3, 1) := by decide +kernel
theorem dX10_keep_15 : decode cX10_keep 15 = .ok (.iload_n 2, 1) := by decide +kernel
theorem dX10_keep_16 : decode cX10_keep 16 = .ok (.invokevirtual 142, 3) := by decide +kernel
theorem dX10_keep_19 : decode cX10_keep 19 = .ok (.iinc 3 4, 3) := by decide +kernel
theorem dX10_keep_22 : decode cX10_keep 22 = .ok (.iconst 5, 1) := by decide +kernel
theorem dX10_keep_23 : decode cX10_keep 23 = .ok (.istore 4, 2) := by decide +kernel
theorem dX10_keep_25 : decode cX10_keep 25 = .ok (.iload 4, 2) := by decide +kernel
theorem dX10_keep_27 : decode cX10_keep 27 = .ok (.getstatic 146, 3) := by decide +kernel
theorem dX10_keep_30 : decode cX10_keep 30 = .ok (.arraylength, 1) := by decide +kernel
theorem dX10_keep_31 : decode cX10_keep 31 = .ok (.if_icmp .ge 36, 3) := by decide +kernel
theorem dX10_keep_34 : decode cX10_keep 34 = .ok (.iload_n 1, 1) := by decide +kernel
theorem dX10_keep_35 : decode cX10_keep 35 = .ok (.iload 4, 2) := by decide +kernel
theorem dX10_keep_37 : decode cX10_keep 37 = .ok (.ishr, 1) := by decide +kernel
theorem dX10_keep_38 : decode cX10_keep 38 = .ok (.iconst 1, 1) := by decide +kernel
theorem dX10_keep_39 : decode cX10_keep 39 = .ok (.iand, 1) := by decide +kernel
theorem dX10_keep_40 : decode cX10_keep 40 = .ok (.ifCond .ne 6, 3) := by decide +kernel
theorem dX10_keep_43 : decode cX10_keep 43 = .ok (.goto 18, 3) := by decide +kernel
theorem dX10_keep_46 : decode cX10_keep 46 = .ok (.aload_n 0, 1) := by decide +kernel
theorem dX10_keep_47 : decode cX10_keep 47 = .ok (.getstatic 146, 3) := by decide +kernel
theorem dX10_keep_50 : decode cX10_keep 50 = .ok (.iload 4, 2) := by decide +kernel
theorem dX10_keep_52 : decode cX10_keep 52 = .ok (.iaload, 1) := by decide +kernel
theorem dX10_keep_53 : decode cX10_keep 53 = .ok (.iload_n 3, 1) := by decide +kernel
theorem dX10_keep_54 : decode cX10_keep 54 = .ok (.iload_n 2, 1) := by decide +kernel
theorem dX10_keep_55 : decode cX10_keep 55 = .ok (.invokevirtual 142, 3) := by decide +kernel
theorem dX10_keep_58 : decode cX10_keep 58 = .ok (.iinc 3 4, 3) := by decide +kernel
theorem dX10_keep_61 : decode cX10_keep 61 = .ok (.iinc 4 1, 3) := by decide +kernel
theorem dX10_keep_64 : decode cX10_keep 64 = .ok (.goto (-39), 3) := by decide +kernel
theorem dX10_keep_67 : decode cX10_keep 67 = .ok (.return_, 1) := by decide +kernel
theorem dX10_one_0 : decode cX10_one 0 = .ok (.iload_n 3, 1) := by decide +kernel
theorem dX10_one_1 : decode cX10_one 1 = .ok (.ifCond .eq 14, 3) := by decide +kernel
theorem dX10_one_4 : decode cX10_one 4 = .ok (.aload_n 0, 1) := by decide +kernel
theorem dX10_one_5 : decode cX10_one 5 = .ok (.iload_n 1, 1) := by decide +kernel
theorem dX10_one_6 : decode cX10_one 6 = .ok (.iload_n 2, 1) := by decide +kernel
theorem dX10_one_7 : decode cX10_one 7 = .ok (.bipush 30, 2) := by decide +kernel
theorem dX10_one_9 : decode cX10_one 9 = .ok (.invokevirtual 149, 3) := by decide +kernel
theorem dX10_one_12 : decode cX10_one 12 = .ok (.goto 9, 3) := by decide +kernel
theorem dX10_one_15 : decode cX10_one 15 = .ok (.aload_n 0, 1) := by decide +kernel
theorem dX10_one_16 : decode cX10_one 16 = .ok (.iload_n 1, 1) := by decide +kernel
theorem dX10_one_17 : decode cX10_one 17 = .ok (.iload_n 2, 1) := by decide +kernel
theorem dX10_one_18 : decode cX10_one 18 = .ok (.invokevirtual 153, 3) := by decide +kernel
theorem dX10_one_21 : decode cX10_one 21 = .ok (.return_, 1) := by decide +kernel
theorem dX10_toFrame_0 : decode cX10_toFrame 0 = .ok (.iload_n 2, 1) := by decide +kernel
theorem dX10_toFrame_1 : decode cX10_toFrame 1 = .ok (.sipush 2048, 3) := by decide +kernel
theorem dX10_toFrame_4 : decode cX10_toFrame 4 = .ok (.if_icmp .ge 15, 3) := by decide +kernel
theorem dX10_toFrame_7 : decode cX10_toFrame 7 = .ok (.aload_n 0, 1) := by decide +kernel
theorem dX10_toFrame_8 : decode cX10_toFrame 8 = .ok (.getfield 15, 3) := by decide +kernel
theorem dX10_toFrame_11 : decode cX10_toFrame 11 = .ok (.iconst 2, 1) := by decide +kernel
theorem dX10_toFrame_12 : decode cX10_toFrame 12 = .ok (.iload_n 1, 1) := by decide +kernel
theorem dX10_toFrame_13 : decode cX10_toFrame 13 = .ok (.iconst 2, 1) := by decide +kernel
theorem dX10_toFrame_14 : decode cX10_toFrame 14 = .ok (.iload_n 2, 1) := by decide +kernel
theorem dX10_toFrame_15 : decode cX10_toFrame 15 = .ok (.invokevirtual 156, 3) := by decide +kernel
theorem dX10_toFrame_18 : decode cX10_toFrame 18 = .ok (.return_, 1) := by decide +kernel
theorem dX10_toFrame_19 : decode cX10_toFrame 19 = .ok (.aload_n 0, 1) := by decide +kernel
theorem dX10_toFrame_20 : decode cX10_toFrame 20 = .ok (.getfield 15, 3) := by decide +kernel
theorem dX10_toFrame_23 : decode cX10_toFrame 23 = .ok (.iload_n 3, 1) := by decide +kernel
theorem dX10_toFrame_24 : decode cX10_toFrame 24 = .ok (.iload_n 2, 1) := by decide +kernel
theorem dX10_toFrame_25 : decode cX10_toFrame 25 = .ok (.invokevirtual 135, 3) := by decide +kernel
theorem dX10_toFrame_28 : decode cX10_toFrame 28 = .ok (.aload_n 0, 1) := by decide +kernel
theorem dX10_toFrame_29 : decode cX10_toFrame 29 = .ok (.getfield 15, 3) := by decide +kernel
theorem dX10_toFrame_32 : decode cX10_toFrame 32 = .ok (.iconst 0, 1) := by decide +kernel
theorem dX10_toFrame_33 : decode cX10_toFrame 33 = .ok (.iconst 0, 1) := by decide +kernel
theorem dX10_toFrame_34 : decode cX10_toFrame 34 = .ok (.iload_n 3, 1) := by decide +kernel
theorem dX10_toFrame_35 : decode cX10_toFrame 35 = .ok (.iload_n 3, 1) := by decide +kernel
theorem dX10_toFrame_36 : decode cX10_toFrame 36 = .ok (.iconst 2, 1) := by decide +kernel
theorem dX10_toFrame_37 : decode cX10_toFrame 37 = .ok (.invokevirtual 138, 3) := by decide +kernel
theorem dX10_toFrame_40 : decode cX10_toFrame 40 = .ok (.aload_n 0, 1) := by decide +kernel
theorem dX10_toFrame_41 : decode cX10_toFrame 41 = .ok (.getfield 15, 3) := by decide +kernel
theorem dX10_toFrame_44 : decode cX10_toFrame 44 = .ok (.iconst 2, 1) := by decide +kernel
theorem dX10_toFrame_45 : decode cX10_toFrame 45 = .ok (.iload_n 1, 1) := by decide +kernel
theorem dX10_toFrame_46 : decode cX10_toFrame 46 = .ok (.iload_n 3, 1) := by decide +kernel
theorem dX10_toFrame_47 : decode cX10_toFrame 47 = .ok (.iconst 0, 1) := by decide +kernel
theorem dX10_toFrame_48 : decode cX10_toFrame 48 = .ok (.invokevirtual 156, 3) := by decide +kernel
theorem dX10_toFrame_51 : decode cX10_toFrame 51 = .ok (.return_, 1) := by decide +kernel
theorem dX10_fromFrame_0 : decode cX10_fromFrame 0 = .ok (.iload_n 2, 1) := by decide +kernel
theorem dX10_fromFrame_1 : decode cX10_fromFrame 1 = .ok (.sipush 2048, 3) := by decide +kernel
theorem dX10_fromFrame_4 : decode cX10_fromFrame 4 = .ok (.if_icmp .ge 15, 3) := by decide +kernel
theorem dX10_fromFrame_7 : decode cX10_fromFrame 7 = .ok (.aload_n 0, 1) := by decide +kernel
theorem dX10_fromFrame_8 : decode cX10_fromFrame 8 = .ok (.getfield 15, 3) := by decide +kernel
theorem dX10_fromFrame_11 : decode cX10_fromFrame 11 = .ok (.iconst 2, 1) := by decide +kernel
theorem dX10_fromFrame_12 : decode cX10_fromFrame 12 = .ok (.iload_n 1, 1) := by decide +kernel
theorem dX10_fromFrame_13 : decode cX10_fromFrame 13 = .ok (.iconst 2, 1) := by decide +kernel
theorem dX10_fromFrame_14 : decode cX10_fromFrame 14 = .ok (.iload_n 2, 1) := by decide +kernel
theorem dX10_fromFrame_15 : decode cX10_fromFrame 15 = .ok (.invokevirtual 159, 3) := by decide +kernel
theorem dX10_fromFrame_18 : decode cX10_fromFrame 18 = .ok (.return_, 1) := by decide +kernel
theorem dX10_fromFrame_19 : decode cX10_fromFrame 19 = .ok (.aload_n 0, 1) := by decide +kernel
theorem dX10_fromFrame_20 : decode cX10_fromFrame 20 = .ok (.getfield 15, 3) := by decide +kernel
theorem dX10_fromFrame_23 : decode cX10_fromFrame 23 = .ok (.iload_n 1, 1) := by decide +kernel
theorem dX10_fromFrame_24 : decode cX10_fromFrame 24 = .ok (.iload_n 2, 1) := by decide +kernel
theorem dX10_fromFrame_25 : decode cX10_fromFrame 25 = .ok (.invokevirtual 135, 3) := by decide +kernel
theorem dX10_fromFrame_28 : decode cX10_fromFrame 28 = .ok (.aload_n 0, 1) := by decide +kernel
theorem dX10_fromFrame_29 : decode cX10_fromFrame 29 = .ok (.getfield 15, 3) := by decide +kernel
theorem dX10_fromFrame_32 : decode cX10_fromFrame 32 = .ok (.iconst 0, 1) := by decide +kernel
theorem dX10_fromFrame_33 : decode cX10_fromFrame 33 = .ok (.iconst 0, 1) := by decide +kernel
theorem dX10_fromFrame_34 : decode cX10_fromFrame 34 = .ok (.iload_n 1, 1) := by decide +kernel
theorem dX10_fromFrame_35 : decode cX10_fromFrame 35 = .ok (.iload_n 1, 1) := by decide +kernel
theorem dX10_fromFrame_36 : decode cX10_fromFrame 36 = .ok (.iconst 2, 1) := by decide +kernel
theorem dX10_fromFrame_37 : decode cX10_fromFrame 37 = .ok (.invokevirtual 138, 3) := by decide +kernel
theorem dX10_fromFrame_40 : decode cX10_fromFrame 40 = .ok (.aload_n 0, 1) := by decide +kernel
theorem dX10_fromFrame_41 : decode cX10_fromFrame 41 = .ok (.getfield 15, 3) := by decide +kernel
theorem dX10_fromFrame_44 : decode cX10_fromFrame 44 = .ok (.iconst 2, 1) := by decide +kernel
theorem dX10_fromFrame_45 : decode cX10_fromFrame 45 = .ok (.iload_n 1, 1) := by decide +kernel
theorem dX10_fromFrame_46 : decode cX10_fromFrame 46 = .ok (.iload_n 1, 1) := by decide +kernel
theorem dX10_fromFrame_47 : decode cX10_fromFrame 47 = .ok (.iconst 0, 1) := by decide +kernel
theorem dX10_fromFrame_48 : decode cX10_fromFrame 48 = .ok (.invokevirtual 159, 3) := by decide +kernel
theorem dX10_fromFrame_51 : decode cX10_fromFrame 51 = .ok (.return_, 1) := by decide +kernel
theorem dX10_act_0 : decode cX10_act 0 = .ok (.aload_n 1, 1) := by decide +kernel
theorem dX10_act_1 : decode cX10_act 1 = .ok (.getfield 82, 3) := by decide +kernel
theorem dX10_act_4 : decode cX10_act 4 = .ok (.invokestatic 179, 3) := by decide +kernel
theorem dX10_act_7 : decode cX10_act 7 = .ok (.ifCond .eq 9, 3) := by decide +kernel
theorem dX10_act_10 : decode cX10_act 10 = .ok (.aload_n 0, 1) := by decide +kernel
theorem dX10_act_11 : decode cX10_act 11 = .ok (.aload_n 1, 1) := by decide +kernel
theorem dX10_act_12 : decode cX10_act 12 = .ok (.invokevirtual 183, 3) := by decide +kernel
theorem dX10_act_15 : decode cX10_act 15 = .ok (.return_, 1) := by decide +kernel
theorem dX10_act_16 : decode cX10_act 16 = .ok (.aload_n 1, 1) := by decide +kernel
theorem dX10_act_17 : decode cX10_act 17 = .ok (.getfield 82, 3) := by decide +kernel
theorem dX10_act_20 : decode cX10_act 20 = .ok (.tableswitch 275 20 32 #[68, 123, 123, 123, 123, 131, 139, 147, 154, 175, 203, 224, 235], 68) := by decide +kernel
theorem dX10_act_88 : decode cX10_act 88 = .ok (.aload_n 0, 1) := by decide +kernel
theorem dX10_act_89 : decode cX10_act 89 = .ok (.getfield 24, 3) := by decide +kernel
theorem dX10_act_92 : decode cX10_act 92 = .ok (.getfield 88, 3) := by decide +kernel
theorem dX10_act_95 : decode cX10_act 95 = .ok (.aload_n 1, 1) := by decide +kernel
theorem dX10_act_96 : decode cX10_act 96 = .ok (.getfield 186, 3) := by decide +kernel
theorem dX10_act_99 : decode cX10_act 99 = .ok (.iaload, 1) := by decide +kernel
theorem dX10_act_100 : decode cX10_act 100 = .ok (.ifCond .lt 22, 3) := by decide +kernel
theorem dX10_act_103 : decode cX10_act 103 = .ok (.aload_n 0, 1) := by decide +kernel
theorem dX10_act_104 : decode cX10_act 104 = .ok (.aload_n 1, 1) := by decide +kernel
theorem dX10_act_105 : decode cX10_act 105 = .ok (.getfield 189, 3) := by decide +kernel
theorem dX10_act_108 : decode cX10_act 108 = .ok (.aload_n 0, 1) := by decide +kernel
theorem dX10_act_109 : decode cX10_act 109 = .ok (.aload_n 1, 1) := by decide +kernel
theorem dX10_act_110 : decode cX10_act 110 = .ok (.getfield 186, 3) := by decide +kernel
theorem dX10_act_113 : decode cX10_act 113 = .ok (.invokevirtual 193, 3) := by decide +kernel
theorem dX10_act_116 : decode cX10_act 116 = .ok (.invokevirtual 196, 3) := by decide +kernel
theorem dX10_act_119 : decode cX10_act 119 = .ok (.goto 198, 3) := by decide +kernel
theorem dX10_act_122 : decode cX10_act 122 = .ok (.aload_n 0, 1) := by decide +kernel
theorem dX10_act_123 : decode cX10_act 123 = .ok (.aload_n 1, 1) := by decide +kernel
theorem dX10_act_124 : decode cX10_act 124 = .ok (.getfield 186, 3) := by decide +kernel
theorem dX10_act_127 : decode cX10_act 127 = .ok (.aload_n 0, 1) := by decide +kernel
theorem dX10_act_128 : decode cX10_act 128 = .ok (.aload_n 1, 1) := by decide +kernel
theorem dX10_act_129 : decode cX10_act 129 = .ok (.getfield 189, 3) := by decide +kernel
theorem dX10_act_132 : decode cX10_act 132 = .ok (.bipush 31, 2) := by decide +kernel
theorem dX10_act_134 : decode cX10_act 134 = .ok (.invokevirtual 172, 3) := by decide +kernel
theorem dX10_act_137 : decode cX10_act 137 = .ok (.invokevirtual 200, 3) := by decide +kernel
theorem dX10_act_140 : decode cX10_act 140 = .ok (.goto 177, 3) := by decide +kernel
theorem dX10_act_143 : decode cX10_act 143 = .ok (.aload_n 0, 1) := by decide +kernel
theorem dX10_act_144 : decode cX10_act 144 = .ok (.aload_n 1, 1) := by decide +kernel
theorem dX10_act_145 : decode cX10_act 145 = .ok (.invokevirtual 203, 3) := by decide +kernel
theorem dX10_act_148 : decode cX10_act 148 = .ok (.goto 169, 3) := by decide +kernel
theorem dX10_act_151 : decode cX10_act 151 = .ok (.aload_n 0, 1) := by decide +kernel
theorem dX10_act_152 : decode cX10_act 152 = .ok (.aload_n 1, 1) := by decide +kernel
theorem dX10_act_153 : decode cX10_act 153 = .ok (.invokevirtual 206, 3) := by decide +kernel
theorem dX10_act_156 : decode cX10_act 156 = .ok (.goto 161, 3) := by decide +kernel
theorem dX10_act_159 : decode cX10_act 159 = .ok (.aload_n 0, 1) := by decide +kernel
theorem dX10_act_160 : decode cX10_act 160 = .ok (.aload_n 1, 1) := by decide +kernel
theorem dX10_act_161 : decode cX10_act 161 = .ok (.invokevirtual 209, 3) := by decide +kernel
theorem dX10_act_164 : decode cX10_act 164 = .ok (.goto 153, 3) := by decide +kernel
theorem dX10_act_167 : decode cX10_act 167 = .ok (.aload_n 0, 1) := by decide +kernel
theorem dX10_act_168 : decode cX10_act 168 = .ok (.invokevirtual 212, 3) := by decide +kernel
theorem dX10_act_171 : decode cX10_act 171 = .ok (.goto 146, 3) := by decide +kernel
theorem dX10_act_174 : decode cX10_act 174 = .ok (.aload_n 0, 1) := by decide +kernel
theorem dX10_act_175 : decode cX10_act 175 = .ok (.aload_n 1, 1) := by decide +kernel
theorem dX10_act_176 : decode cX10_act 176 = .ok (.getfield 189, 3) := by decide +kernel
theorem dX10_act_179 : decode cX10_act 179 = .ok (.bipush 10, 2) := by decide +kernel
theorem dX10_act_181 : decode cX10_act 181 = .ok (.invokevirtual 196, 3) := by decide +kernel
theorem dX10_act_184 : decode cX10_act 184 = .ok (.aload_n 0, 1) := by decide +kernel
theorem dX10_act_185 : decode cX10_act 185 = .ok (.getfield 15, 3) := by decide +kernel
theorem dX10_act_188 : decode cX10_act 188 = .ok (.iconst 2, 1) := by decide +kernel
theorem dX10_act_189 : decode cX10_act 189 = .ok (.invokevirtual 215, 3) := by decide +kernel
theorem dX10_act_192 : decode cX10_act 192 = .ok (.goto 125, 3) := by decide +kernel
theorem dX10_act_195 : decode cX10_act 195 = .ok (.aload_n 0, 1) := by decide +kernel
theorem dX10_act_196 : decode cX10_act 196 = .ok (.getfield 15, 3) := by decide +kernel
theorem dX10_act_199 : decode cX10_act 199 = .ok (.iconst 3, 1) := by decide +kernel
theorem dX10_act_200 : decode cX10_act 200 = .ok (.invokevirtual 215, 3) := by decide +kernel
theorem dX10_act_203 : decode cX10_act 203 = .ok (.aload_n 1, 1) := by decide +kernel
theorem dX10_act_204 : decode cX10_act 204 = .ok (.getfield 186, 3) := by decide +kernel
theorem dX10_act_207 : decode cX10_act 207 = .ok (.ifCond .lt 110, 3) := by decide +kernel
theorem dX10_act_210 : decode cX10_act 210 = .ok (.aload_n 0, 1) := by decide +kernel
theorem dX10_act_211 : decode cX10_act 211 = .ok (.aload_n 1, 1) := by decide +kernel
theorem dX10_act_212 : decode cX10_act 212 = .ok (.getfield 186, 3) := by decide +kernel
theorem dX10_act_215 : decode cX10_act 215 = .ok (.bipush 10, 2) := by decide +kernel
theorem dX10_act_217 : decode cX10_act 217 = .ok (.invokevirtual 200, 3) := by decide +kernel
theorem dX10_act_220 : decode cX10_act 220 = .ok (.goto 97, 3) := by decide +kernel
theorem dX10_act_223 : decode cX10_act 223 = .ok (.aload_n 0, 1) := by decide +kernel
theorem dX10_act_224 : decode cX10_act 224 = .ok (.aload_n 1, 1) := by decide +kernel
theorem dX10_act_225 : decode cX10_act 225 = .ok (.getfield 189, 3) := by decide +kernel
theorem dX10_act_228 : decode cX10_act 228 = .ok (.bipush 10, 2) := by decide +kernel
theorem dX10_act_230 : decode cX10_act 230 = .ok (.invokevirtual 196, 3) := by decide +kernel
theorem dX10_act_233 : decode cX10_act 233 = .ok (.aload_n 0, 1) := by decide +kernel
theorem dX10_act_234 : decode cX10_act 234 = .ok (.getfield 15, 3) := by decide +kernel
theorem dX10_act_237 : decode cX10_act 237 = .ok (.iconst 4, 1) := by decide +kernel
theorem dX10_act_238 : decode cX10_act 238 = .ok (.invokevirtual 215, 3) := by decide +kernel
theorem dX10_act_241 : decode cX10_act 241 = .ok (.goto 76, 3) := by decide +kernel
theorem dX10_act_244 : decode cX10_act 244 = .ok (.aload_n 0, 1) := by decide +kernel
theorem dX10_act_245 : decode cX10_act 245 = .ok (.aload_n 1, 1) := by decide +kernel
theorem dX10_act_246 : decode cX10_act 246 = .ok (.getfield 218, 3) := by decide +kernel
theorem dX10_act_249 : decode cX10_act 249 = .ok (.invokevirtual 222, 3) := by decide +kernel
theorem dX10_act_252 : decode cX10_act 252 = .ok (.goto 65, 3) := by decide +kernel
theorem dX10_act_255 : decode cX10_act 255 = .ok (.aload_n 0, 1) := by decide +kernel
theorem dX10_act_256 : decode cX10_act 256 = .ok (.getfield 15, 3) := by decide +kernel
theorem dX10_act_259 : decode cX10_act 259 = .ok (.iconst 0, 1) := by decide +kernel
theorem dX10_act_260 : decode cX10_act 260 = .ok (.aload_n 0, 1) := by decide +kernel
theorem dX10_act_261 : decode cX10_act 261 = .ok (.aload_n 1, 1) := by decide +kernel
theorem dX10_act_262 : decode cX10_act 262 = .ok (.getfield 186, 3) := by decide +kernel
theorem dX10_act_265 : decode cX10_act 265 = .ok (.invokevirtual 193, 3) := by decide +kernel
theorem dX10_act_268 : decode cX10_act 268 = .ok (.iconst 2, 1) := by decide +kernel
theorem dX10_act_269 : decode cX10_act 269 = .ok (.aload_n 1, 1) := by decide +kernel
theorem dX10_act_270 : decode cX10_act 270 = .ok (.getfield 226, 3) := by decide +kernel
theorem dX10_act_273 : decode cX10_act 273 = .ok (.invokevirtual 131, 3) := by decide +kernel
theorem dX10_act_276 : decode cX10_act 276 = .ok (.aload_n 0, 1) := by decide +kernel
theorem dX10_act_277 : decode cX10_act 277 = .ok (.aload_n 1, 1) := by decide +kernel
theorem dX10_act_278 : decode cX10_act 278 = .ok (.getfield 186, 3) := by decide +kernel
theorem dX10_act_281 : decode cX10_act 281 = .ok (.aload_n 0, 1) := by decide +kernel
theorem dX10_act_282 : decode cX10_act 282 = .ok (.aload_n 1, 1) := by decide +kernel
theorem dX10_act_283 : decode cX10_act 283 = .ok (.getfield 186, 3) := by decide +kernel
theorem dX10_act_286 : decode cX10_act 286 = .ok (.invokevirtual 193, 3) := by decide +kernel
theorem dX10_act_289 : decode cX10_act 289 = .ok (.invokevirtual 200, 3) := by decide +kernel
theorem dX10_act_292 : decode cX10_act 292 = .ok (.goto 25, 3) := by decide +kernel
theorem dX10_act_295 : decode cX10_act 295 = .ok (.aload_n 1, 1) := by decide +kernel
theorem dX10_act_296 : decode cX10_act 296 = .ok (.getfield 186, 3) := by decide +kernel
theorem dX10_act_299 : decode cX10_act 299 = .ok (.ifCond .lt 18, 3) := by decide +kernel
theorem dX10_act_302 : decode cX10_act 302 = .ok (.aload_n 0, 1) := by decide +kernel
theorem dX10_act_303 : decode cX10_act 303 = .ok (.aload_n 1, 1) := by decide +kernel
theorem dX10_act_304 : decode cX10_act 304 = .ok (.getfield 186, 3) := by decide +kernel
theorem dX10_act_307 : decode cX10_act 307 = .ok (.bipush 10, 2) := by decide +kernel
theorem dX10_act_309 : decode cX10_act 309 = .ok (.aload_n 1, 1) := by decide +kernel
theorem dX10_act_310 : decode cX10_act 310 = .ok (.getfield 226, 3) := by decide +kernel
theorem dX10_act_313 : decode cX10_act 313 = .ok (.iadd, 1) := by decide +kernel
theorem dX10_act_314 : decode cX10_act 314 = .ok (.invokevirtual 200, 3) := by decide +kernel
theorem dX10_act_317 : decode cX10_act 317 = .ok (.return_, 1) := by decide +kernel
