/-! names: X11 (tools/names.py) -/
set_option maxRecDepth 100000
abbrev cX11_init : ByteArray := prog_26_method_1_code
def yX11_init : MethodName := ⟨RX11, "<init>", "(LCompiledHouse$Living;)V"⟩
theorem q767 : (Jvm.Cond.code ({ cls := "CompiledHouse$Painter", name := "<init>", desc := "(LCompiledHouse$Living;)V" } : Jvm.MethodName) prog_26_method_1_code (2 : Nat) (Option.none : Option Jvm.ClassFile.FieldType)) ∈ lw_all := lw_g (lw_at lw_m3 91 rfl) rfl
def kX11_init : xK := (yX11_init, cX11_init, 2, none, [])
theorem me_X11_init : xMe kX11_init 1 := ⟨q767, q214, by decide, by decide, by decide +kernel⟩
theorem q766 : (Jvm.Cond.instanceMethod ({ cls := "CompiledHouse$Painter", name := "<init>", desc := "(LCompiledHouse$Living;)V" } : Jvm.MethodName)) ∈ lw_all := lw_g (lw_at lw_m3 90 rfl) rfl
theorem is_X11_init : Cond.instanceMethod kX11_init.y ∈ lw_all := q766
theorem q768 : (Jvm.Cond.methodLink "CompiledHouse$Painter" (3 : Nat) ({ cls := "java/lang/Object", name := "<init>", desc := "()V" } : Jvm.MethodName)) ∈ lw_all := lw_g (lw_at lw_m3 92 rfl) rfl
theorem lk_X11_3 : xLk RX11 3 yJ18_init := Or.inl q768
theorem q774 : (Jvm.Cond.fieldLink "CompiledHouse$Painter" (9 : Nat) "CompiledHouse$Painter" "edges" "[J") ∈ lw_all := lw_g (lw_at lw_m3 98 rfl) rfl
theorem f_X11_9_10 : xF RX11 9 10 4 := ⟨_, "CompiledHouse$Painter", rfl, by decide, Or.inl q774, Or.inl rfl⟩
theorem q775 : (Jvm.Cond.fieldLink "CompiledHouse$Painter" (15 : Nat) "CompiledHouse$Painter" "crosses" "[Z") ∈ lw_all := lw_g (lw_at lw_m3 99 rfl) rfl
theorem f_X11_15_10 : xF RX11 15 10 5 := ⟨_, "CompiledHouse$Painter", rfl, by decide, Or.inl q775, Or.inl rfl⟩
theorem q776 : (Jvm.Cond.fieldLink "CompiledHouse$Painter" (19 : Nat) "CompiledHouse$Painter" "isThere" "[Z") ∈ lw_all := lw_g (lw_at lw_m3 100 rfl) rfl
theorem f_X11_19_10 : xF RX11 19 10 6 := ⟨_, "CompiledHouse$Painter", rfl, by decide, Or.inl q776, Or.inl rfl⟩
theorem q777 : (Jvm.Cond.fieldLink "CompiledHouse$Painter" (22 : Nat) "CompiledHouse$Painter" "gone" "[Z") ∈ lw_all := lw_g (lw_at lw_m3 101 rfl) rfl
theorem f_X11_22_10 : xF RX11 22 10 7 := ⟨_, "CompiledHouse$Painter", rfl, by decide, Or.inl q777, Or.inl rfl⟩
theorem q778 : (Jvm.Cond.fieldLink "CompiledHouse$Painter" (25 : Nat) "CompiledHouse$Painter" "degree" "[I") ∈ lw_all := lw_g (lw_at lw_m3 102 rfl) rfl
theorem f_X11_25_10 : xF RX11 25 10 8 := ⟨_, "CompiledHouse$Painter", rfl, by decide, Or.inl q778, Or.inl rfl⟩
theorem q779 : (Jvm.Cond.fieldLink "CompiledHouse$Painter" (29 : Nat) "CompiledHouse$Painter" "hint" "[I") ∈ lw_all := lw_g (lw_at lw_m3 103 rfl) rfl
theorem f_X11_29_10 : xF RX11 29 10 9 := ⟨_, "CompiledHouse$Painter", rfl, by decide, Or.inl q779, Or.inl rfl⟩
theorem q780 : (Jvm.Cond.fieldLink "CompiledHouse$Painter" (32 : Nat) "CompiledHouse$Painter" "colour" "[I") ∈ lw_all := lw_g (lw_at lw_m3 104 rfl) rfl
theorem f_X11_32_10 : xF RX11 32 10 10 := ⟨_, "CompiledHouse$Painter", rfl, by decide, Or.inl q780, Or.inl rfl⟩
theorem q782 : (Jvm.Cond.fieldLink "CompiledHouse$Painter" (35 : Nat) "CompiledHouse$Painter" "slot" "[I") ∈ lw_all := lw_g (lw_at lw_m3 106 rfl) rfl
theorem f_X11_35_10 : xF RX11 35 10 11 := ⟨_, "CompiledHouse$Painter", rfl, by decide, Or.inl q782, Or.inl rfl⟩
theorem q784 : (Jvm.Cond.fieldLink "CompiledHouse$Painter" (38 : Nat) "CompiledHouse$Painter" "order" "[I") ∈ lw_all := lw_g (lw_at lw_m3 108 rfl) rfl
theorem f_X11_38_10 : xF RX11 38 10 12 := ⟨_, "CompiledHouse$Painter", rfl, by decide, Or.inl q784, Or.inl rfl⟩
theorem q769 : (Jvm.Cond.fieldLink "CompiledHouse$Painter" (41 : Nat) "CompiledHouse$Painter" "living" "LCompiledHouse$Living;") ∈ lw_all := lw_g (lw_at lw_m3 93 rfl) rfl
theorem f_X11_41_10 : xF RX11 41 10 0 := ⟨_, "CompiledHouse$Painter", rfl, by decide, Or.inl q769, Or.inl rfl⟩
abbrev cX11_paint : ByteArray := prog_26_method_2_code
def yX11_paint : MethodName := ⟨RX11, "paint", "(LCompiledHouse$Code;)V"⟩
theorem q2664 : (Jvm.Cond.code ({ cls := "CompiledHouse$Painter", name := "paint", desc := "(LCompiledHouse$Code;)V" } : Jvm.MethodName) prog_26_method_2_code (6 : Nat) (Option.none : Option Jvm.ClassFile.FieldType)) ∈ lw_all := lw_g (lw_at lw_m11 68 rfl) rfl
def kX11_paint : xK := (yX11_paint, cX11_paint, 6, none, [])
theorem me_X11_paint : xMe kX11_paint 1 := ⟨q2664, q214, by decide, by decide, by decide +kernel⟩
theorem q2662 : (Jvm.Cond.instanceMethod ({ cls := "CompiledHouse$Painter", name := "paint", desc := "(LCompiledHouse$Code;)V" } : Jvm.MethodName)) ∈ lw_all := lw_g (lw_at lw_m11 66 rfl) rfl
theorem is_X11_paint : Cond.instanceMethod kX11_paint.y ∈ lw_all := q2662
theorem se_X11_paint : Cond.selects RX11 kX11_paint.y kX11_paint.y ∈ lw_all := q2663
theorem q1760 : (Jvm.Cond.fieldLinkNest "CompiledHouse$Painter" (45 : Nat) "CompiledHouse$Code" "registers" "I" "CompiledHouse") ∈ lw_tbl := lw_at lw_m7 124 rfl
theorem f_X11_45_33 : xF RX11 45 33 2 := ⟨_, "CompiledHouse$Code", rfl, by decide, Or.inr ⟨_, q1760⟩, Or.inl rfl⟩
theorem q771 : (Jvm.Cond.fieldLink "CompiledHouse$Painter" (51 : Nat) "CompiledHouse$Painter" "n" "I") ∈ lw_all := lw_g (lw_at lw_m3 95 rfl) rfl
theorem f_X11_51_10 : xF RX11 51 10 2 := ⟨_, "CompiledHouse$Painter", rfl, by decide, Or.inl q771, Or.inl rfl⟩
theorem q770 : (Jvm.Cond.fieldLink "CompiledHouse$Painter" (54 : Nat) "CompiledHouse$Painter" "room" "I") ∈ lw_all := lw_g (lw_at lw_m3 94 rfl) rfl
theorem f_X11_54_10 : xF RX11 54 10 1 := ⟨_, "CompiledHouse$Painter", rfl, by decide, Or.inl q770, Or.inl rfl⟩
theorem q2665 : (Jvm.Cond.methodLinkNest "CompiledHouse$Painter" (57 : Nat) ({ cls := "CompiledHouse", name := "roomFor", desc := "([JI)[J" } : Jvm.MethodName) "CompiledHouse") ∈ lw_tbl := lw_at lw_m11 69 rfl
theorem lk_X11_57 : xLk RX11 57 yX0_roomFor_2 := Or.inr ⟨_, q2665⟩
theorem q2666 : (Jvm.Cond.methodLinkNest "CompiledHouse$Painter" (61 : Nat) ({ cls := "CompiledHouse", name := "roomFor", desc := "([ZI)[Z" } : Jvm.MethodName) "CompiledHouse") ∈ lw_tbl := lw_at lw_m11 70 rfl
abbrev cX0_roomFor_3 : ByteArray := prog_1_method_6_code
def yX0_roomFor_3 : MethodName := ⟨RX0, "roomFor", "([ZI)[Z"⟩
theorem q2668 : (Jvm.Cond.code ({ cls := "CompiledHouse", name := "roomFor", desc := "([ZI)[Z" } : Jvm.MethodName) prog_1_method_6_code (2 : Nat) (Option.some (Jvm.ClassFile.FieldType.array Jvm.ClassFile.FieldType.boolean))) ∈ lw_all := lw_g (lw_at lw_m11 72 rfl) rfl
def kX0_roomFor_3 : xK := (yX0_roomFor_3, cX0_roomFor_3, 2, some (.array .boolean), [])
theorem me_X0_roomFor_3 : xMe kX0_roomFor_3 2 := ⟨q2668, q197, by decide, by decide, by decide +kernel⟩
theorem q2667 : (Jvm.Cond.static ({ cls := "CompiledHouse", name := "roomFor", desc := "([ZI)[Z" } : Jvm.MethodName)) ∈ lw_all := lw_g (lw_at lw_m11 71 rfl) rfl
theorem st_X0_roomFor_3 : Cond.static kX0_roomFor_3.y ∈ lw_all := q2667
theorem lk_X11_61 : xLk RX11 61 yX0_roomFor_3 := Or.inr ⟨_, q2666⟩
theorem q2669 : (Jvm.Cond.methodLinkNest "CompiledHouse$Painter" (64 : Nat) ({ cls := "CompiledHouse", name := "roomFor", desc := "([II)[I" } : Jvm.MethodName) "CompiledHouse") ∈ lw_tbl := lw_at lw_m11 73 rfl
abbrev cX0_roomFor : ByteArray := prog_1_method_4_code
def yX0_roomFor : MethodName := ⟨RX0, "roomFor", "([II)[I"⟩
theorem q2439 : (Jvm.Cond.code ({ cls := "CompiledHouse", name := "roomFor", desc := "([II)[I" } : Jvm.MethodName) prog_1_method_4_code (2 : Nat) (Option.some (Jvm.ClassFile.FieldType.array Jvm.ClassFile.FieldType.int))) ∈ lw_all := lw_g (lw_at lw_m10 83 rfl) rfl
def kX0_roomFor : xK := (yX0_roomFor, cX0_roomFor, 2, some (.array .int), [])
theorem me_X0_roomFor : xMe kX0_roomFor 2 := ⟨q2439, q197, by decide, by decide, by decide +kernel⟩
theorem q2438 : (Jvm.Cond.static ({ cls := "CompiledHouse", name := "roomFor", desc := "([II)[I" } : Jvm.MethodName)) ∈ lw_all := lw_g (lw_at lw_m10 82 rfl) rfl
theorem st_X0_roomFor : Cond.static kX0_roomFor.y ∈ lw_all := q2438
theorem lk_X11_64 : xLk RX11 64 yX0_roomFor := Or.inr ⟨_, q2669⟩
theorem q2670 : (Jvm.Cond.methodLink "CompiledHouse$Painter" (67 : Nat) ({ cls := "CompiledHouse$Living", name := "find", desc := "(LCompiledHouse$Code;)V" } : Jvm.MethodName)) ∈ lw_all := lw_g (lw_at lw_m11 74 rfl) rfl
theorem lk_X11_67 : xLk RX11 67 yX7_find := Or.inl q2670
theorem q1755 : (Jvm.Cond.fieldLinkNest "CompiledHouse$Painter" (73 : Nat) "CompiledHouse$Code" "blocks" "Ljava/util/ArrayList;" "CompiledHouse") ∈ lw_tbl := lw_at lw_m7 119 rfl
theorem f_X11_73_33 : xF RX11 73 33 1 := ⟨_, "CompiledHouse$Code", rfl, by decide, Or.inr ⟨_, q1755⟩, Or.inl rfl⟩
theorem q2671 : (Jvm.Cond.methodLink "CompiledHouse$Painter" (77 : Nat) ({ cls := "java/util/ArrayList", name := "size", desc := "()I" } : Jvm.MethodName)) ∈ lw_all := lw_g (lw_at lw_m11 75 rfl) rfl
theorem lk_X11_77 : xLk RX11 77 yJ5_size := Or.inl q2671
theorem q2672 : (Jvm.Cond.methodLink "CompiledHouse$Painter" (83 : Nat) ({ cls := "java/util/ArrayList", name := "get", desc := "(I)Ljava/lang/Object;" } : Jvm.MethodName)) ∈ lw_all := lw_g (lw_at lw_m11 76 rfl) rfl
theorem lk_X11_83 : xLk RX11 83 yJ5_get := Or.inl q2672
theorem q2673 : (Jvm.Cond.classLink "CompiledHouse$Painter" (87 : Nat) "CompiledHouse$Block") ∈ lw_all := lw_g (lw_at lw_m11 77 rfl) rfl
theorem q2674 : (Jvm.Cond.methodLink "CompiledHouse$Painter" (89 : Nat) ({ cls := "CompiledHouse$Living", name := "begin", desc := "(LCompiledHouse$Block;)V" } : Jvm.MethodName)) ∈ lw_all := lw_g (lw_at lw_m11 78 rfl) rfl
theorem lk_X11_89 : xLk RX11 89 yX7_begin := Or.inl q2674
theorem q1793 : (Jvm.Cond.fieldLinkNest "CompiledHouse$Painter" (93 : Nat) "CompiledHouse$Block" "acts" "Ljava/util/ArrayList;" "CompiledHouse") ∈ lw_tbl := lw_at lw_m7 157 rfl
theorem f_X11_93_34 : xF RX11 93 34 0 := ⟨_, "CompiledHouse$Block", rfl, by decide, Or.inr ⟨_, q1793⟩, Or.inl rfl⟩
theorem q2675 : (Jvm.Cond.classLink "CompiledHouse$Painter" (96 : Nat) "CompiledHouse$Act") ∈ lw_all := lw_g (lw_at lw_m11 79 rfl) rfl
theorem q1916 : (Jvm.Cond.fieldLinkNest "CompiledHouse$Painter" (98 : Nat) "CompiledHouse$Act" "d" "I" "CompiledHouse") ∈ lw_tbl := lw_at lw_m8 40 rfl
theorem f_X11_98_35 : xF RX11 98 35 1 := ⟨_, "CompiledHouse$Act", rfl, by decide, Or.inr ⟨_, q1916⟩, Or.inl rfl⟩
theorem q589 : (Jvm.Cond.fieldLinkNest "CompiledHouse$Painter" (101 : Nat) "CompiledHouse$Living" "now" "[J" "CompiledHouse") ∈ lw_tbl := lw_at lw_m2 153 rfl
theorem f_X11_101_6 : xF RX11 101 6 3 := ⟨_, "CompiledHouse$Living", rfl, by decide, Or.inr ⟨_, q589⟩, Or.inl rfl⟩
theorem q2676 : (Jvm.Cond.methodLink "CompiledHouse$Painter" (104 : Nat) ({ cls := "CompiledHouse$Painter", name := "meet", desc := "(LCompiledHouse$Act;[J)V" } : Jvm.MethodName)) ∈ lw_all := lw_g (lw_at lw_m11 80 rfl) rfl
abbrev cX11_meet : ByteArray := prog_26_method_3_code
def yX11_meet : MethodName := ⟨RX11, "meet", "(LCompiledHouse$Act;[J)V"⟩
theorem q2679 : (Jvm.Cond.code ({ cls := "CompiledHouse$Painter", name := "meet", desc := "(LCompiledHouse$Act;[J)V" } : Jvm.MethodName) prog_26_method_3_code (8 : Nat) (Option.none : Option Jvm.ClassFile.FieldType)) ∈ lw_all := lw_g (lw_at lw_m11 83 rfl) rfl
def kX11_meet : xK := (yX11_meet, cX11_meet, 8, none, [])
theorem me_X11_meet : xMe kX11_meet 2 := ⟨q2679, q214, by decide, by decide, by decide +kernel⟩
theorem q2678 : (Jvm.Cond.instanceMethod ({ cls := "CompiledHouse$Painter", name := "meet", desc := "(LCompiledHouse$Act;[J)V" } : Jvm.MethodName)) ∈ lw_all := lw_g (lw_at lw_m11 82 rfl) rfl
theorem is_X11_meet : Cond.instanceMethod kX11_meet.y ∈ lw_all := q2678
theorem se_X11_meet : Cond.selects RX11 kX11_meet.y kX11_meet.y ∈ lw_all := qs82
theorem lk_X11_104 : xLk RX11 104 yX11_meet := Or.inl q2676
theorem q1911 : (Jvm.Cond.fieldLinkNest "CompiledHouse$Painter" (108 : Nat) "CompiledHouse$Act" "act" "I" "CompiledHouse") ∈ lw_tbl := lw_at lw_m8 35 rfl
theorem f_X11_108_35 : xF RX11 108 35 0 := ⟨_, "CompiledHouse$Act", rfl, by decide, Or.inr ⟨_, q1911⟩, Or.inl rfl⟩
theorem q2689 : (Jvm.Cond.methodLink "CompiledHouse$Painter" (111 : Nat) ({ cls := "CompiledHouse$Painter", name := "cross", desc := "(I[J)V" } : Jvm.MethodName)) ∈ lw_all := lw_g (lw_at lw_m11 93 rfl) rfl
abbrev cX11_cross : ByteArray := prog_26_method_5_code
def yX11_cross : MethodName := ⟨RX11, "cross", "(I[J)V"⟩
theorem q2692 : (Jvm.Cond.code ({ cls := "CompiledHouse$Painter", name := "cross", desc := "(I[J)V" } : Jvm.MethodName) prog_26_method_5_code (7 : Nat) (Option.none : Option Jvm.ClassFile.FieldType)) ∈ lw_all := lw_g (lw_at lw_m11 96 rfl) rfl
def kX11_cross : xK := (yX11_cross, cX11_cross, 7, none, [])
theorem me_X11_cross : xMe kX11_cross 2 := ⟨q2692, q214, by decide, by decide, by decide +kernel⟩
theorem q2691 : (Jvm.Cond.instanceMethod ({ cls := "CompiledHouse$Painter", name := "cross", desc := "(I[J)V" } : Jvm.MethodName)) ∈ lw_all := lw_g (lw_at lw_m11 95 rfl) rfl
theorem is_X11_cross : Cond.instanceMethod kX11_cross.y ∈ lw_all := q2691
theorem se_X11_cross : Cond.selects RX11 kX11_cross.y kX11_cross.y ∈ lw_all := qs84
theorem lk_X11_111 : xLk RX11 111 yX11_cross := Or.inl q2689
theorem q2693 : (Jvm.Cond.methodLink "CompiledHouse$Painter" (115 : Nat) ({ cls := "CompiledHouse$Living", name := "back", desc := "(LCompiledHouse$Act;)V" } : Jvm.MethodName)) ∈ lw_all := lw_g (lw_at lw_m11 97 rfl) rfl
theorem lk_X11_115 : xLk RX11 115 yX7_back := Or.inl q2693
theorem q2694 : (Jvm.Cond.methodLink "CompiledHouse$Painter" (119 : Nat) ({ cls := "CompiledHouse$Painter", name := "stack", desc := "()I" } : Jvm.MethodName)) ∈ lw_all := lw_g (lw_at lw_m11 98 rfl) rfl
abbrev cX11_stack : ByteArray := prog_26_method_7_code
def yX11_stack : MethodName := ⟨RX11, "stack", "()I"⟩
theorem q2697 : (Jvm.Cond.code ({ cls := "CompiledHouse$Painter", name := "stack", desc := "()I" } : Jvm.MethodName) prog_26_method_7_code (7 : Nat) (Option.some Jvm.ClassFile.FieldType.int)) ∈ lw_all := lw_g (lw_at lw_m11 101 rfl) rfl
def kX11_stack : xK := (yX11_stack, cX11_stack, 7, some .int, [])
theorem me_X11_stack : xMe kX11_stack 0 := ⟨q2697, q214, by decide, by decide, by decide +kernel⟩
theorem q2696 : (Jvm.Cond.instanceMethod ({ cls := "CompiledHouse$Painter", name := "stack", desc := "()I" } : Jvm.MethodName)) ∈ lw_all := lw_g (lw_at lw_m11 100 rfl) rfl
theorem is_X11_stack : Cond.instanceMethod kX11_stack.y ∈ lw_all := q2696
theorem se_X11_stack : Cond.selects RX11 kX11_stack.y kX11_stack.y ∈ lw_all := qs85
theorem lk_X11_119 : xLk RX11 119 yX11_stack := Or.inl q2694
theorem q2710 : (Jvm.Cond.methodLink "CompiledHouse$Painter" (122 : Nat) ({ cls := "CompiledHouse$Painter", name := "choose", desc := "(I)V" } : Jvm.MethodName)) ∈ lw_all := lw_g (lw_at lw_m11 114 rfl) rfl
abbrev cX11_choose : ByteArray := prog_26_method_8_code
def yX11_choose : MethodName := ⟨RX11, "choose", "(I)V"⟩
theorem q2713 : (Jvm.Cond.code ({ cls := "CompiledHouse$Painter", name := "choose", desc := "(I)V" } : Jvm.MethodName) prog_26_method_8_code (9 : Nat) (Option.none : Option Jvm.ClassFile.FieldType)) ∈ lw_all := lw_g (lw_at lw_m11 117 rfl) rfl
def kX11_choose : xK := (yX11_choose, cX11_choose, 9, none, [])
theorem me_X11_choose : xMe kX11_choose 1 := ⟨q2713, q214, by decide, by decide, by decide +kernel⟩
theorem q2712 : (Jvm.Cond.instanceMethod ({ cls := "CompiledHouse$Painter", name := "choose", desc := "(I)V" } : Jvm.MethodName)) ∈ lw_all := lw_g (lw_at lw_m11 116 rfl) rfl
theorem is_X11_choose : Cond.instanceMethod kX11_choose.y ∈ lw_all := q2712
theorem se_X11_choose : Cond.selects RX11 kX11_choose.y kX11_choose.y ∈ lw_all := qs87
theorem lk_X11_122 : xLk RX11 122 yX11_choose := Or.inl q2710
theorem q1922 : (Jvm.Cond.fieldLinkNest "CompiledHouse$Painter" (126 : Nat) "CompiledHouse$Act" "a" "J" "CompiledHouse") ∈ lw_tbl := lw_at lw_m8 46 rfl
theorem f_X11_126_35 : xF RX11 126 35 2 := ⟨_, "CompiledHouse$Act", rfl, by decide, Or.inr ⟨_, q1922⟩, Or.inl rfl⟩
theorem q2680 : (Jvm.Cond.methodLinkNest "CompiledHouse$Painter" (130 : Nat) ({ cls := "CompiledHouse", name := "isConstant", desc := "(J)Z" } : Jvm.MethodName) "CompiledHouse") ∈ lw_tbl := lw_at lw_m11 84 rfl
theorem lk_X11_130 : xLk RX11 130 yX0_isConstant := Or.inr ⟨_, q2680⟩
theorem q2681 : (Jvm.Cond.methodLink "CompiledHouse$Painter" (134 : Nat) ({ cls := "java/lang/Long", name := "numberOfTrailingZeros", desc := "(J)I" } : Jvm.MethodName)) ∈ lw_all := lw_g (lw_at lw_m11 85 rfl) rfl
abbrev cJ16_numberOfTrailingZeros : ByteArray := prog_47_method_49_code
def yJ16_numberOfTrailingZeros : MethodName := ⟨RJ16, "numberOfTrailingZeros", "(J)I"⟩
theorem q2683 : (Jvm.Cond.code ({ cls := "java/lang/Long", name := "numberOfTrailingZeros", desc := "(J)I" } : Jvm.MethodName) prog_47_method_49_code (3 : Nat) (Option.some Jvm.ClassFile.FieldType.int)) ∈ lw_all := lw_g (lw_at lw_m11 87 rfl) rfl
theorem q253 : (Jvm.Cond.initialized "java/lang/Long") ∈ lw_all := lw_g (lw_at lw_m1 57 rfl) rfl
def kJ16_numberOfTrailingZeros : xK := (yJ16_numberOfTrailingZeros, cJ16_numberOfTrailingZeros, 3, some .int, [])
theorem me_J16_numberOfTrailingZeros : xMe kJ16_numberOfTrailingZeros 1 := ⟨q2683, q253, by decide, by decide, by decide +kernel⟩
theorem q2682 : (Jvm.Cond.static ({ cls := "java/lang/Long", name := "numberOfTrailingZeros", desc := "(J)I" } : Jvm.MethodName)) ∈ lw_all := lw_g (lw_at lw_m11 86 rfl) rfl
theorem st_J16_numberOfTrailingZeros : Cond.static kJ16_numberOfTrailingZeros.y ∈ lw_all := q2682
theorem lk_X11_134 : xLk RX11 134 yJ16_numberOfTrailingZeros := Or.inl q2681
theorem q2685 : (Jvm.Cond.methodLink "CompiledHouse$Painter" (140 : Nat) ({ cls := "CompiledHouse$Painter", name := "tie", desc := "(II)V" } : Jvm.MethodName)) ∈ lw_all := lw_g (lw_at lw_m11 89 rfl) rfl
abbrev cX11_tie : ByteArray := prog_26_method_4_code
def yX11_tie : MethodName := ⟨RX11, "tie", "(II)V"⟩
theorem q2688 : (Jvm.Cond.code ({ cls := "CompiledHouse$Painter", name := "tie", desc := "(II)V" } : Jvm.MethodName) prog_26_method_4_code (3 : Nat) (Option.none : Option Jvm.ClassFile.FieldType)) ∈ lw_all := lw_g (lw_at lw_m11 92 rfl) rfl
def kX11_tie : xK := (yX11_tie, cX11_tie, 3, none, [])
theorem me_X11_tie : xMe kX11_tie 2 := ⟨q2688, q214, by decide, by decide, by decide +kernel⟩
theorem q2687 : (Jvm.Cond.instanceMethod ({ cls := "CompiledHouse$Painter", name := "tie", desc := "(II)V" } : Jvm.MethodName)) ∈ lw_all := lw_g (lw_at lw_m11 91 rfl) rfl
theorem is_X11_tie : Cond.instanceMethod kX11_tie.y ∈ lw_all := q2687
theorem se_X11_tie : Cond.selects RX11 kX11_tie.y kX11_tie.y ∈ lw_all := qs83
theorem lk_X11_140 : xLk RX11 140 yX11_tie := Or.inl q2685
theorem q2698 : (Jvm.Cond.methodLink "CompiledHouse$Painter" (147 : Nat) ({ cls := "java/lang/Long", name := "bitCount", desc := "(J)I" } : Jvm.MethodName)) ∈ lw_all := lw_g (lw_at lw_m11 102 rfl) rfl
abbrev cJ16_bitCount : ByteArray := prog_47_method_50_code
def yJ16_bitCount : MethodName := ⟨RJ16, "bitCount", "(J)I"⟩
theorem q2700 : (Jvm.Cond.code ({ cls := "java/lang/Long", name := "bitCount", desc := "(J)I" } : Jvm.MethodName) prog_47_method_50_code (2 : Nat) (Option.some Jvm.ClassFile.FieldType.int)) ∈ lw_all := lw_g (lw_at lw_m11 104 rfl) rfl
def kJ16_bitCount : xK := (yJ16_bitCount, cJ16_bitCount, 2, some .int, [])
theorem me_J16_bitCount : xMe kJ16_bitCount 1 := ⟨q2700, q253, by decide, by decide, by decide +kernel⟩
theorem q2699 : (Jvm.Cond.static ({ cls := "java/lang/Long", name := "bitCount", desc := "(J)I" } : Jvm.MethodName)) ∈ lw_all := lw_g (lw_at lw_m11 103 rfl) rfl
theorem st_J16_bitCount : Cond.static kJ16_bitCount.y ∈ lw_all := q2699
theorem lk_X11_147 : xLk RX11 147 yJ16_bitCount := Or.inl q2698
theorem q2704 : (Jvm.Cond.methodLink "CompiledHouse$Painter" (150 : Nat) ({ cls := "CompiledHouse$Painter", name := "most", desc := "(I)I" } : Jvm.MethodName)) ∈ lw_all := lw_g (lw_at lw_m11 108 rfl) rfl
abbrev cX11_most : ByteArray := prog_26_method_6_code
def yX11_most : MethodName := ⟨RX11, "most", "(I)I"⟩
theorem q2707 : (Jvm.Cond.code ({ cls := "CompiledHouse$Painter", name := "most", desc := "(I)I" } : Jvm.MethodName) prog_26_method_6_code (2 : Nat) (Option.some Jvm.ClassFile.FieldType.int)) ∈ lw_all := lw_g (lw_at lw_m11 111 rfl) rfl
def kX11_most : xK := (yX11_most, cX11_most, 2, some .int, [])
theorem me_X11_most : xMe kX11_most 1 := ⟨q2707, q214, by decide, by decide, by decide +kernel⟩
theorem q2706 : (Jvm.Cond.instanceMethod ({ cls := "CompiledHouse$Painter", name := "most", desc := "(I)I" } : Jvm.MethodName)) ∈ lw_all := lw_g (lw_at lw_m11 110 rfl) rfl
theorem is_X11_most : Cond.instanceMethod kX11_most.y ∈ lw_all := q2706
theorem se_X11_most : Cond.selects RX11 kX11_most.y kX11_most.y ∈ lw_all := qs86
theorem lk_X11_150 : xLk RX11 150 yX11_most := Or.inl q2704
theorem q2708 : (Jvm.Cond.fieldLinkNest "CompiledHouse$Painter" (144 : Nat) "CompiledHouse" "COLOUR" "[I" "CompiledHouse") ∈ lw_tbl := lw_at lw_m11 112 rfl
theorem q773 : (Jvm.Cond.fieldLink "CompiledHouse$Painter" (154 : Nat) "CompiledHouse$Painter" "slots" "I") ∈ lw_all := lw_g (lw_at lw_m3 97 rfl) rfl
theorem f_X11_154_10 : xF RX11 154 10 3 := ⟨_, "CompiledHouse$Painter", rfl, by decide, Or.inl q773, Or.inl rfl⟩
theorem dX11_init_0 : decode cX11_init 0 = .ok (.aload_n 0, 1) := by decide +kernel
theorem dX11_init_1 : decode cX11_init 1 = .ok (.invokespecial 3, 3) := by decide +kernel
theorem dX11_init_4 : decode cX11_init 4 = .ok (.aload_n 0, 1) := by decide +kernel
theorem dX11_init_5 : decode cX11_init 5 = .ok (.bipush 64, 2) := by decide +kernel
theorem dX11_init_7 : decode cX11_init 7 = .ok (.newarray .long, 2) := by decide +kernel
theorem dX11_init_9 : decode cX11_init 9 = .ok (.putfield 9, 3) := by decide +kernel
theorem dX11_init_12 : decode cX11_init 12 = .ok (.aload_n 0, 1) := by decide +kernel
theorem dX11_init_13 : decode cX11_init 13 = .ok (.bipush 64, 2) := by decide +kernel
theorem dX11_init_15 : decode cX11_init 15 = .ok (.newarray .boolean, 2) := by decide +kernel
theorem dX11_init_17 : decode cX11_init 17 = .ok (.putfield 15, 3) := by decide +kernel
theorem dX11_init_20 : decode cX11_init 20 = .ok (.aload_n 0, 1) := by decide +kernel
theorem dX11_init_21 : decode cX11_init 21 = .ok (.bipush 64, 2) := by decide +kernel
theorem dX11_init_23 : decode cX11_init 23 = .ok (.newarray .boolean, 2) := by decide +kernel
theorem dX11_init_25 : decode cX11_init 25 = .ok (.putfield 19, 3) := by decide +kernel
theorem dX11_init_28 : decode cX11_init 28 = .ok (.aload_n 0, 1) := by decide +kernel
theorem dX11_init_29 : decode cX11_init 29 = .ok (.bipush 64, 2) := by decide +kernel
theorem dX11_init_31 : decode cX11_init 31 = .ok (.newarray .boolean, 2) := by decide +kernel
theorem dX11_init_33 : decode cX11_init 33 = .ok (.putfield 22, 3) := by decide +kernel
theorem dX11_init_36 : decode cX11_init 36 = .ok (.aload_n 0, 1) := by decide +kernel
theorem dX11_init_37 : decode cX11_init 37 = .ok (.bipush 64, 2) := by decide +kernel
theorem dX11_init_39 : decode cX11_init 39 = .ok (.newarray .int, 2) := by decide +kernel
theorem dX11_init_41 : decode cX11_init 41 = .ok (.putfield 25, 3) := by decide +kernel
theorem dX11_init_44 : decode cX11_init 44 = .ok (.aload_n 0, 1) := by decide +kernel
theorem dX11_init_45 : decode cX11_init 45 = .ok (.bipush 64, 2) := by decide +kernel
theorem dX11_init_47 : decode cX11_init 47 = .ok (.newarray .int, 2) := by decide +kernel
theorem dX11_init_49 : decode cX11_init 49 = .ok (.putfield 29, 3) := by decide +kernel
theorem dX11_init_52 : decode cX11_init 52 = .ok (.aload_n 0, 1) := by decide +kernel
theorem dX11_init_53 : decode cX11_init 53 = .ok (.bipush 64, 2) := by decide +kernel
theorem dX11_init_55 : decode cX11_init 55 = .ok (.newarray .int, 2) := by decide +kernel
theorem dX11_init_57 : decode cX11_init 57 = .ok (.putfield 32, 3) := by decide +kernel
theorem dX11_init_60 : decode cX11_init 60 = .ok (.aload_n 0, 1) := by decide +kernel
theorem dX11_init_61 : decode cX11_init 61 = .ok (.bipush 64, 2) := by decide +kernel
theorem dX11_init_63 : decode cX11_init 63 = .ok (.newarray .int, 2) := by decide +kernel
theorem dX11_init_65 : decode cX11_init 65 = .ok (.putfield 35, 3) := by decide +kernel
theorem dX11_init_68 : decode cX11_init 68 = .ok (.aload_n 0, 1) := by decide +kernel
theorem dX11_init_69 : decode cX11_init 69 = .ok (.bipush 64, 2) := by decide +kernel
theorem dX11_init_71 : decode cX11_init 71 = .ok (.newarray .int, 2) := by decide +kernel
theorem dX11_init_73 : decode cX11_init 73 = .ok (.putfield 38, 3) := by decide +kernel
theorem dX11_init_76 : decode cX11_init 76 = .ok (.aload_n 0, 1) := by decide +kernel
theorem dX11_init_77 : decode cX11_init 77 = .ok (.aload_n 1, 1) := by decide +kernel
theorem dX11_init_78 : decode cX11_init 78 = .ok (.putfield 41, 3) := by decide +kernel
theorem dX11_init_81 : decode cX11_init 81 = .ok (.return_, 1) := by decide +kernel
theorem dX11_paint_0 : decode cX11_paint 0 = .ok (.aload_n 0, 1) := by decide +kernel
theorem dX11_paint_1 : decode cX11_paint 1 = .ok (.aload_n 1, 1) := by decide +kernel
theorem dX11_paint_2 : decode cX11_paint 2 = .ok (.getfield 45, 3) := by decide +kernel
theorem dX11_paint_5 : decode cX11_paint 5 = .ok (.putfield 51, 3) := by decide +kernel
theorem dX11_paint_8 : decode cX11_paint 8 = .ok (.aload_n 0, 1) := by decide +kernel
theorem dX11_paint_9 : decode cX11_paint 9 = .ok (.aload_n 0, 1) := by decide +kernel
theorem dX11_paint_10 : decode cX11_paint 10 = .ok (.getfield 51, 3) := by decide +kernel
theorem dX11_paint_13 : decode cX11_paint 13 = .ok (.bipush 63, 2) := by decide +kernel
theorem dX11_paint_15 : decode cX11_paint 15 = .ok (.iadd, 1) := by decide +kernel
theorem dX11_paint_16 : decode cX11_paint 16 = .ok (.bipush 64, 2) := by decide +kernel
theorem dX11_paint_18 : decode cX11_paint 18 = .ok (.idiv, 1) := by decide +kernel
theorem dX11_paint_19 : decode cX11_paint 19 = .ok (.putfield 54, 3) := by decide +kernel
theorem dX11_paint_22 : decode cX11_paint 22 = .ok (.aload_n 0, 1) := by decide +kernel
theorem dX11_paint_23 : decode cX11_paint 23 = .ok (.aload_n 0, 1) := by decide +kernel
theorem dX11_paint_24 : decode cX11_paint 24 = .ok (.getfield 9, 3) := by decide +kernel
theorem dX11_paint_27 : decode cX11_paint 27 = .ok (.aload_n 0, 1) := by decide +kernel
theorem dX11_paint_28 : decode cX11_paint 28 = .ok (.getfield 51, 3) := by decide +kernel
theorem dX11_paint_31 : decode cX11_paint 31 = .ok (.aload_n 0, 1) := by decide +kernel
theorem dX11_paint_32 : decode cX11_paint 32 = .ok (.getfield 54, 3) := by decide +kernel
theorem dX11_paint_35 : decode cX11_paint 35 = .ok (.imul, 1) := by decide +kernel
theorem dX11_paint_36 : decode cX11_paint 36 = .ok (.invokestatic 57, 3) := by decide +kernel
theorem dX11_paint_39 : decode cX11_paint 39 = .ok (.putfield 9, 3) := by decide +kernel
theorem dX11_paint_42 : decode cX11_paint 42 = .ok (.aload_n 0, 1) := by decide +kernel
theorem dX11_paint_43 : decode cX11_paint 43 = .ok (.aload_n 0, 1) := by decide +kernel
theorem dX11_paint_44 : decode cX11_paint 44 = .ok (.getfield 15, 3) := by decide +kernel
theorem dX11_paint_47 : decode cX11_paint 47 = .ok (.aload_n 0, 1) := by decide +kernel
theorem dX11_paint_48 : decode cX11_paint 48 = .ok (.getfield 51, 3) := by decide +kernel
theorem dX11_paint_51 : decode cX11_paint 51 = .ok (.invokestatic 61, 3) := by decide +kernel
theorem dX11_paint_54 : decode cX11_paint 54 = .ok (.putfield 15, 3) := by decide +kernel
theorem dX11_paint_57 : decode cX11_paint 57 = .ok (.aload_n 0, 1) := by decide +kernel
theorem dX11_paint_58 : decode cX11_paint 58 = .ok (.aload_n 0, 1) := by decide +kernel
theorem dX11_paint_59 : decode cX11_paint 59 = .ok (.getfield 19, 3) := by decide +kernel
theorem dX11_paint_62 : decode cX11_paint 62 = .ok (.aload_n 0, 1) := by decide +kernel
theorem dX11_paint_63 : decode cX11_paint 63 = .ok (.getfield 51, 3) := by decide +kernel
theorem dX11_paint_66 : decode cX11_paint 66 = .ok (.invokestatic 61, 3) := by decide +kernel
theorem dX11_paint_69 : decode cX11_paint 69 = .ok (.putfield 19, 3) := by decide +kernel
theorem dX11_paint_72 : decode cX11_paint 72 = .ok (.aload_n 0, 1) := by decide +kernel
theorem dX11_paint_73 : decode cX11_paint 73 = .ok (.aload_n 0, 1) := by decide +kernel
theorem dX11_paint_74 : decode cX11_paint 74 = .ok (.getfield 22, 3) := by decide +kernel
theorem dX11_paint_77 : decode cX11_paint 77 = .ok (.aload_n 0, 1) := by decide +kernel
theorem dX11_paint_78 : decode cX11_paint 78 = .ok (.getfield 51, 3) := by decide +kernel
theorem dX11_paint_81 : decode cX11_paint 81 = .ok (.invokestatic 61, 3) := by decide +kernel
theorem dX11_paint_84 : decode cX11_paint 84 = .ok (.putfield 22, 3) := by decide +kernel
theorem dX11_paint_87 : decode cX11_paint 87 = .ok (.aload_n 0, 1) := by decide +kernel
theorem dX11_paint_88 : decode cX11_paint 88 = .ok (.aload_n 0, 1) := by decide +kernel
theorem dX11_paint_89 : decode cX11_paint 89 = .ok (.getfield 25, 3) := by decide +kernel
theorem dX11_paint_92 : decode cX11_paint 92 = .ok (.aload_n 0, 1) := by decide +kernel
theorem dX11_paint_93 : decode cX11_paint 93 = .ok (.getfield 51, 3) := by decide +kernel
theorem dX11_paint_96 : decode cX11_paint 96 = .ok (.invokestatic 64, 3) := by decide +kernel
theorem dX11_paint_99 : decode cX11_paint 99 = .ok (.putfield 25, 3) := by decide +kernel
theorem dX11_paint_102 : decode cX11_paint 102 = .ok (.aload_n 0, 1) := by decide +kernel
theorem dX11_paint_103 : decode cX11_paint 103 = .ok (.aload_n 0, 1) := by decide +kernel
theorem dX11_paint_104 : decode cX11_paint 104 = .ok (.getfield 29, 3) := by decide +kernel
theorem dX11_paint_107 : decode cX11_paint 107 = .ok (.aload_n 0, 1) := by decide +kernel
theorem dX11_paint_108 : decode cX11_paint 108 = .ok (.getfield 51, 3) := by decide +kernel
theorem dX11_paint_111 : decode cX11_paint 111 = .ok (.invokestatic 64, 3) := by decide +kernel
theorem dX11_paint_114 : decode cX11_paint 114 = .ok (.putfield 29, 3) := by decide +kernel
theorem dX11_paint_117 : decode cX11_paint 117 = .ok (.aload_n 0, 1) := by decide +kernel
theorem dX11_paint_118 : decode cX11_paint 118 = .ok (.aload_n 0, 1) := by decide +kernel
theorem dX11_paint_119 : decode cX11_paint 119 = .ok (.getfield 32, 3) := by decide +kernel
theorem dX11_paint_122 : decode cX11_paint 122 = .ok (.aload_n 0, 1) := by decide +kernel
theorem dX11_paint_123 : decode cX11_paint 123 = .ok (.getfield 51, 3) := by decide +kernel
theorem dX11_paint_126 : decode cX11_paint 126 = .ok (.invokestatic 64, 3) := by decide +kernel
theorem dX11_paint_129 : decode cX11_paint 129 = .ok (.putfield 32, 3) := by decide +kernel
theorem dX11_paint_132 : decode cX11_paint 132 = .ok (.aload_n 0, 1) := by decide +kernel
theorem dX11_paint_133 : decode cX11_paint 133 = .ok (.aload_n 0, 1) := by decide +kernel
theorem dX11_paint_134 : decode cX11_paint 134 = .ok (.getfield 35, 3) := by decide +kernel
theorem dX11_paint_137 : decode cX11_paint 137 = .ok (.aload_n 0, 1) := by decide +kernel
theorem dX11_paint_138 : decode cX11_paint 138 = .ok (.getfield 51, 3) := by decide +kernel
theorem dX11_paint_141 : decode cX11_paint 141 = .ok (.invokestatic 64, 3) := by decide +kernel
theorem dX11_paint_144 : decode cX11_paint 144 = .ok (.putfield 35, 3) := by decide +kernel
theorem dX11_paint_147 : decode cX11_paint 147 = .ok (.aload_n 0, 1) := by decide +kernel
theorem dX11_paint_148 : decode cX11_paint 148 = .ok (.aload_n 0, 1) := by decide +kernel
theorem dX11_paint_149 : decode cX11_paint 149 = .ok (.getfield 38, 3) := by decide +kernel
theorem dX11_paint_152 : decode cX11_paint 152 = .ok (.aload_n 0, 1) := by decide +kernel
theorem dX11_paint_153 : decode cX11_paint 153 = .ok (.getfield 51, 3) := by decide +kernel
theorem dX11_paint_156 : decode cX11_paint 156 = .ok (.invokestatic 64, 3) := by decide +kernel
theorem dX11_paint_159 : decode cX11_paint 159 = .ok (.putfield 38, 3) := by decide +kernel
theorem dX11_paint_162 : decode cX11_paint 162 = .ok (.iconst 0, 1) := by decide +kernel
theorem dX11_paint_163 : decode cX11_paint 163 = .ok (.istore_n 2, 1) := by decide +kernel
theorem dX11_paint_164 : decode cX11_paint 164 = .ok (.iload_n 2, 1) := by decide +kernel
theorem dX11_paint_165 : decode cX11_paint 165 = .ok (.aload_n 0, 1) := by decide +kernel
theorem dX11_paint_166 : decode cX11_paint 166 = .ok (.getfield 51, 3) := by decide +kernel
theorem dX11_paint_169 : decode cX11_paint 169 = .ok (.aload_n 0, 1) := by decide +kernel
theorem dX11_paint_170 : decode cX11_paint 170 = .ok (.getfield 54, 3) := by decide +kernel
theorem dX11_paint_173 : decode cX11_paint 173 = .ok (.imul, 1) := by decide +kernel
theorem dX11_paint_174 : decode cX11_paint 174 = .ok (.if_icmp .ge 16, 3) := by decide +kernel
theorem dX11_paint_177 : decode cX11_paint 177 = .ok (.aload_n 0, 1) := by decide +kernel
theorem dX11_paint_178 : decode cX11_paint 178 = .ok (.getfield 9, 3) := by decide +kernel
theorem dX11_paint_181 : decode cX11_paint 181 = .ok (.iload_n 2, 1) := by decide +kernel
theorem dX11_paint_182 : decode cX11_paint 182 = .ok (.lconst 0, 1) := by decide +kernel
theorem dX11_paint_183 : decode cX11_paint 183 = .ok (.lastore, 1) := by decide +kernel
theorem dX11_paint_184 : decode cX11_paint 184 = .ok (.iinc 2 1, 3) := by decide +kernel
theorem dX11_paint_187 : decode cX11_paint 187 = .ok (.goto (-23), 3) := by decide +kernel
theorem dX11_paint_190 : decode cX11_paint 190 = .ok (.iconst 0, 1) := by decide +kernel
theorem dX11_paint_191 : decode cX11_paint 191 = .ok (.istore_n 2, 1) := by decide +kernel
theorem dX11_paint_192 : decode cX11_paint 192 = .ok (.iload_n 2, 1) := by decide +kernel
theorem dX11_paint_193 : decode cX11_paint 193 = .ok (.aload_n 0, 1) := by decide +kernel
theorem dX11_paint_194 : decode cX11_paint 194 = .ok (.getfield 51, 3) := by decide +kernel
theorem dX11_paint_197 : decode cX11_paint 197 = .ok (.if_icmp .ge 58, 3) := by decide +kernel
theorem dX11_paint_200 : decode cX11_paint 200 = .ok (.aload_n 0, 1) := by decide +kernel
theorem dX11_paint_201 : decode cX11_paint 201 = .ok (.getfield 15, 3) := by decide +kernel
theorem dX11_paint_204 : decode cX11_paint 204 = .ok (.iload_n 2, 1) := by decide +kernel
theorem dX11_paint_205 : decode cX11_paint 205 = .ok (.iconst 0, 1) := by decide +kernel
theorem dX11_paint_206 : decode cX11_paint 206 = .ok (.bastore, 1) := by decide +kernel
theorem dX11_paint_207 : decode cX11_paint 207 = .ok (.aload_n 0, 1) := by decide +kernel
theorem dX11_paint_208 : decode cX11_paint 208 = .ok (.getfield 19, 3) := by decide +kernel
theorem dX11_paint_211 : decode cX11_paint 211 = .ok (.iload_n 2, 1) := by decide +kernel
theorem dX11_paint_212 : decode cX11_paint 212 = .ok (.iconst 0, 1) := by decide +kernel
theorem dX11_paint_213 : decode cX11_paint 213 = .ok (.bastore, 1) := by decide +kernel
theorem dX11_paint_214 : decode cX11_paint 214 = .ok (.aload_n 0, 1) := by decide +kernel
theorem dX11_paint_215 : decode cX11_paint 215 = .ok (.getfield 22, 3) := by decide +kernel
theorem dX11_paint_218 : decode cX11_paint 218 = .ok (.iload_n 2, 1) := by decide +kernel
theorem dX11_paint_219 : decode cX11_paint 219 = .ok (.iconst 0, 1) := by decide +kernel
theorem dX11_paint_220 : decode cX11_paint 220 = .ok (.bastore, 1) := by decide +kernel
theorem dX11_paint_221 : decode cX11_paint 221 = .ok (.aload_n 0, 1) := by decide +kernel
theorem dX11_paint_222 : decode cX11_paint 222 = .ok (.getfield 25, 3) := by decide +kernel
theorem dX11_paint_225 : decode cX11_paint 225 = .ok (.iload_n 2, 1) := by decide +kernel
theorem dX11_paint_226 : decode cX11_paint 226 = .ok (.iconst 0, 1) := by decide +kernel
theorem dX11_paint_227 : decode cX11_paint 227 = .ok (.iastore, 1) := by decide +kernel
theorem dX11_paint_228 : decode cX11_paint 228 = .ok (.aload_n 0, 1) := by decide +kernel
theorem dX11_paint_229 : decode cX11_paint 229 = .ok (.getfield 29, 3) := by decide +kernel
theorem dX11_paint_232 : decode cX11_paint 232 = .ok (.iload_n 2, 1) := by decide +kernel
theorem dX11_paint_233 : decode cX11_paint 233 = .ok (.iconst (-1), 1) := by decide +kernel
theorem dX11_paint_234 : decode cX11_paint 234 = .ok (.iastore, 1) := by decide +kernel
theorem dX11_paint_235 : decode cX11_paint 235 = .ok (.aload_n 0, 1) := by decide +kernel
theorem dX11_paint_236 : decode cX11_paint 236 = .ok (.getfield 32, 3) := by decide +kernel
theorem dX11_paint_239 : decode cX11_paint 239 = .ok (.iload_n 2, 1) := by decide +kernel
theorem dX11_paint_240 : decode cX11_paint 240 = .ok (.iconst (-1), 1) := by decide +kernel
theorem dX11_paint_241 : decode cX11_paint 241 = .ok (.iastore, 1) := by decide +kernel
theorem dX11_paint_242 : decode cX11_paint 242 = .ok (.aload_n 0, 1) := by decide +kernel
theorem dX11_paint_243 : decode cX11_paint 243 = .ok (.getfield 35, 3) := by decide +kernel
theorem dX11_paint_246 : decode cX11_paint 246 = .ok (.iload_n 2, 1) := by decide +kernel
theorem dX11_paint_247 : decode cX11_paint 247 = .ok (.iconst 0, 1) := by decide +kernel
theorem dX11_paint_248 : decode cX11_paint 248 = .ok (.iastore, 1) := by decide +kernel
theorem dX11_paint_249 : decode cX11_paint 249 = .ok (.iinc 2 1, 3) := by decide +kernel
theorem dX11_paint_252 : decode cX11_paint 252 = .ok (.goto (-60), 3) := by decide +kernel
theorem dX11_paint_255 : decode cX11_paint 255 = .ok (.aload_n 0, 1) := by decide +kernel
theorem dX11_paint_256 : decode cX11_paint 256 = .ok (.getfield 41, 3) := by decide +kernel
theorem dX11_paint_259 : decode cX11_paint 259 = .ok (.aload_n 1, 1) := by decide +kernel
theorem dX11_paint_260 : decode cX11_paint 260 = .ok (.invokevirtual 67, 3) := by decide +kernel
theorem dX11_paint_263 : decode cX11_paint 263 = .ok (.iconst 0, 1) := by decide +kernel
theorem dX11_paint_264 : decode cX11_paint 264 = .ok (.istore_n 2, 1) := by decide +kernel
theorem dX11_paint_265 : decode cX11_paint 265 = .ok (.iload_n 2, 1) := by decide +kernel
theorem dX11_paint_266 : decode cX11_paint 266 = .ok (.aload_n 1, 1) := by decide +kernel
theorem dX11_paint_267 : decode cX11_paint 267 = .ok (.getfield 73, 3) := by decide +kernel
theorem dX11_paint_270 : decode cX11_paint 270 = .ok (.invokevirtual 77, 3) := by decide +kernel
theorem dX11_paint_273 : decode cX11_paint 273 = .ok (.if_icmp .ge 121, 3) := by decide +kernel
theorem dX11_paint_276 : decode cX11_paint 276 = .ok (.aload_n 1, 1) := by decide +kernel
theorem dX11_paint_277 : decode cX11_paint 277 = .ok (.getfield 73, 3) := by decide +kernel
theorem dX11_paint_280 : decode cX11_paint 280 = .ok (.iload_n 2, 1) := by decide +kernel
theorem dX11_paint_281 : decode cX11_paint 281 = .ok (.invokevirtual 83, 3) := by decide +kernel
theorem dX11_paint_284 : decode cX11_paint 284 = .ok (.checkcast 87, 3) := by decide +kernel
theorem dX11_paint_287 : decode cX11_paint 287 = .ok (.astore_n 3, 1) := by decide +kernel
theorem dX11_paint_288 : decode cX11_paint 288 = .ok (.aload_n 0, 1) := by decide +kernel
theorem dX11_paint_289 : decode cX11_paint 289 = .ok (.getfield 41, 3) := by decide +kernel
theorem dX11_paint_292 : decode cX11_paint 292 = .ok (.aload_n 3, 1) := by decide +kernel
theorem dX11_paint_293 : decode cX11_paint 293 = .ok (.invokevirtual 89, 3) := by decide +kernel
theorem dX11_paint_296 : decode cX11_paint 296 = .ok (.aload_n 3, 1) := by decide +kernel
theorem dX11_paint_297 : decode cX11_paint 297 = .ok (.getfield 93, 3) := by decide +kernel
theorem dX11_paint_300 : decode cX11_paint 300 = .ok (.invokevirtual 77, 3) := by decide +kernel
theorem dX11_paint_303 : decode cX11_paint 303 = .ok (.iconst 1, 1) := by decide +kernel
theorem dX11_paint_304 : decode cX11_paint 304 = .ok (.isub, 1) := by decide +kernel
theorem dX11_paint_305 : decode cX11_paint 305 = .ok (.istore 4, 2) := by decide +kernel
theorem dX11_paint_307 : decode cX11_paint 307 = .ok (.iload 4, 2) := by decide +kernel
theorem dX11_paint_309 : decode cX11_paint 309 = .ok (.ifCond .lt 79, 3) := by decide +kernel
theorem dX11_paint_312 : decode cX11_paint 312 = .ok (.aload_n 3, 1) := by decide +kernel
theorem dX11_paint_313 : decode cX11_paint 313 = .ok (.getfield 93, 3) := by decide +kernel
theorem dX11_paint_316 : decode cX11_paint 316 = .ok (.iload 4, 2) := by decide +kernel
theorem dX11_paint_318 : decode cX11_paint 318 = .ok (.invokevirtual 83, 3) := by decide +kernel
theorem dX11_paint_321 : decode cX11_paint 321 = .ok (.checkcast 96, 3) := by decide +kernel
theorem dX11_paint_324 : decode cX11_paint 324 = .ok (.astore 5, 2) := by decide +kernel
theorem dX11_paint_326 : decode cX11_paint 326 = .ok (.aload 5, 2) := by decide +kernel
theorem dX11_paint_328 : decode cX11_paint 328 = .ok (.getfield 98, 3) := by decide +kernel
theorem dX11_paint_331 : decode cX11_paint 331 = .ok (.ifCond .lt 16, 3) := by decide +kernel
theorem dX11_paint_334 : decode cX11_paint 334 = .ok (.aload_n 0, 1) := by decide +kernel
theorem dX11_paint_335 : decode cX11_paint 335 = .ok (.aload 5, 2) := by decide +kernel
theorem dX11_paint_337 : decode cX11_paint 337 = .ok (.aload_n 0, 1) := by decide +kernel
theorem dX11_paint_338 : decode cX11_paint 338 = .ok (.getfield 41, 3) := by decide +kernel
theorem dX11_paint_341 : decode cX11_paint 341 = .ok (.getfield 101, 3) := by decide +kernel
theorem dX11_paint_344 : decode cX11_paint 344 = .ok (.invokevirtual 104, 3) := by decide +kernel
theorem dX11_paint_347 : decode cX11_paint 347 = .ok (.aload 5, 2) := by decide +kernel
theorem dX11_paint_349 : decode cX11_paint 349 = .ok (.getfield 108, 3) := by decide +kernel
theorem dX11_paint_352 : decode cX11_paint 352 = .ok (.bipush 26, 2) := by decide +kernel
theorem dX11_paint_354 : decode cX11_paint 354 = .ok (.if_icmp .ne 19, 3) := by decide +kernel
theorem dX11_paint_357 : decode cX11_paint 357 = .ok (.aload_n 0, 1) := by decide +kernel
theorem dX11_paint_358 : decode cX11_paint 358 = .ok (.aload 5, 2) := by decide +kernel
theorem dX11_paint_360 : decode cX11_paint 360 = .ok (.getfield 98, 3) := by decide +kernel
theorem dX11_paint_363 : decode cX11_paint 363 = .ok (.aload_n 0, 1) := by decide +kernel
theorem dX11_paint_364 : decode cX11_paint 364 = .ok (.getfield 41, 3) := by decide +kernel
theorem dX11_paint_367 : decode cX11_paint 367 = .ok (.getfield 101, 3) := by decide +kernel
theorem dX11_paint_370 : decode cX11_paint 370 = .ok (.invokevirtual 111, 3) := by decide +kernel
theorem dX11_paint_373 : decode cX11_paint 373 = .ok (.aload_n 0, 1) := by decide +kernel
theorem dX11_paint_374 : decode cX11_paint 374 = .ok (.getfield 41, 3) := by decide +kernel
theorem dX11_paint_377 : decode cX11_paint 377 = .ok (.aload 5, 2) := by decide +kernel
theorem dX11_paint_379 : decode cX11_paint 379 = .ok (.invokevirtual 115, 3) := by decide +kernel
theorem dX11_paint_382 : decode cX11_paint 382 = .ok (.iinc 4 (-1), 3) := by decide +kernel
theorem dX11_paint_385 : decode cX11_paint 385 = .ok (.goto (-78), 3) := by decide +kernel
theorem dX11_paint_388 : decode cX11_paint 388 = .ok (.iinc 2 1, 3) := by decide +kernel
theorem dX11_paint_391 : decode cX11_paint 391 = .ok (.goto (-126), 3) := by decide +kernel
theorem dX11_paint_394 : decode cX11_paint 394 = .ok (.aload_n 0, 1) := by decide +kernel
theorem dX11_paint_395 : decode cX11_paint 395 = .ok (.aload_n 0, 1) := by decide +kernel
theorem dX11_paint_396 : decode cX11_paint 396 = .ok (.invokevirtual 119, 3) := by decide +kernel
theorem dX11_paint_399 : decode cX11_paint 399 = .ok (.invokevirtual 122, 3) := by decide +kernel
theorem dX11_paint_402 : decode cX11_paint 402 = .ok (.return_, 1) := by decide +kernel
theorem dX11_meet_0 : decode cX11_meet 0 = .ok (.aload_n 0, 1) := by decide +kernel
theorem dX11_meet_1 : decode cX11_meet 1 = .ok (.getfield 19, 3) := by decide +kernel
theorem dX11_meet_4 : decode cX11_meet 4 = .ok (.aload_n 1, 1) := by decide +kernel
theorem dX11_meet_5 : decode cX11_meet 5 = .ok (.getfield 98, 3) := by decide +kernel
theorem dX11_meet_8 : decode cX11_meet 8 = .ok (.iconst 1, 1) := by decide +kernel
theorem dX11_meet_9 : decode cX11_meet 9 = .ok (.bastore, 1) := by decide +kernel
theorem dX11_meet_10 : decode cX11_meet 10 = .ok (.aload_n 1, 1) := by decide +kernel
theorem dX11_meet_11 : decode cX11_meet 11 = .ok (.getfield 108, 3) := by decide +kernel
theorem dX11_meet_14 : decode cX11_meet 14 = .ok (.bipush 20, 2) := by decide +kernel
theorem dX11_meet_16 : decode cX11_meet 16 = .ok (.if_icmp .ne 21, 3) := by decide +kernel
theorem dX11_meet_19 : decode cX11_meet 19 = .ok (.aload_n 1, 1) := by decide +kernel
theorem dX11_meet_20 : decode cX11_meet 20 = .ok (.getfield 126, 3) := by decide +kernel
theorem dX11_meet_23 : decode cX11_meet 23 = .ok (.invokestatic 130, 3) := by decide +kernel
theorem dX11_meet_26 : decode cX11_meet 26 = .ok (.ifCond .ne 11, 3) := by decide +kernel
theorem dX11_meet_29 : decode cX11_meet 29 = .ok (.aload_n 1, 1) := by decide +kernel
theorem dX11_meet_30 : decode cX11_meet 30 = .ok (.getfield 126, 3) := by decide +kernel
theorem dX11_meet_33 : decode cX11_meet 33 = .ok (.l2i, 1) := by decide +kernel
theorem dX11_meet_34 : decode cX11_meet 34 = .ok (.goto 4, 3) := by decide +kernel
theorem dX11_meet_37 : decode cX11_meet 37 = .ok (.iconst (-1), 1) := by decide +kernel
theorem dX11_meet_38 : decode cX11_meet 38 = .ok (.istore_n 3, 1) := by decide +kernel
theorem dX11_meet_39 : decode cX11_meet 39 = .ok (.iload_n 3, 1) := by decide +kernel
theorem dX11_meet_40 : decode cX11_meet 40 = .ok (.ifCond .lt 32, 3) := by decide +kernel
theorem dX11_meet_43 : decode cX11_meet 43 = .ok (.aload_n 0, 1) := by decide +kernel
theorem dX11_meet_44 : decode cX11_meet 44 = .ok (.getfield 29, 3) := by decide +kernel
theorem dX11_meet_47 : decode cX11_meet 47 = .ok (.aload_n 1, 1) := by decide +kernel
theorem dX11_meet_48 : decode cX11_meet 48 = .ok (.getfield 98, 3) := by decide +kernel
theorem dX11_meet_51 : decode cX11_meet 51 = .ok (.iload_n 3, 1) := by decide +kernel
theorem dX11_meet_52 : decode cX11_meet 52 = .ok (.iastore, 1) := by decide +kernel
theorem dX11_meet_53 : decode cX11_meet 53 = .ok (.aload_n 0, 1) := by decide +kernel
theorem dX11_meet_54 : decode cX11_meet 54 = .ok (.getfield 29, 3) := by decide +kernel
theorem dX11_meet_57 : decode cX11_meet 57 = .ok (.iload_n 3, 1) := by decide +kernel
theorem dX11_meet_58 : decode cX11_meet 58 = .ok (.iaload, 1) := by decide +kernel
theorem dX11_meet_59 : decode cX11_meet 59 = .ok (.ifCond .ge 13, 3) := by decide +kernel
theorem dX11_meet_62 : decode cX11_meet 62 = .ok (.aload_n 0, 1) := by decide +kernel
theorem dX11_meet_63 : decode cX11_meet 63 = .ok (.getfield 29, 3) := by decide +kernel
theorem dX11_meet_66 : decode cX11_meet 66 = .ok (.iload_n 3, 1) := by decide +kernel
theorem dX11_meet_67 : decode cX11_meet 67 = .ok (.aload_n 1, 1) := by decide +kernel
theorem dX11_meet_68 : decode cX11_meet 68 = .ok (.getfield 98, 3) := by decide +kernel
theorem dX11_meet_71 : decode cX11_meet 71 = .ok (.iastore, 1) := by decide +kernel
theorem dX11_meet_72 : decode cX11_meet 72 = .ok (.iconst 0, 1) := by decide +kernel
theorem dX11_meet_73 : decode cX11_meet 73 = .ok (.istore 4, 2) := by decide +kernel
theorem dX11_meet_75 : decode cX11_meet 75 = .ok (.iload 4, 2) := by decide +kernel
theorem dX11_meet_77 : decode cX11_meet 77 = .ok (.aload_n 0, 1) := by decide +kernel
theorem dX11_meet_78 : decode cX11_meet 78 = .ok (.getfield 54, 3) := by decide +kernel
theorem dX11_meet_81 : decode cX11_meet 81 = .ok (.if_icmp .ge 72, 3) := by decide +kernel
theorem dX11_meet_84 : decode cX11_meet 84 = .ok (.aload_n 2, 1) := by decide +kernel
theorem dX11_meet_85 : decode cX11_meet 85 = .ok (.iload 4, 2) := by decide +kernel
theorem dX11_meet_87 : decode cX11_meet 87 = .ok (.laload, 1) := by decide +kernel
theorem dX11_meet_88 : decode cX11_meet 88 = .ok (.lstore 5, 2) := by decide +kernel
theorem dX11_meet_90 : decode cX11_meet 90 = .ok (.lload 5, 2) := by decide +kernel
theorem dX11_meet_92 : decode cX11_meet 92 = .ok (.lconst 0, 1) := by decide +kernel
theorem dX11_meet_93 : decode cX11_meet 93 = .ok (.lcmp, 1) := by decide +kernel
theorem dX11_meet_94 : decode cX11_meet 94 = .ok (.ifCond .eq 53, 3) := by decide +kernel
theorem dX11_meet_97 : decode cX11_meet 97 = .ok (.bipush 64, 2) := by decide +kernel
theorem dX11_meet_99 : decode cX11_meet 99 = .ok (.iload 4, 2) := by decide +kernel
theorem dX11_meet_101 : decode cX11_meet 101 = .ok (.imul, 1) := by decide +kernel
theorem dX11_meet_102 : decode cX11_meet 102 = .ok (.lload 5, 2) := by decide +kernel
theorem dX11_meet_104 : decode cX11_meet 104 = .ok (.invokestatic 134, 3) := by decide +kernel
theorem dX11_meet_107 : decode cX11_meet 107 = .ok (.iadd, 1) := by decide +kernel
theorem dX11_meet_108 : decode cX11_meet 108 = .ok (.istore 7, 2) := by decide +kernel
theorem dX11_meet_110 : decode cX11_meet 110 = .ok (.iload 7, 2) := by decide +kernel
theorem dX11_meet_112 : decode cX11_meet 112 = .ok (.aload_n 1, 1) := by decide +kernel
theorem dX11_meet_113 : decode cX11_meet 113 = .ok (.getfield 98, 3) := by decide +kernel
theorem dX11_meet_116 : decode cX11_meet 116 = .ok (.if_icmp .eq 19, 3) := by decide +kernel
theorem dX11_meet_119 : decode cX11_meet 119 = .ok (.iload 7, 2) := by decide +kernel
theorem dX11_meet_121 : decode cX11_meet 121 = .ok (.iload_n 3, 1) := by decide +kernel
theorem dX11_meet_122 : decode cX11_meet 122 = .ok (.if_icmp .eq 13, 3) := by decide +kernel
theorem dX11_meet_125 : decode cX11_meet 125 = .ok (.aload_n 0, 1) := by decide +kernel
theorem dX11_meet_126 : decode cX11_meet 126 = .ok (.aload_n 1, 1) := by decide +kernel
theorem dX11_meet_127 : decode cX11_meet 127 = .ok (.getfield 98, 3) := by decide +kernel
theorem dX11_meet_130 : decode cX11_meet 130 = .ok (.iload 7, 2) := by decide +kernel
theorem dX11_meet_132 : decode cX11_meet 132 = .ok (.invokevirtual 140, 3) := by decide +kernel
theorem dX11_meet_135 : decode cX11_meet 135 = .ok (.lload 5, 2) := by decide +kernel
theorem dX11_meet_137 : decode cX11_meet 137 = .ok (.lload 5, 2) := by decide +kernel
theorem dX11_meet_139 : decode cX11_meet 139 = .ok (.lconst 1, 1) := by decide +kernel
theorem dX11_meet_140 : decode cX11_meet 140 = .ok (.lsub, 1) := by decide +kernel
theorem dX11_meet_141 : decode cX11_meet 141 = .ok (.land, 1) := by decide +kernel
theorem dX11_meet_142 : decode cX11_meet 142 = .ok (.lstore 5, 2) := by decide +kernel
theorem dX11_meet_144 : decode cX11_meet 144 = .ok (.goto (-54), 3) := by decide +kernel
theorem dX11_meet_147 : decode cX11_meet 147 = .ok (.iinc 4 1, 3) := by decide +kernel
theorem dX11_meet_150 : decode cX11_meet 150 = .ok (.goto (-75), 3) := by decide +kernel
theorem dX11_meet_153 : decode cX11_meet 153 = .ok (.return_, 1) := by decide +kernel
theorem dX11_tie_0 : decode cX11_tie 0 = .ok (.aload_n 0, 1) := by decide +kernel
theorem dX11_tie_1 : decode cX11_tie 1 = .ok (.getfield 9, 3) := by decide +kernel
theorem dX11_tie_4 : decode cX11_tie 4 = .ok (.iload_n 1, 1) := by decide +kernel
theorem dX11_tie_5 : decode cX11_tie 5 = .ok (.aload_n 0, 1) := by decide +kernel
theorem dX11_tie_6 : decode cX11_tie 6 = .ok (.getfield 54, 3) := by decide +kernel
theorem dX11_tie_9 : decode cX11_tie 9 = .ok (.imul, 1) := by decide +kernel
theorem dX11_tie_10 : decode cX11_tie 10 = .ok (.iload_n 2, 1) := by decide +kernel
theorem dX11_tie_11 : decode cX11_tie 11 = .ok (.bipush 6, 2) := by decide +kernel
theorem dX11_tie_13 : decode cX11_tie 13 = .ok (.ishr, 1) := by decide +kernel
theorem dX11_tie_14 : decode cX11_tie 14 = .ok (.iadd, 1) := by decide +kernel
theorem dX11_tie_15 : decode cX11_tie 15 = .ok (.dup2, 1) := by decide +kernel
theorem dX11_tie_16 : decode cX11_tie 16 = .ok (.laload, 1) := by decide +kernel
theorem dX11_tie_17 : decode cX11_tie 17 = .ok (.lconst 1, 1) := by decide +kernel
theorem dX11_tie_18 : decode cX11_tie 18 = .ok (.iload_n 2, 1) := by decide +kernel
theorem dX11_tie_19 : decode cX11_tie 19 = .ok (.bipush 63, 2) := by decide +kernel
theorem dX11_tie_21 : decode cX11_tie 21 = .ok (.iand, 1) := by decide +kernel
theorem dX11_tie_22 : decode cX11_tie 22 = .ok (.lshl, 1) := by decide +kernel
theorem dX11_tie_23 : decode cX11_tie 23 = .ok (.lor, 1) := by decide +kernel
theorem dX11_tie_24 : decode cX11_tie 24 = .ok (.lastore, 1) := by decide +kernel
theorem dX11_tie_25 : decode cX11_tie 25 = .ok (.aload_n 0, 1) := by decide +kernel
theorem dX11_tie_26 : decode cX11_tie 26 = .ok (.getfield 9, 3) := by decide +kernel
theorem dX11_tie_29 : decode cX11_tie 29 = .ok (.iload_n 2, 1) := by decide +kernel
theorem dX11_tie_30 : decode cX11_tie 30 = .ok (.aload_n 0, 1) := by decide +kernel
theorem dX11_tie_31 : decode cX11_tie 31 = .ok (.getfield 54, 3) := by decide +kernel
theorem dX11_tie_34 : decode cX11_tie 34 = .ok (.imul, 1) := by decide +kernel
theorem dX11_tie_35 : decode cX11_tie 35 = .ok (.iload_n 1, 1) := by decide +kernel
theorem dX11_tie_36 : decode cX11_tie 36 = .ok (.bipush 6, 2) := by decide +kernel
theorem dX11_tie_38 : decode cX11_tie 38 = .ok (.ishr, 1) := by decide +kernel
theorem dX11_tie_39 : decode cX11_tie 39 = .ok (.iadd, 1) := by decide +kernel
theorem dX11_tie_40 : decode cX11_tie 40 = .ok (.dup2, 1) := by decide +kernel
theorem dX11_tie_41 : decode cX11_tie 41 = .ok (.laload, 1) := by decide +kernel
theorem dX11_tie_42 : decode cX11_tie 42 = .ok (.lconst 1, 1) := by decide +kernel
theorem dX11_tie_43 : decode cX11_tie 43 = .ok (.iload_n 1, 1) := by decide +kernel
theorem dX11_tie_44 : decode cX11_tie 44 = .ok (.bipush 63, 2) := by decide +kernel
theorem dX11_tie_46 : decode cX11_tie 46 = .ok (.iand, 1) := by decide +kernel
theorem dX11_tie_47 : decode cX11_tie 47 = .ok (.lshl, 1) := by decide +kernel
theorem dX11_tie_48 : decode cX11_tie 48 = .ok (.lor, 1) := by decide +kernel
theorem dX11_tie_49 : decode cX11_tie 49 = .ok (.lastore, 1) := by decide +kernel
theorem dX11_tie_50 : decode cX11_tie 50 = .ok (.return_, 1) := by decide +kernel
theorem dX11_cross_0 : decode cX11_cross 0 = .ok (.iconst 0, 1) := by decide +kernel
theorem dX11_cross_1 : decode cX11_cross 1 = .ok (.istore_n 3, 1) := by decide +kernel
theorem dX11_cross_2 : decode cX11_cross 2 = .ok (.iload_n 3, 1) := by decide +kernel
theorem dX11_cross_3 : decode cX11_cross 3 = .ok (.aload_n 0, 1) := by decide +kernel
theorem dX11_cross_4 : decode cX11_cross 4 = .ok (.getfield 54, 3) := by decide +kernel
theorem dX11_cross_7 : decode cX11_cross 7 = .ok (.if_icmp .ge 73, 3) := by decide +kernel
theorem dX11_cross_10 : decode cX11_cross 10 = .ok (.aload_n 2, 1) := by decide +kernel
theorem dX11_cross_11 : decode cX11_cross 11 = .ok (.iload_n 3, 1) := by decide +kernel
theorem dX11_cross_12 : decode cX11_cross 12 = .ok (.laload, 1) := by decide +kernel
theorem dX11_cross_13 : decode cX11_cross 13 = .ok (.lstore 4, 2) := by decide +kernel
theorem dX11_cross_15 : decode cX11_cross 15 = .ok (.lload 4, 2) := by decide +kernel
theorem dX11_cross_17 : decode cX11_cross 17 = .ok (.lconst 0, 1) := by decide +kernel
theorem dX11_cross_18 : decode cX11_cross 18 = .ok (.lcmp, 1) := by decide +kernel
theorem dX11_cross_19 : decode cX11_cross 19 = .ok (.ifCond .eq 55, 3) := by decide +kernel
theorem dX11_cross_22 : decode cX11_cross 22 = .ok (.bipush 64, 2) := by decide +kernel
theorem dX11_cross_24 : decode cX11_cross 24 = .ok (.iload_n 3, 1) := by decide +kernel
theorem dX11_cross_25 : decode cX11_cross 25 = .ok (.imul, 1) := by decide +kernel
theorem dX11_cross_26 : decode cX11_cross 26 = .ok (.lload 4, 2) := by decide +kernel
theorem dX11_cross_28 : decode cX11_cross 28 = .ok (.invokestatic 134, 3) := by decide +kernel
theorem dX11_cross_31 : decode cX11_cross 31 = .ok (.iadd, 1) := by decide +kernel
theorem dX11_cross_32 : decode cX11_cross 32 = .ok (.istore 6, 2) := by decide +kernel
theorem dX11_cross_34 : decode cX11_cross 34 = .ok (.aload_n 0, 1) := by decide +kernel
theorem dX11_cross_35 : decode cX11_cross 35 = .ok (.getfield 15, 3) := by decide +kernel
theorem dX11_cross_38 : decode cX11_cross 38 = .ok (.iload 6, 2) := by decide +kernel
theorem dX11_cross_40 : decode cX11_cross 40 = .ok (.aload_n 0, 1) := by decide +kernel
theorem dX11_cross_41 : decode cX11_cross 41 = .ok (.getfield 15, 3) := by decide +kernel
theorem dX11_cross_44 : decode cX11_cross 44 = .ok (.iload 6, 2) := by decide +kernel
theorem dX11_cross_46 : decode cX11_cross 46 = .ok (.baload, 1) := by decide +kernel
theorem dX11_cross_47 : decode cX11_cross 47 = .ok (.ifCond .ne 9, 3) := by decide +kernel
theorem dX11_cross_50 : decode cX11_cross 50 = .ok (.iload 6, 2) := by decide +kernel
theorem dX11_cross_52 : decode cX11_cross 52 = .ok (.iload_n 1, 1) := by decide +kernel
theorem dX11_cross_53 : decode cX11_cross 53 = .ok (.if_icmp .eq 7, 3) := by decide +kernel
theorem dX11_cross_56 : decode cX11_cross 56 = .ok (.iconst 1, 1) := by decide +kernel
theorem dX11_cross_57 : decode cX11_cross 57 = .ok (.goto 4, 3) := by decide +kernel
theorem dX11_cross_60 : decode cX11_cross 60 = .ok (.iconst 0, 1) := by decide +kernel
theorem dX11_cross_61 : decode cX11_cross 61 = .ok (.bastore, 1) := by decide +kernel
theorem dX11_cross_62 : decode cX11_cross 62 = .ok (.lload 4, 2) := by decide +kernel
theorem dX11_cross_64 : decode cX11_cross 64 = .ok (.lload 4, 2) := by decide +kernel
theorem dX11_cross_66 : decode cX11_cross 66 = .ok (.lconst 1, 1) := by decide +kernel
theorem dX11_cross_67 : decode cX11_cross 67 = .ok (.lsub, 1) := by decide +kernel
theorem dX11_cross_68 : decode cX11_cross 68 = .ok (.land, 1) := by decide +kernel
theorem dX11_cross_69 : decode cX11_cross 69 = .ok (.lstore 4, 2) := by decide +kernel
theorem dX11_cross_71 : decode cX11_cross 71 = .ok (.goto (-56), 3) := by decide +kernel
theorem dX11_cross_74 : decode cX11_cross 74 = .ok (.iinc 3 1, 3) := by decide +kernel
theorem dX11_cross_77 : decode cX11_cross 77 = .ok (.goto (-75), 3) := by decide +kernel
theorem dX11_cross_80 : decode cX11_cross 80 = .ok (.return_, 1) := by decide +kernel
theorem dX11_stack_0 : decode cX11_stack 0 = .ok (.iconst 0, 1) := by decide +kernel
theorem dX11_stack_1 : decode cX11_stack 1 = .ok (.istore_n 1, 1) := by decide +kernel
theorem dX11_stack_2 : decode cX11_stack 2 = .ok (.iconst 0, 1) := by decide +kernel
theorem dX11_stack_3 : decode cX11_stack 3 = .ok (.istore_n 2, 1) := by decide +kernel
theorem dX11_stack_4 : decode cX11_stack 4 = .ok (.iload_n 2, 1) := by decide +kernel
theorem dX11_stack_5 : decode cX11_stack 5 = .ok (.aload_n 0, 1) := by decide +kernel
theorem dX11_stack_6 : decode cX11_stack 6 = .ok (.getfield 51, 3) := by decide +kernel
theorem dX11_stack_9 : decode cX11_stack 9 = .ok (.if_icmp .ge 67, 3) := by decide +kernel
theorem dX11_stack_12 : decode cX11_stack 12 = .ok (.iload_n 1, 1) := by decide +kernel
theorem dX11_stack_13 : decode cX11_stack 13 = .ok (.aload_n 0, 1) := by decide +kernel
theorem dX11_stack_14 : decode cX11_stack 14 = .ok (.getfield 19, 3) := by decide +kernel
theorem dX11_stack_17 : decode cX11_stack 17 = .ok (.iload_n 2, 1) := by decide +kernel
theorem dX11_stack_18 : decode cX11_stack 18 = .ok (.baload, 1) := by decide +kernel
theorem dX11_stack_19 : decode cX11_stack 19 = .ok (.ifCond .eq 7, 3) := by decide +kernel
theorem dX11_stack_22 : decode cX11_stack 22 = .ok (.iconst 1, 1) := by decide +kernel
theorem dX11_stack_23 : decode cX11_stack 23 = .ok (.goto 4, 3) := by decide +kernel
theorem dX11_stack_26 : decode cX11_stack 26 = .ok (.iconst 0, 1) := by decide +kernel
theorem dX11_stack_27 : decode cX11_stack 27 = .ok (.iadd, 1) := by decide +kernel
theorem dX11_stack_28 : decode cX11_stack 28 = .ok (.istore_n 1, 1) := by decide +kernel
theorem dX11_stack_29 : decode cX11_stack 29 = .ok (.iconst 0, 1) := by decide +kernel
theorem dX11_stack_30 : decode cX11_stack 30 = .ok (.istore_n 3, 1) := by decide +kernel
theorem dX11_stack_31 : decode cX11_stack 31 = .ok (.iload_n 3, 1) := by decide +kernel
theorem dX11_stack_32 : decode cX11_stack 32 = .ok (.aload_n 0, 1) := by decide +kernel
theorem dX11_stack_33 : decode cX11_stack 33 = .ok (.getfield 54, 3) := by decide +kernel
theorem dX11_stack_36 : decode cX11_stack 36 = .ok (.if_icmp .ge 34, 3) := by decide +kernel
theorem dX11_stack_39 : decode cX11_stack 39 = .ok (.aload_n 0, 1) := by decide +kernel
theorem dX11_stack_40 : decode cX11_stack 40 = .ok (.getfield 25, 3) := by decide +kernel
theorem dX11_stack_43 : decode cX11_stack 43 = .ok (.iload_n 2, 1) := by decide +kernel
theorem dX11_stack_44 : decode cX11_stack 44 = .ok (.dup2, 1) := by decide +kernel
theorem dX11_stack_45 : decode cX11_stack 45 = .ok (.iaload, 1) := by decide +kernel
theorem dX11_stack_46 : decode cX11_stack 46 = .ok (.aload_n 0, 1) := by decide +kernel
theorem dX11_stack_47 : decode cX11_stack 47 = .ok (.getfield 9, 3) := by decide +kernel
theorem dX11_stack_50 : decode cX11_stack 50 = .ok (.iload_n 2, 1) := by decide +kernel
theorem dX11_stack_51 : decode cX11_stack 51 = .ok (.aload_n 0, 1) := by decide +kernel
theorem dX11_stack_52 : decode cX11_stack 52 = .ok (.getfield 54, 3) := by decide +kernel
theorem dX11_stack_55 : decode cX11_stack 55 = .ok (.imul, 1) := by decide +kernel
theorem dX11_stack_56 : decode cX11_stack 56 = .ok (.iload_n 3, 1) := by decide +kernel
theorem dX11_stack_57 : decode cX11_stack 57 = .ok (.iadd, 1) := by decide +kernel
theorem dX11_stack_58 : decode cX11_stack 58 = .ok (.laload, 1) := by decide +kernel
theorem dX11_stack_59 : decode cX11_stack 59 = .ok (.invokestatic 147, 3) := by decide +kernel
theorem dX11_stack_62 : decode cX11_stack 62 = .ok (.iadd, 1) := by decide +kernel
theorem dX11_stack_63 : decode cX11_stack 63 = .ok (.iastore, 1) := by decide +kernel
theorem dX11_stack_64 : decode cX11_stack 64 = .ok (.iinc 3 1, 3) := by decide +kernel
theorem dX11_stack_67 : decode cX11_stack 67 = .ok (.goto (-36), 3) := by decide +kernel
theorem dX11_stack_70 : decode cX11_stack 70 = .ok (.iinc 2 1, 3) := by decide +kernel
theorem dX11_stack_73 : decode cX11_stack 73 = .ok (.goto (-69), 3) := by decide +kernel
theorem dX11_stack_76 : decode cX11_stack 76 = .ok (.iconst 0, 1) := by decide +kernel
theorem dX11_stack_77 : decode cX11_stack 77 = .ok (.istore_n 2, 1) := by decide +kernel
theorem dX11_stack_78 : decode cX11_stack 78 = .ok (.iload_n 2, 1) := by decide +kernel
theorem dX11_stack_79 : decode cX11_stack 79 = .ok (.iload_n 1, 1) := by decide +kernel
theorem dX11_stack_80 : decode cX11_stack 80 = .ok (.if_icmp .ge 184, 3) := by decide +kernel
theorem dX11_stack_83 : decode cX11_stack 83 = .ok (.iconst (-1), 1) := by decide +kernel
theorem dX11_stack_84 : decode cX11_stack 84 = .ok (.istore_n 3, 1) := by decide +kernel
theorem dX11_stack_85 : decode cX11_stack 85 = .ok (.iconst 0, 1) := by decide +kernel
theorem dX11_stack_86 : decode cX11_stack 86 = .ok (.istore 4, 2) := by decide +kernel
theorem dX11_stack_88 : decode cX11_stack 88 = .ok (.iload 4, 2) := by decide +kernel
theorem dX11_stack_90 : decode cX11_stack 90 = .ok (.aload_n 0, 1) := by decide +kernel
theorem dX11_stack_91 : decode cX11_stack 91 = .ok (.getfield 51, 3) := by decide +kernel
theorem dX11_stack_94 : decode cX11_stack 94 = .ok (.if_icmp .ge 77, 3) := by decide +kernel
theorem dX11_stack_97 : decode cX11_stack 97 = .ok (.aload_n 0, 1) := by decide +kernel
theorem dX11_stack_98 : decode cX11_stack 98 = .ok (.getfield 19, 3) := by decide +kernel
theorem dX11_stack_101 : decode cX11_stack 101 = .ok (.iload 4, 2) := by decide +kernel
theorem dX11_stack_103 : decode cX11_stack 103 = .ok (.baload, 1) := by decide +kernel
theorem dX11_stack_104 : decode cX11_stack 104 = .ok (.ifCond .eq 61, 3) := by decide +kernel
theorem dX11_stack_107 : decode cX11_stack 107 = .ok (.aload_n 0, 1) := by decide +kernel
theorem dX11_stack_108 : decode cX11_stack 108 = .ok (.getfield 22, 3) := by decide +kernel
theorem dX11_stack_111 : decode cX11_stack 111 = .ok (.iload 4, 2) := by decide +kernel
theorem dX11_stack_113 : decode cX11_stack 113 = .ok (.baload, 1) := by decide +kernel
theorem dX11_stack_114 : decode cX11_stack 114 = .ok (.ifCond .eq 6, 3) := by decide +kernel
theorem dX11_stack_117 : decode cX11_stack 117 = .ok (.goto 48, 3) := by decide +kernel
theorem dX11_stack_120 : decode cX11_stack 120 = .ok (.aload_n 0, 1) := by decide +kernel
theorem dX11_stack_121 : decode cX11_stack 121 = .ok (.getfield 25, 3) := by decide +kernel
theorem dX11_stack_124 : decode cX11_stack 124 = .ok (.iload 4, 2) := by decide +kernel
theorem dX11_stack_126 : decode cX11_stack 126 = .ok (.iaload, 1) := by decide +kernel
theorem dX11_stack_127 : decode cX11_stack 127 = .ok (.aload_n 0, 1) := by decide +kernel
theorem dX11_stack_128 : decode cX11_stack 128 = .ok (.iload 4, 2) := by decide +kernel
theorem dX11_stack_130 : decode cX11_stack 130 = .ok (.invokevirtual 150, 3) := by decide +kernel
theorem dX11_stack_133 : decode cX11_stack 133 = .ok (.if_icmp .ge 9, 3) := by decide +kernel
theorem dX11_stack_136 : decode cX11_stack 136 = .ok (.iload 4, 2) := by decide +kernel
theorem dX11_stack_138 : decode cX11_stack 138 = .ok (.istore_n 3, 1) := by decide +kernel
theorem dX11_stack_139 : decode cX11_stack 139 = .ok (.goto 32, 3) := by decide +kernel
theorem dX11_stack_142 : decode cX11_stack 142 = .ok (.iload_n 3, 1) := by decide +kernel
theorem dX11_stack_143 : decode cX11_stack 143 = .ok (.ifCond .lt 19, 3) := by decide +kernel
theorem dX11_stack_146 : decode cX11_stack 146 = .ok (.aload_n 0, 1) := by decide +kernel
theorem dX11_stack_147 : decode cX11_stack 147 = .ok (.getfield 25, 3) := by decide +kernel
theorem dX11_stack_150 : decode cX11_stack 150 = .ok (.iload 4, 2) := by decide +kernel
theorem dX11_stack_152 : decode cX11_stack 152 = .ok (.iaload, 1) := by decide +kernel
theorem dX11_stack_153 : decode cX11_stack 153 = .ok (.aload_n 0, 1) := by decide +kernel
theorem dX11_stack_154 : decode cX11_stack 154 = .ok (.getfield 25, 3) := by decide +kernel
theorem dX11_stack_157 : decode cX11_stack 157 = .ok (.iload_n 3, 1) := by decide +kernel
theorem dX11_stack_158 : decode cX11_stack 158 = .ok (.iaload, 1) := by decide +kernel
theorem dX11_stack_159 : decode cX11_stack 159 = .ok (.if_icmp .le 6, 3) := by decide +kernel
theorem dX11_stack_162 : decode cX11_stack 162 = .ok (.iload 4, 2) := by decide +kernel
theorem dX11_stack_164 : decode cX11_stack 164 = .ok (.istore_n 3, 1) := by decide +kernel
theorem dX11_stack_165 : decode cX11_stack 165 = .ok (.iinc 4 1, 3) := by decide +kernel
theorem dX11_stack_168 : decode cX11_stack 168 = .ok (.goto (-80), 3) := by decide +kernel
theorem dX11_stack_171 : decode cX11_stack 171 = .ok (.aload_n 0, 1) := by decide +kernel
theorem dX11_stack_172 : decode cX11_stack 172 = .ok (.getfield 38, 3) := by decide +kernel
theorem dX11_stack_175 : decode cX11_stack 175 = .ok (.iload_n 2, 1) := by decide +kernel
theorem dX11_stack_176 : decode cX11_stack 176 = .ok (.iload_n 3, 1) := by decide +kernel
theorem dX11_stack_177 : decode cX11_stack 177 = .ok (.iastore, 1) := by decide +kernel
theorem dX11_stack_178 : decode cX11_stack 178 = .ok (.aload_n 0, 1) := by decide +kernel
theorem dX11_stack_179 : decode cX11_stack 179 = .ok (.getfield 22, 3) := by decide +kernel
theorem dX11_stack_182 : decode cX11_stack 182 = .ok (.iload_n 3, 1) := by decide +kernel
theorem dX11_stack_183 : decode cX11_stack 183 = .ok (.iconst 1, 1) := by decide +kernel
theorem dX11_stack_184 : decode cX11_stack 184 = .ok (.bastore, 1) := by decide +kernel
theorem dX11_stack_185 : decode cX11_stack 185 = .ok (.iconst 0, 1) := by decide +kernel
theorem dX11_stack_186 : decode cX11_stack 186 = .ok (.istore 4, 2) := by decide +kernel
theorem dX11_stack_188 : decode cX11_stack 188 = .ok (.iload 4, 2) := by decide +kernel
theorem dX11_stack_190 : decode cX11_stack 190 = .ok (.aload_n 0, 1) := by decide +kernel
theorem dX11_stack_191 : decode cX11_stack 191 = .ok (.getfield 54, 3) := by decide +kernel
theorem dX11_stack_194 : decode cX11_stack 194 = .ok (.if_icmp .ge 64, 3) := by decide +kernel
theorem dX11_stack_197 : decode cX11_stack 197 = .ok (.aload_n 0, 1) := by decide +kernel
theorem dX11_stack_198 : decode cX11_stack 198 = .ok (.getfield 9, 3) := by decide +kernel
theorem dX11_stack_201 : decode cX11_stack 201 = .ok (.iload_n 3, 1) := by decide +kernel
theorem dX11_stack_202 : decode cX11_stack 202 = .ok (.aload_n 0, 1) := by decide +kernel
theorem dX11_stack_203 : decode cX11_stack 203 = .ok (.getfield 54, 3) := by decide +kernel
theorem dX11_stack_206 : decode cX11_stack 206 = .ok (.imul, 1) := by decide +kernel
theorem dX11_stack_207 : decode cX11_stack 207 = .ok (.iload 4, 2) := by decide +kernel
theorem dX11_stack_209 : decode cX11_stack 209 = .ok (.iadd, 1) := by decide +kernel
theorem dX11_stack_210 : decode cX11_stack 210 = .ok (.laload, 1) := by decide +kernel
theorem dX11_stack_211 : decode cX11_stack 211 = .ok (.lstore 5, 2) := by decide +kernel
theorem dX11_stack_213 : decode cX11_stack 213 = .ok (.lload 5, 2) := by decide +kernel
theorem dX11_stack_215 : decode cX11_stack 215 = .ok (.lconst 0, 1) := by decide +kernel
theorem dX11_stack_216 : decode cX11_stack 216 = .ok (.lcmp, 1) := by decide +kernel
theorem dX11_stack_217 : decode cX11_stack 217 = .ok (.ifCond .eq 35, 3) := by decide +kernel
theorem dX11_stack_220 : decode cX11_stack 220 = .ok (.aload_n 0, 1) := by decide +kernel
theorem dX11_stack_221 : decode cX11_stack 221 = .ok (.getfield 25, 3) := by decide +kernel
theorem dX11_stack_224 : decode cX11_stack 224 = .ok (.bipush 64, 2) := by decide +kernel
theorem dX11_stack_226 : decode cX11_stack 226 = .ok (.iload 4, 2) := by decide +kernel
theorem dX11_stack_228 : decode cX11_stack 228 = .ok (.imul, 1) := by decide +kernel
theorem dX11_stack_229 : decode cX11_stack 229 = .ok (.lload 5, 2) := by decide +kernel
theorem dX11_stack_231 : decode cX11_stack 231 = .ok (.invokestatic 134, 3) := by decide +kernel
theorem dX11_stack_234 : decode cX11_stack 234 = .ok (.iadd, 1) := by decide +kernel
theorem dX11_stack_235 : decode cX11_stack 235 = .ok (.dup2, 1) := by decide +kernel
theorem dX11_stack_236 : decode cX11_stack 236 = .ok (.iaload, 1) := by decide +kernel
theorem dX11_stack_237 : decode cX11_stack 237 = .ok (.iconst 1, 1) := by decide +kernel
theorem dX11_stack_238 : decode cX11_stack 238 = .ok (.isub, 1) := by decide +kernel
theorem dX11_stack_239 : decode cX11_stack 239 = .ok (.iastore, 1) := by decide +kernel
theorem dX11_stack_240 : decode cX11_stack 240 = .ok (.lload 5, 2) := by decide +kernel
theorem dX11_stack_242 : decode cX11_stack 242 = .ok (.lload 5, 2) := by decide +kernel
theorem dX11_stack_244 : decode cX11_stack 244 = .ok (.lconst 1, 1) := by decide +kernel
theorem dX11_stack_245 : decode cX11_stack 245 = .ok (.lsub, 1) := by decide +kernel
theorem dX11_stack_246 : decode cX11_stack 246 = .ok (.land, 1) := by decide +kernel
theorem dX11_stack_247 : decode cX11_stack 247 = .ok (.lstore 5, 2) := by decide +kernel
theorem dX11_stack_249 : decode cX11_stack 249 = .ok (.goto (-36), 3) := by decide +kernel
theorem dX11_stack_252 : decode cX11_stack 252 = .ok (.iinc 4 1, 3) := by decide +kernel
theorem dX11_stack_255 : decode cX11_stack 255 = .ok (.goto (-67), 3) := by decide +kernel
theorem dX11_stack_258 : decode cX11_stack 258 = .ok (.iinc 2 1, 3) := by decide +kernel
theorem dX11_stack_261 : decode cX11_stack 261 = .ok (.goto (-183), 3) := by decide +kernel
theorem dX11_stack_264 : decode cX11_stack 264 = .ok (.iload_n 1, 1) := by decide +kernel
theorem dX11_stack_265 : decode cX11_stack 265 = .ok (.ireturn, 1) := by decide +kernel
theorem dX11_most_0 : decode cX11_most 0 = .ok (.aload_n 0, 1) := by decide +kernel
theorem dX11_most_1 : decode cX11_most 1 = .ok (.getfield 15, 3) := by decide +kernel
theorem dX11_most_4 : decode cX11_most 4 = .ok (.iload_n 1, 1) := by decide +kernel
theorem dX11_most_5 : decode cX11_most 5 = .ok (.baload, 1) := by decide +kernel
theorem dX11_most_6 : decode cX11_most 6 = .ok (.ifCond .eq 12, 3) := by decide +kernel
theorem dX11_most_9 : decode cX11_most 9 = .ok (.getstatic 144, 3) := by decide +kernel
theorem dX11_most_12 : decode cX11_most 12 = .ok (.arraylength, 1) := by decide +kernel
theorem dX11_most_13 : decode cX11_most 13 = .ok (.iconst 5, 1) := by decide +kernel
theorem dX11_most_14 : decode cX11_most 14 = .ok (.isub, 1) := by decide +kernel
theorem dX11_most_15 : decode cX11_most 15 = .ok (.goto 7, 3) := by decide +kernel
theorem dX11_most_18 : decode cX11_most 18 = .ok (.getstatic 144, 3) := by decide +kernel
theorem dX11_most_21 : decode cX11_most 21 = .ok (.arraylength, 1) := by decide +kernel
theorem dX11_most_22 : decode cX11_most 22 = .ok (.ireturn, 1) := by decide +kernel
theorem dX11_choose_0 : decode cX11_choose 0 = .ok (.aload_n 0, 1) := by decide +kernel
theorem dX11_choose_1 : decode cX11_choose 1 = .ok (.iconst 0, 1) := by decide +kernel
theorem dX11_choose_2 : decode cX11_choose 2 = .ok (.putfield 154, 3) := by decide +kernel
theorem dX11_choose_5 : decode cX11_choose 5 = .ok (.iload_n 1, 1) := by decide +kernel
theorem dX11_choose_6 : decode cX11_choose 6 = .ok (.iconst 1, 1) := by decide +kernel
theorem dX11_choose_7 : decode cX11_choose 7 = .ok (.isub, 1) := by decide +kernel
theorem dX11_choose_8 : decode cX11_choose 8 = .ok (.istore_n 2, 1) := by decide +kernel
theorem dX11_choose_9 : decode cX11_choose 9 = .ok (.iload_n 2, 1) := by decide +kernel
theorem dX11_choose_10 : decode cX11_choose 10 = .ok (.ifCond .lt 245, 3) := by decide +kernel
theorem dX11_choose_13 : decode cX11_choose 13 = .ok (.aload_n 0, 1) := by decide +kernel
theorem dX11_choose_14 : decode cX11_choose 14 = .ok (.getfield 38, 3) := by decide +kernel
theorem dX11_choose_17 : decode cX11_choose 17 = .ok (.iload_n 2, 1) := by decide +kernel
theorem dX11_choose_18 : decode cX11_choose 18 = .ok (.iaload, 1) := by decide +kernel
theorem dX11_choose_19 : decode cX11_choose 19 = .ok (.istore_n 3, 1) := by decide +kernel
theorem dX11_choose_20 : decode cX11_choose 20 = .ok (.iconst 0, 1) := by decide +kernel
theorem dX11_choose_21 : decode cX11_choose 21 = .ok (.istore 4, 2) := by decide +kernel
theorem dX11_choose_23 : decode cX11_choose 23 = .ok (.iconst 0, 1) := by decide +kernel
theorem dX11_choose_24 : decode cX11_choose 24 = .ok (.istore 5, 2) := by decide +kernel
theorem dX11_choose_26 : decode cX11_choose 26 = .ok (.iload 5, 2) := by decide +kernel
theorem dX11_choose_28 : decode cX11_choose 28 = .ok (.aload_n 0, 1) := by decide +kernel
theorem dX11_choose_29 : decode cX11_choose 29 = .ok (.getfield 54, 3) := by decide +kernel
theorem dX11_choose_32 : decode cX11_choose 32 = .ok (.if_icmp .ge 76, 3) := by decide +kernel
theorem dX11_choose_35 : decode cX11_choose 35 = .ok (.aload_n 0, 1) := by decide +kernel
theorem dX11_choose_36 : decode cX11_choose 36 = .ok (.getfield 9, 3) := by decide +kernel
theorem dX11_choose_39 : decode cX11_choose 39 = .ok (.iload_n 3, 1) := by decide +kernel
theorem dX11_choose_40 : decode cX11_choose 40 = .ok (.aload_n 0, 1) := by decide +kernel
theorem dX11_choose_41 : decode cX11_choose 41 = .ok (.getfield 54, 3) := by decide +kernel
theorem dX11_choose_44 : decode cX11_choose 44 = .ok (.imul, 1) := by decide +kernel
theorem dX11_choose_45 : decode cX11_choose 45 = .ok (.iload 5, 2) := by decide +kernel
theorem dX11_choose_47 : decode cX11_choose 47 = .ok (.iadd, 1) := by decide +kernel
theorem dX11_choose_48 : decode cX11_choose 48 = .ok (.laload, 1) := by decide +kernel
theorem dX11_choose_49 : decode cX11_choose 49 = .ok (.lstore 6, 2) := by decide +kernel
theorem dX11_choose_51 : decode cX11_choose 51 = .ok (.lload 6, 2) := by decide +kernel
theorem dX11_choose_53 : decode cX11_choose 53 = .ok (.lconst 0, 1) := by decide +kernel
theorem dX11_choose_54 : decode cX11_choose 54 = .ok (.lcmp, 1) := by decide +kernel
theorem dX11_choose_55 : decode cX11_choose 55 = .ok (.ifCond .eq 47, 3) := by decide +kernel
theorem dX11_choose_58 : decode cX11_choose 58 = .ok (.aload_n 0, 1) := by decide +kernel
theorem dX11_choose_59 : decode cX11_choose 59 = .ok (.getfield 32, 3) := by decide +kernel
theorem dX11_choose_62 : decode cX11_choose 62 = .ok (.bipush 64, 2) := by decide +kernel
theorem dX11_choose_64 : decode cX11_choose 64 = .ok (.iload 5, 2) := by decide +kernel
theorem dX11_choose_66 : decode cX11_choose 66 = .ok (.imul, 1) := by decide +kernel
theorem dX11_choose_67 : decode cX11_choose 67 = .ok (.lload 6, 2) := by decide +kernel
theorem dX11_choose_69 : decode cX11_choose 69 = .ok (.invokestatic 134, 3) := by decide +kernel
theorem dX11_choose_72 : decode cX11_choose 72 = .ok (.iadd, 1) := by decide +kernel
theorem dX11_choose_73 : decode cX11_choose 73 = .ok (.iaload, 1) := by decide +kernel
theorem dX11_choose_74 : decode cX11_choose 74 = .ok (.istore 8, 2) := by decide +kernel
theorem dX11_choose_76 : decode cX11_choose 76 = .ok (.iload 8, 2) := by decide +kernel
theorem dX11_choose_78 : decode cX11_choose 78 = .ok (.ifCond .lt 12, 3) := by decide +kernel
theorem dX11_choose_81 : decode cX11_choose 81 = .ok (.iload 4, 2) := by decide +kernel
theorem dX11_choose_83 : decode cX11_choose 83 = .ok (.iconst 1, 1) := by decide +kernel
theorem dX11_choose_84 : decode cX11_choose 84 = .ok (.iload 8, 2) := by decide +kernel
theorem dX11_choose_86 : decode cX11_choose 86 = .ok (.ishl, 1) := by decide +kernel
theorem dX11_choose_87 : decode cX11_choose 87 = .ok (.ior, 1) := by decide +kernel
theorem dX11_choose_88 : decode cX11_choose 88 = .ok (.istore 4, 2) := by decide +kernel
theorem dX11_choose_90 : decode cX11_choose 90 = .ok (.lload 6, 2) := by decide +kernel
theorem dX11_choose_92 : decode cX11_choose 92 = .ok (.lload 6, 2) := by decide +kernel
theorem dX11_choose_94 : decode cX11_choose 94 = .ok (.lconst 1, 1) := by decide +kernel
theorem dX11_choose_95 : decode cX11_choose 95 = .ok (.lsub, 1) := by decide +kernel
theorem dX11_choose_96 : decode cX11_choose 96 = .ok (.land, 1) := by decide +kernel
theorem dX11_choose_97 : decode cX11_choose 97 = .ok (.lstore 6, 2) := by decide +kernel
theorem dX11_choose_99 : decode cX11_choose 99 = .ok (.goto (-48), 3) := by decide +kernel
theorem dX11_choose_102 : decode cX11_choose 102 = .ok (.iinc 5 1, 3) := by decide +kernel
theorem dX11_choose_105 : decode cX11_choose 105 = .ok (.goto (-79), 3) := by decide +kernel
theorem dX11_choose_108 : decode cX11_choose 108 = .ok (.aload_n 0, 1) := by decide +kernel
theorem dX11_choose_109 : decode cX11_choose 109 = .ok (.getfield 15, 3) := by decide +kernel
theorem dX11_choose_112 : decode cX11_choose 112 = .ok (.iload_n 3, 1) := by decide +kernel
theorem dX11_choose_113 : decode cX11_choose 113 = .ok (.baload, 1) := by decide +kernel
theorem dX11_choose_114 : decode cX11_choose 114 = .ok (.ifCond .eq 7, 3) := by decide +kernel
theorem dX11_choose_117 : decode cX11_choose 117 = .ok (.iconst 5, 1) := by decide +kernel
theorem dX11_choose_118 : decode cX11_choose 118 = .ok (.goto 4, 3) := by decide +kernel
theorem dX11_choose_121 : decode cX11_choose 121 = .ok (.iconst 0, 1) := by decide +kernel
theorem dX11_choose_122 : decode cX11_choose 122 = .ok (.istore 5, 2) := by decide +kernel
theorem dX11_choose_124 : decode cX11_choose 124 = .ok (.aload_n 0, 1) := by decide +kernel
theorem dX11_choose_125 : decode cX11_choose 125 = .ok (.getfield 29, 3) := by decide +kernel
theorem dX11_choose_128 : decode cX11_choose 128 = .ok (.iload_n 3, 1) := by decide +kernel
theorem dX11_choose_129 : decode cX11_choose 129 = .ok (.iaload, 1) := by decide +kernel
theorem dX11_choose_130 : decode cX11_choose 130 = .ok (.ifCond .ge 7, 3) := by decide +kernel
theorem dX11_choose_133 : decode cX11_choose 133 = .ok (.iconst (-1), 1) := by decide +kernel
theorem dX11_choose_134 : decode cX11_choose 134 = .ok (.goto 14, 3) := by decide +kernel
theorem dX11_choose_137 : decode cX11_choose 137 = .ok (.aload_n 0, 1) := by decide +kernel
theorem dX11_choose_138 : decode cX11_choose 138 = .ok (.getfield 32, 3) := by decide +kernel
theorem dX11_choose_141 : decode cX11_choose 141 = .ok (.aload_n 0, 1) := by decide +kernel
theorem dX11_choose_142 : decode cX11_choose 142 = .ok (.getfield 29, 3) := by decide +kernel
theorem dX11_choose_145 : decode cX11_choose 145 = .ok (.iload_n 3, 1) := by decide +kernel
theorem dX11_choose_146 : decode cX11_choose 146 = .ok (.iaload, 1) := by decide +kernel
theorem dX11_choose_147 : decode cX11_choose 147 = .ok (.iaload, 1) := by decide +kernel
theorem dX11_choose_148 : decode cX11_choose 148 = .ok (.istore 6, 2) := by decide +kernel
theorem dX11_choose_150 : decode cX11_choose 150 = .ok (.iload 6, 2) := by decide +kernel
theorem dX11_choose_152 : decode cX11_choose 152 = .ok (.iload 5, 2) := by decide +kernel
theorem dX11_choose_154 : decode cX11_choose 154 = .ok (.if_icmp .lt 18, 3) := by decide +kernel
theorem dX11_choose_157 : decode cX11_choose 157 = .ok (.iload 4, 2) := by decide +kernel
theorem dX11_choose_159 : decode cX11_choose 159 = .ok (.iload 6, 2) := by decide +kernel
theorem dX11_choose_161 : decode cX11_choose 161 = .ok (.ishr, 1) := by decide +kernel
theorem dX11_choose_162 : decode cX11_choose 162 = .ok (.iconst 1, 1) := by decide +kernel
theorem dX11_choose_163 : decode cX11_choose 163 = .ok (.iand, 1) := by decide +kernel
theorem dX11_choose_164 : decode cX11_choose 164 = .ok (.ifCond .ne 8, 3) := by decide +kernel
theorem dX11_choose_167 : decode cX11_choose 167 = .ok (.iload 6, 2) := by decide +kernel
theorem dX11_choose_169 : decode cX11_choose 169 = .ok (.goto 4, 3) := by decide +kernel
theorem dX11_choose_172 : decode cX11_choose 172 = .ok (.iconst (-1), 1) := by decide +kernel
theorem dX11_choose_173 : decode cX11_choose 173 = .ok (.istore 7, 2) := by decide +kernel
theorem dX11_choose_175 : decode cX11_choose 175 = .ok (.iload 5, 2) := by decide +kernel
theorem dX11_choose_177 : decode cX11_choose 177 = .ok (.istore 8, 2) := by decide +kernel
theorem dX11_choose_179 : decode cX11_choose 179 = .ok (.iload 8, 2) := by decide +kernel
theorem dX11_choose_181 : decode cX11_choose 181 = .ok (.getstatic 144, 3) := by decide +kernel
theorem dX11_choose_184 : decode cX11_choose 184 = .ok (.arraylength, 1) := by decide +kernel
theorem dX11_choose_185 : decode cX11_choose 185 = .ok (.if_icmp .ge 28, 3) := by decide +kernel
theorem dX11_choose_188 : decode cX11_choose 188 = .ok (.iload 7, 2) := by decide +kernel
theorem dX11_choose_190 : decode cX11_choose 190 = .ok (.ifCond .ge 23, 3) := by decide +kernel
theorem dX11_choose_193 : decode cX11_choose 193 = .ok (.iload 4, 2) := by decide +kernel
theorem dX11_choose_195 : decode cX11_choose 195 = .ok (.iload 8, 2) := by decide +kernel
theorem dX11_choose_197 : decode cX11_choose 197 = .ok (.ishr, 1) := by decide +kernel
theorem dX11_choose_198 : decode cX11_choose 198 = .ok (.iconst 1, 1) := by decide +kernel
theorem dX11_choose_199 : decode cX11_choose 199 = .ok (.iand, 1) := by decide +kernel
theorem dX11_choose_200 : decode cX11_choose 200 = .ok (.ifCond .ne 7, 3) := by decide +kernel
theorem dX11_choose_203 : decode cX11_choose 203 = .ok (.iload 8, 2) := by decide +kernel
theorem dX11_choose_205 : decode cX11_choose 205 = .ok (.istore 7, 2) := by decide +kernel
theorem dX11_choose_207 : decode cX11_choose 207 = .ok (.iinc 8 1, 3) := by decide +kernel
theorem dX11_choose_210 : decode cX11_choose 210 = .ok (.goto (-31), 3) := by decide +kernel
theorem dX11_choose_213 : decode cX11_choose 213 = .ok (.aload_n 0, 1) := by decide +kernel
theorem dX11_choose_214 : decode cX11_choose 214 = .ok (.getfield 32, 3) := by decide +kernel
theorem dX11_choose_217 : decode cX11_choose 217 = .ok (.iload_n 3, 1) := by decide +kernel
theorem dX11_choose_218 : decode cX11_choose 218 = .ok (.iload 7, 2) := by decide +kernel
theorem dX11_choose_220 : decode cX11_choose 220 = .ok (.iastore, 1) := by decide +kernel
theorem dX11_choose_221 : decode cX11_choose 221 = .ok (.iload 7, 2) := by decide +kernel
theorem dX11_choose_223 : decode cX11_choose 223 = .ok (.ifCond .lt 6, 3) := by decide +kernel
theorem dX11_choose_226 : decode cX11_choose 226 = .ok (.goto 23, 3) := by decide +kernel
theorem dX11_choose_229 : decode cX11_choose 229 = .ok (.aload_n 0, 1) := by decide +kernel
theorem dX11_choose_230 : decode cX11_choose 230 = .ok (.getfield 35, 3) := by decide +kernel
theorem dX11_choose_233 : decode cX11_choose 233 = .ok (.iload_n 3, 1) := by decide +kernel
theorem dX11_choose_234 : decode cX11_choose 234 = .ok (.aload_n 0, 1) := by decide +kernel
theorem dX11_choose_235 : decode cX11_choose 235 = .ok (.getfield 154, 3) := by decide +kernel
theorem dX11_choose_238 : decode cX11_choose 238 = .ok (.iastore, 1) := by decide +kernel
theorem dX11_choose_239 : decode cX11_choose 239 = .ok (.aload_n 0, 1) := by decide +kernel
theorem dX11_choose_240 : decode cX11_choose 240 = .ok (.dup, 1) := by decide +kernel
theorem dX11_choose_241 : decode cX11_choose 241 = .ok (.getfield 154, 3) := by decide +kernel
theorem dX11_choose_244 : decode cX11_choose 244 = .ok (.iconst 1, 1) := by decide +kernel
theorem dX11_choose_245 : decode cX11_choose 245 = .ok (.iadd, 1) := by decide +kernel
theorem dX11_choose_246 : decode cX11_choose 246 = .ok (.putfield 154, 3) := by decide +kernel
theorem dX11_choose_249 : decode cX11_choose 249 = .ok (.iinc 2 (-1), 3) := by decide +kernel
theorem dX11_choose_252 : decode cX11_choose 252 = .ok (.goto (-243), 3) := by decide +kernel
theorem dX11_choose_255 : decode cX11_choose 255 = .ok (.return_, 1) := by decide +kernel
