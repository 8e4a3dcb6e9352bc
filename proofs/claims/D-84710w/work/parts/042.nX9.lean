/-! names: X9 (tools/names.py) -/
set_option maxRecDepth 100000
abbrev cX9_init : ByteArray := prog_37_method_1_code
def yX9_init : MethodName := ⟨RX9, "<init>", "()V"⟩
theorem q727 : (Jvm.Cond.code ({ cls := "CompiledHouse$Words", name := "<init>", desc := "()V" } : Jvm.MethodName) prog_37_method_1_code (1 : Nat) (Option.none : Option Jvm.ClassFile.FieldType)) ∈ lw_all := lw_g (lw_at lw_m3 51 rfl) rfl
def kX9_init : xK := (yX9_init, cX9_init, 1, none, [])
theorem me_X9_init : xMe kX9_init 0 := ⟨q727, q212, by decide, by decide, by decide +kernel⟩
theorem q726 : (Jvm.Cond.instanceMethod ({ cls := "CompiledHouse$Words", name := "<init>", desc := "()V" } : Jvm.MethodName)) ∈ lw_all := lw_g (lw_at lw_m3 50 rfl) rfl
theorem is_X9_init : Cond.instanceMethod kX9_init.y ∈ lw_all := q726
theorem q728 : (Jvm.Cond.methodLink "CompiledHouse$Words" (3 : Nat) ({ cls := "java/lang/Object", name := "<init>", desc := "()V" } : Jvm.MethodName)) ∈ lw_all := lw_g (lw_at lw_m3 52 rfl) rfl
theorem lk_X9_3 : xLk RX9 3 yJ18_init := Or.inl q728
theorem q729 : (Jvm.Cond.fieldLink "CompiledHouse$Words" (9 : Nat) "CompiledHouse$Words" "word" "[I") ∈ lw_all := lw_g (lw_at lw_m3 53 rfl) rfl
theorem f_X9_9_8 : xF RX9 9 8 0 := ⟨_, "CompiledHouse$Words", rfl, by decide, Or.inl q729, Or.inl rfl⟩
theorem q730 : (Jvm.Cond.fieldLink "CompiledHouse$Words" (15 : Nat) "CompiledHouse$Words" "to" "[I") ∈ lw_all := lw_g (lw_at lw_m3 54 rfl) rfl
theorem f_X9_15_8 : xF RX9 15 8 1 := ⟨_, "CompiledHouse$Words", rfl, by decide, Or.inl q730, Or.inl rfl⟩
theorem q731 : (Jvm.Cond.fieldLink "CompiledHouse$Words" (18 : Nat) "CompiledHouse$Words" "at" "[I") ∈ lw_all := lw_g (lw_at lw_m3 55 rfl) rfl
theorem f_X9_18_8 : xF RX9 18 8 2 := ⟨_, "CompiledHouse$Words", rfl, by decide, Or.inl q731, Or.inl rfl⟩
theorem q733 : (Jvm.Cond.fieldLink "CompiledHouse$Words" (21 : Nat) "CompiledHouse$Words" "isLong" "[Z") ∈ lw_all := lw_g (lw_at lw_m3 57 rfl) rfl
theorem f_X9_21_8 : xF RX9 21 8 3 := ⟨_, "CompiledHouse$Words", rfl, by decide, Or.inl q733, Or.inl rfl⟩
theorem q738 : (Jvm.Cond.fieldLink "CompiledHouse$Words" (25 : Nat) "CompiledHouse$Words" "mark" "[I") ∈ lw_all := lw_g (lw_at lw_m3 62 rfl) rfl
theorem f_X9_25_8 : xF RX9 25 8 6 := ⟨_, "CompiledHouse$Words", rfl, by decide, Or.inl q738, Or.inl rfl⟩
abbrev cX9_clear : ByteArray := prog_37_method_2_code
def yX9_clear : MethodName := ⟨RX9, "clear", "()V"⟩
theorem q2405 : (Jvm.Cond.code ({ cls := "CompiledHouse$Words", name := "clear", desc := "()V" } : Jvm.MethodName) prog_37_method_2_code (1 : Nat) (Option.none : Option Jvm.ClassFile.FieldType)) ∈ lw_all := lw_g (lw_at lw_m10 49 rfl) rfl
def kX9_clear : xK := (yX9_clear, cX9_clear, 1, none, [])
theorem me_X9_clear : xMe kX9_clear 0 := ⟨q2405, q212, by decide, by decide, by decide +kernel⟩
theorem q2403 : (Jvm.Cond.instanceMethod ({ cls := "CompiledHouse$Words", name := "clear", desc := "()V" } : Jvm.MethodName)) ∈ lw_all := lw_g (lw_at lw_m10 47 rfl) rfl
theorem is_X9_clear : Cond.instanceMethod kX9_clear.y ∈ lw_all := q2403
theorem se_X9_clear : Cond.selects RX9 kX9_clear.y kX9_clear.y ∈ lw_all := q2404
theorem q734 : (Jvm.Cond.fieldLink "CompiledHouse$Words" (28 : Nat) "CompiledHouse$Words" "many" "I") ∈ lw_all := lw_g (lw_at lw_m3 58 rfl) rfl
theorem f_X9_28_8 : xF RX9 28 8 4 := ⟨_, "CompiledHouse$Words", rfl, by decide, Or.inl q734, Or.inl rfl⟩
theorem q737 : (Jvm.Cond.fieldLink "CompiledHouse$Words" (32 : Nat) "CompiledHouse$Words" "marks" "I") ∈ lw_all := lw_g (lw_at lw_m3 61 rfl) rfl
theorem f_X9_32_8 : xF RX9 32 8 5 := ⟨_, "CompiledHouse$Words", rfl, by decide, Or.inl q737, Or.inl rfl⟩
abbrev cX9_newMark : ByteArray := prog_37_method_3_code
def yX9_newMark : MethodName := ⟨RX9, "newMark", "()I"⟩
theorem q2413 : (Jvm.Cond.code ({ cls := "CompiledHouse$Words", name := "newMark", desc := "()I" } : Jvm.MethodName) prog_37_method_3_code (1 : Nat) (Option.some Jvm.ClassFile.FieldType.int)) ∈ lw_all := lw_g (lw_at lw_m10 57 rfl) rfl
def kX9_newMark : xK := (yX9_newMark, cX9_newMark, 1, some .int, [])
theorem me_X9_newMark : xMe kX9_newMark 0 := ⟨q2413, q212, by decide, by decide, by decide +kernel⟩
theorem q2411 : (Jvm.Cond.instanceMethod ({ cls := "CompiledHouse$Words", name := "newMark", desc := "()I" } : Jvm.MethodName)) ∈ lw_all := lw_g (lw_at lw_m10 55 rfl) rfl
theorem is_X9_newMark : Cond.instanceMethod kX9_newMark.y ∈ lw_all := q2411
theorem se_X9_newMark : Cond.selects RX9 kX9_newMark.y kX9_newMark.y ∈ lw_all := q2412
theorem q2414 : (Jvm.Cond.methodLink "CompiledHouse$Words" (35 : Nat) ({ cls := "CompiledHouse$Words", name := "longer", desc := "([II)[I" } : Jvm.MethodName)) ∈ lw_all := lw_g (lw_at lw_m10 58 rfl) rfl
abbrev cX9_longer : ByteArray := prog_37_method_5_code
def yX9_longer : MethodName := ⟨RX9, "longer", "([II)[I"⟩
theorem q2416 : (Jvm.Cond.code ({ cls := "CompiledHouse$Words", name := "longer", desc := "([II)[I" } : Jvm.MethodName) prog_37_method_5_code (4 : Nat) (Option.some (Jvm.ClassFile.FieldType.array Jvm.ClassFile.FieldType.int))) ∈ lw_all := lw_g (lw_at lw_m10 60 rfl) rfl
def kX9_longer : xK := (yX9_longer, cX9_longer, 4, some (.array .int), [])
theorem me_X9_longer : xMe kX9_longer 2 := ⟨q2416, q212, by decide, by decide, by decide +kernel⟩
theorem q2415 : (Jvm.Cond.static ({ cls := "CompiledHouse$Words", name := "longer", desc := "([II)[I" } : Jvm.MethodName)) ∈ lw_all := lw_g (lw_at lw_m10 59 rfl) rfl
theorem st_X9_longer : Cond.static kX9_longer.y ∈ lw_all := q2415
theorem lk_X9_35 : xLk RX9 35 yX9_longer := Or.inl q2414
abbrev cX9_service : ByteArray := prog_37_method_19_code
def yX9_service : MethodName := ⟨RX9, "service", "(I)V"⟩
theorem q2420 : (Jvm.Cond.code ({ cls := "CompiledHouse$Words", name := "service", desc := "(I)V" } : Jvm.MethodName) prog_37_method_19_code (2 : Nat) (Option.none : Option Jvm.ClassFile.FieldType)) ∈ lw_all := lw_g (lw_at lw_m10 64 rfl) rfl
def kX9_service : xK := (yX9_service, cX9_service, 2, none, [])
theorem me_X9_service : xMe kX9_service 1 := ⟨q2420, q212, by decide, by decide, by decide +kernel⟩
theorem q2418 : (Jvm.Cond.instanceMethod ({ cls := "CompiledHouse$Words", name := "service", desc := "(I)V" } : Jvm.MethodName)) ∈ lw_all := lw_g (lw_at lw_m10 62 rfl) rfl
theorem is_X9_service : Cond.instanceMethod kX9_service.y ∈ lw_all := q2418
theorem se_X9_service : Cond.selects RX9 kX9_service.y kX9_service.y ∈ lw_all := q2419
theorem q2421 : (Jvm.Cond.methodLink "CompiledHouse$Words" (53 : Nat) ({ cls := "CompiledHouse$Words", name := "two", desc := "(IIII)V" } : Jvm.MethodName)) ∈ lw_all := lw_g (lw_at lw_m10 65 rfl) rfl
abbrev cX9_two : ByteArray := prog_37_method_13_code
def yX9_two : MethodName := ⟨RX9, "two", "(IIII)V"⟩
theorem q2424 : (Jvm.Cond.code ({ cls := "CompiledHouse$Words", name := "two", desc := "(IIII)V" } : Jvm.MethodName) prog_37_method_13_code (5 : Nat) (Option.none : Option Jvm.ClassFile.FieldType)) ∈ lw_all := lw_g (lw_at lw_m10 68 rfl) rfl
def kX9_two : xK := (yX9_two, cX9_two, 5, none, [])
theorem me_X9_two : xMe kX9_two 4 := ⟨q2424, q212, by decide, by decide, by decide +kernel⟩
theorem q2422 : (Jvm.Cond.instanceMethod ({ cls := "CompiledHouse$Words", name := "two", desc := "(IIII)V" } : Jvm.MethodName)) ∈ lw_all := lw_g (lw_at lw_m10 66 rfl) rfl
theorem is_X9_two : Cond.instanceMethod kX9_two.y ∈ lw_all := q2422
theorem se_X9_two : Cond.selects RX9 kX9_two.y kX9_two.y ∈ lw_all := q2423
theorem lk_X9_53 : xLk RX9 53 yX9_two := Or.inl q2421
theorem q2425 : (Jvm.Cond.methodLink "CompiledHouse$Words" (50 : Nat) ({ cls := "CompiledHouse$Words", name := "add", desc := "(I)V" } : Jvm.MethodName)) ∈ lw_all := lw_g (lw_at lw_m10 69 rfl) rfl
abbrev cX9_add : ByteArray := prog_37_method_6_code
def yX9_add : MethodName := ⟨RX9, "add", "(I)V"⟩
theorem q2428 : (Jvm.Cond.code ({ cls := "CompiledHouse$Words", name := "add", desc := "(I)V" } : Jvm.MethodName) prog_37_method_6_code (2 : Nat) (Option.none : Option Jvm.ClassFile.FieldType)) ∈ lw_all := lw_g (lw_at lw_m10 72 rfl) rfl
def kX9_add : xK := (yX9_add, cX9_add, 2, none, [])
theorem me_X9_add : xMe kX9_add 1 := ⟨q2428, q212, by decide, by decide, by decide +kernel⟩
theorem q2426 : (Jvm.Cond.instanceMethod ({ cls := "CompiledHouse$Words", name := "add", desc := "(I)V" } : Jvm.MethodName)) ∈ lw_all := lw_g (lw_at lw_m10 70 rfl) rfl
theorem is_X9_add : Cond.instanceMethod kX9_add.y ∈ lw_all := q2426
theorem se_X9_add : Cond.selects RX9 kX9_add.y kX9_add.y ∈ lw_all := q2427
theorem lk_X9_50 : xLk RX9 50 yX9_add := Or.inl q2425
theorem q2429 : (Jvm.Cond.methodLink "CompiledHouse$Words" (39 : Nat) ({ cls := "CompiledHouse$Words", name := "add", desc := "(II)V" } : Jvm.MethodName)) ∈ lw_all := lw_g (lw_at lw_m10 73 rfl) rfl
abbrev cX9_add_2 : ByteArray := prog_37_method_7_code
def yX9_add_2 : MethodName := ⟨RX9, "add", "(II)V"⟩
theorem q2432 : (Jvm.Cond.code ({ cls := "CompiledHouse$Words", name := "add", desc := "(II)V" } : Jvm.MethodName) prog_37_method_7_code (3 : Nat) (Option.none : Option Jvm.ClassFile.FieldType)) ∈ lw_all := lw_g (lw_at lw_m10 76 rfl) rfl
def kX9_add_2 : xK := (yX9_add_2, cX9_add_2, 3, none, [])
theorem me_X9_add_2 : xMe kX9_add_2 2 := ⟨q2432, q212, by decide, by decide, by decide +kernel⟩
theorem q2430 : (Jvm.Cond.instanceMethod ({ cls := "CompiledHouse$Words", name := "add", desc := "(II)V" } : Jvm.MethodName)) ∈ lw_all := lw_g (lw_at lw_m10 74 rfl) rfl
theorem is_X9_add_2 : Cond.instanceMethod kX9_add_2.y ∈ lw_all := q2430
theorem se_X9_add_2 : Cond.selects RX9 kX9_add_2.y kX9_add_2.y ∈ lw_all := q2431
theorem lk_X9_39 : xLk RX9 39 yX9_add_2 := Or.inl q2429
abbrev cX9_number : ByteArray := prog_37_method_18_code
def yX9_number : MethodName := ⟨RX9, "number", "(II)V"⟩
theorem q2732 : (Jvm.Cond.code ({ cls := "CompiledHouse$Words", name := "number", desc := "(II)V" } : Jvm.MethodName) prog_37_method_18_code (4 : Nat) (Option.none : Option Jvm.ClassFile.FieldType)) ∈ lw_all := lw_g (lw_at lw_m11 136 rfl) rfl
def kX9_number : xK := (yX9_number, cX9_number, 4, none, [])
theorem me_X9_number : xMe kX9_number 2 := ⟨q2732, q212, by decide, by decide, by decide +kernel⟩
theorem q2730 : (Jvm.Cond.instanceMethod ({ cls := "CompiledHouse$Words", name := "number", desc := "(II)V" } : Jvm.MethodName)) ∈ lw_all := lw_g (lw_at lw_m11 134 rfl) rfl
theorem is_X9_number : Cond.instanceMethod kX9_number.y ∈ lw_all := q2730
theorem se_X9_number : Cond.selects RX9 kX9_number.y kX9_number.y ∈ lw_all := q2731
abbrev cX9_three : ByteArray := prog_37_method_12_code
def yX9_three : MethodName := ⟨RX9, "three", "(IIIII)V"⟩
theorem q2736 : (Jvm.Cond.code ({ cls := "CompiledHouse$Words", name := "three", desc := "(IIIII)V" } : Jvm.MethodName) prog_37_method_12_code (6 : Nat) (Option.none : Option Jvm.ClassFile.FieldType)) ∈ lw_all := lw_g (lw_at lw_m11 140 rfl) rfl
def kX9_three : xK := (yX9_three, cX9_three, 6, none, [])
theorem me_X9_three : xMe kX9_three 5 := ⟨q2736, q212, by decide, by decide, by decide +kernel⟩
theorem q2734 : (Jvm.Cond.instanceMethod ({ cls := "CompiledHouse$Words", name := "three", desc := "(IIIII)V" } : Jvm.MethodName)) ∈ lw_all := lw_g (lw_at lw_m11 138 rfl) rfl
theorem is_X9_three : Cond.instanceMethod kX9_three.y ∈ lw_all := q2734
theorem se_X9_three : Cond.selects RX9 kX9_three.y kX9_three.y ∈ lw_all := q2735
abbrev cX9_store : ByteArray := prog_37_method_16_code
def yX9_store : MethodName := ⟨RX9, "store", "(IIII)V"⟩
theorem q2752 : (Jvm.Cond.code ({ cls := "CompiledHouse$Words", name := "store", desc := "(IIII)V" } : Jvm.MethodName) prog_37_method_16_code (5 : Nat) (Option.none : Option Jvm.ClassFile.FieldType)) ∈ lw_all := lw_g (lw_at lw_m11 156 rfl) rfl
def kX9_store : xK := (yX9_store, cX9_store, 5, none, [])
theorem me_X9_store : xMe kX9_store 4 := ⟨q2752, q212, by decide, by decide, by decide +kernel⟩
theorem q2750 : (Jvm.Cond.instanceMethod ({ cls := "CompiledHouse$Words", name := "store", desc := "(IIII)V" } : Jvm.MethodName)) ∈ lw_all := lw_g (lw_at lw_m11 154 rfl) rfl
theorem is_X9_store : Cond.instanceMethod kX9_store.y ∈ lw_all := q2750
theorem se_X9_store : Cond.selects RX9 kX9_store.y kX9_store.y ∈ lw_all := q2751
abbrev cX9_load : ByteArray := prog_37_method_15_code
def yX9_load : MethodName := ⟨RX9, "load", "(IIII)V"⟩
theorem q2760 : (Jvm.Cond.code ({ cls := "CompiledHouse$Words", name := "load", desc := "(IIII)V" } : Jvm.MethodName) prog_37_method_15_code (5 : Nat) (Option.none : Option Jvm.ClassFile.FieldType)) ∈ lw_all := lw_g (lw_at lw_m11 164 rfl) rfl
def kX9_load : xK := (yX9_load, cX9_load, 5, none, [])
theorem me_X9_load : xMe kX9_load 4 := ⟨q2760, q212, by decide, by decide, by decide +kernel⟩
theorem q2758 : (Jvm.Cond.instanceMethod ({ cls := "CompiledHouse$Words", name := "load", desc := "(IIII)V" } : Jvm.MethodName)) ∈ lw_all := lw_g (lw_at lw_m11 162 rfl) rfl
theorem is_X9_load : Cond.instanceMethod kX9_load.y ∈ lw_all := q2758
theorem se_X9_load : Cond.selects RX9 kX9_load.y kX9_load.y ∈ lw_all := q2759
abbrev cX9_put : ByteArray := prog_37_method_4_code
def yX9_put : MethodName := ⟨RX9, "put", "(I)V"⟩
theorem q2765 : (Jvm.Cond.code ({ cls := "CompiledHouse$Words", name := "put", desc := "(I)V" } : Jvm.MethodName) prog_37_method_4_code (2 : Nat) (Option.none : Option Jvm.ClassFile.FieldType)) ∈ lw_all := lw_g (lw_at lw_m11 169 rfl) rfl
def kX9_put : xK := (yX9_put, cX9_put, 2, none, [])
theorem me_X9_put : xMe kX9_put 1 := ⟨q2765, q212, by decide, by decide, by decide +kernel⟩
theorem q2763 : (Jvm.Cond.instanceMethod ({ cls := "CompiledHouse$Words", name := "put", desc := "(I)V" } : Jvm.MethodName)) ∈ lw_all := lw_g (lw_at lw_m11 167 rfl) rfl
theorem is_X9_put : Cond.instanceMethod kX9_put.y ∈ lw_all := q2763
theorem se_X9_put : Cond.selects RX9 kX9_put.y kX9_put.y ∈ lw_all := q2764
abbrev cX9_move : ByteArray := prog_37_method_14_code
def yX9_move : MethodName := ⟨RX9, "move", "(II)V"⟩
theorem q2803 : (Jvm.Cond.code ({ cls := "CompiledHouse$Words", name := "move", desc := "(II)V" } : Jvm.MethodName) prog_37_method_14_code (3 : Nat) (Option.none : Option Jvm.ClassFile.FieldType)) ∈ lw_all := lw_g (lw_at lw_m11 207 rfl) rfl
def kX9_move : xK := (yX9_move, cX9_move, 3, none, [])
theorem me_X9_move : xMe kX9_move 2 := ⟨q2803, q212, by decide, by decide, by decide +kernel⟩
theorem q2801 : (Jvm.Cond.instanceMethod ({ cls := "CompiledHouse$Words", name := "move", desc := "(II)V" } : Jvm.MethodName)) ∈ lw_all := lw_g (lw_at lw_m11 205 rfl) rfl
theorem is_X9_move : Cond.instanceMethod kX9_move.y ∈ lw_all := q2801
theorem se_X9_move : Cond.selects RX9 kX9_move.y kX9_move.y ∈ lw_all := q2802
abbrev cX9_branchWord : ByteArray := prog_37_method_17_code
def yX9_branchWord : MethodName := ⟨RX9, "branchWord", "(III)I"⟩
theorem q2819 : (Jvm.Cond.code ({ cls := "CompiledHouse$Words", name := "branchWord", desc := "(III)I" } : Jvm.MethodName) prog_37_method_17_code (3 : Nat) (Option.some Jvm.ClassFile.FieldType.int)) ∈ lw_all := lw_g (lw_at lw_m11 223 rfl) rfl
def kX9_branchWord : xK := (yX9_branchWord, cX9_branchWord, 3, some .int, [])
theorem me_X9_branchWord : xMe kX9_branchWord 3 := ⟨q2819, q212, by decide, by decide, by decide +kernel⟩
theorem q2818 : (Jvm.Cond.static ({ cls := "CompiledHouse$Words", name := "branchWord", desc := "(III)I" } : Jvm.MethodName)) ∈ lw_all := lw_g (lw_at lw_m11 222 rfl) rfl
theorem st_X9_branchWord : Cond.static kX9_branchWord.y ∈ lw_all := q2818
abbrev cX9_over : ByteArray := prog_37_method_8_code
def yX9_over : MethodName := ⟨RX9, "over", "(I)V"⟩
theorem q2825 : (Jvm.Cond.code ({ cls := "CompiledHouse$Words", name := "over", desc := "(I)V" } : Jvm.MethodName) prog_37_method_8_code (2 : Nat) (Option.none : Option Jvm.ClassFile.FieldType)) ∈ lw_all := lw_g (lw_at lw_m11 229 rfl) rfl
def kX9_over : xK := (yX9_over, cX9_over, 2, none, [])
theorem me_X9_over : xMe kX9_over 1 := ⟨q2825, q212, by decide, by decide, by decide +kernel⟩
theorem q2823 : (Jvm.Cond.instanceMethod ({ cls := "CompiledHouse$Words", name := "over", desc := "(I)V" } : Jvm.MethodName)) ∈ lw_all := lw_g (lw_at lw_m11 227 rfl) rfl
theorem is_X9_over : Cond.instanceMethod kX9_over.y ∈ lw_all := q2823
theorem se_X9_over : Cond.selects RX9 kX9_over.y kX9_over.y ∈ lw_all := q2824
theorem q2826 : (Jvm.Cond.methodLink "CompiledHouse$Words" (43 : Nat) ({ cls := "CompiledHouse$Words", name := "branch", desc := "(I)I" } : Jvm.MethodName)) ∈ lw_all := lw_g (lw_at lw_m11 230 rfl) rfl
abbrev cX9_branch : ByteArray := prog_37_method_9_code
def yX9_branch : MethodName := ⟨RX9, "branch", "(I)I"⟩
theorem q2828 : (Jvm.Cond.code ({ cls := "CompiledHouse$Words", name := "branch", desc := "(I)I" } : Jvm.MethodName) prog_37_method_9_code (1 : Nat) (Option.some Jvm.ClassFile.FieldType.int)) ∈ lw_all := lw_g (lw_at lw_m11 232 rfl) rfl
def kX9_branch : xK := (yX9_branch, cX9_branch, 1, some .int, [])
theorem me_X9_branch : xMe kX9_branch 1 := ⟨q2828, q212, by decide, by decide, by decide +kernel⟩
theorem q2827 : (Jvm.Cond.static ({ cls := "CompiledHouse$Words", name := "branch", desc := "(I)I" } : Jvm.MethodName)) ∈ lw_all := lw_g (lw_at lw_m11 231 rfl) rfl
theorem st_X9_branch : Cond.static kX9_branch.y ∈ lw_all := q2827
theorem lk_X9_43 : xLk RX9 43 yX9_branch := Or.inl q2826
abbrev cX9_lay : ByteArray := prog_37_method_11_code
def yX9_lay : MethodName := ⟨RX9, "lay", "([II)I"⟩
theorem q2853 : (Jvm.Cond.code ({ cls := "CompiledHouse$Words", name := "lay", desc := "([II)I" } : Jvm.MethodName) prog_37_method_11_code (7 : Nat) (Option.some Jvm.ClassFile.FieldType.int)) ∈ lw_all := lw_g (lw_at lw_m12 17 rfl) rfl
def kX9_lay : xK := (yX9_lay, cX9_lay, 7, some .int, [])
theorem me_X9_lay : xMe kX9_lay 2 := ⟨q2853, q212, by decide, by decide, by decide +kernel⟩
theorem q2851 : (Jvm.Cond.instanceMethod ({ cls := "CompiledHouse$Words", name := "lay", desc := "([II)I" } : Jvm.MethodName)) ∈ lw_all := lw_g (lw_at lw_m12 15 rfl) rfl
theorem is_X9_lay : Cond.instanceMethod kX9_lay.y ∈ lw_all := q2851
theorem se_X9_lay : Cond.selects RX9 kX9_lay.y kX9_lay.y ∈ lw_all := q2852
theorem q2854 : (Jvm.Cond.methodLink "CompiledHouse$Words" (47 : Nat) ({ cls := "CompiledHouse$Words", name := "jump", desc := "(I)I" } : Jvm.MethodName)) ∈ lw_all := lw_g (lw_at lw_m12 18 rfl) rfl
abbrev cX9_jump : ByteArray := prog_37_method_10_code
def yX9_jump : MethodName := ⟨RX9, "jump", "(I)I"⟩
theorem q2856 : (Jvm.Cond.code ({ cls := "CompiledHouse$Words", name := "jump", desc := "(I)I" } : Jvm.MethodName) prog_37_method_10_code (1 : Nat) (Option.some Jvm.ClassFile.FieldType.int)) ∈ lw_all := lw_g (lw_at lw_m12 20 rfl) rfl
def kX9_jump : xK := (yX9_jump, cX9_jump, 1, some .int, [])
theorem me_X9_jump : xMe kX9_jump 1 := ⟨q2856, q212, by decide, by decide, by decide +kernel⟩
theorem q2855 : (Jvm.Cond.static ({ cls := "CompiledHouse$Words", name := "jump", desc := "(I)I" } : Jvm.MethodName)) ∈ lw_all := lw_g (lw_at lw_m12 19 rfl) rfl
theorem st_X9_jump : Cond.static kX9_jump.y ∈ lw_all := q2855
theorem lk_X9_47 : xLk RX9 47 yX9_jump := Or.inl q2854
theorem dX9_init_0 : decode cX9_init 0 = .ok (.aload_n 0, 1) := by decide +kernel
theorem dX9_init_1 : decode cX9_init 1 = .ok (.invokespecial 3, 3) := by decide +kernel
theorem dX9_init_4 : decode cX9_init 4 = .ok (.aload_n 0, 1) := by decide +kernel
theorem dX9_init_5 : decode cX9_init 5 = .ok (.sipush 1024, 3) := by decide +kernel
theorem dX9_init_8 : decode cX9_init 8 = .ok (.newarray .int, 2) := by decide +kernel
theorem dX9_init_10 : decode cX9_init 10 = .ok (.putfield 9, 3) := by decide +kernel
theorem dX9_init_13 : decode cX9_init 13 = .ok (.aload_n 0, 1) := by decide +kernel
theorem dX9_init_14 : decode cX9_init 14 = .ok (.sipush 1024, 3) := by decide +kernel
theorem dX9_init_17 : decode cX9_init 17 = .ok (.newarray .int, 2) := by decide +kernel
theorem dX9_init_19 : decode cX9_init 19 = .ok (.putfield 15, 3) := by decide +kernel
theorem dX9_init_22 : decode cX9_init 22 = .ok (.aload_n 0, 1) := by decide +kernel
theorem dX9_init_23 : decode cX9_init 23 = .ok (.sipush 1025, 3) := by decide +kernel
theorem dX9_init_26 : decode cX9_init 26 = .ok (.newarray .int, 2) := by decide +kernel
theorem dX9_init_28 : decode cX9_init 28 = .ok (.putfield 18, 3) := by decide +kernel
theorem dX9_init_31 : decode cX9_init 31 = .ok (.aload_n 0, 1) := by decide +kernel
theorem dX9_init_32 : decode cX9_init 32 = .ok (.sipush 1024, 3) := by decide +kernel
theorem dX9_init_35 : decode cX9_init 35 = .ok (.newarray .boolean, 2) := by decide +kernel
theorem dX9_init_37 : decode cX9_init 37 = .ok (.putfield 21, 3) := by decide +kernel
theorem dX9_init_40 : decode cX9_init 40 = .ok (.aload_n 0, 1) := by decide +kernel
theorem dX9_init_41 : decode cX9_init 41 = .ok (.sipush 256, 3) := by decide +kernel
theorem dX9_init_44 : decode cX9_init 44 = .ok (.newarray .int, 2) := by decide +kernel
theorem dX9_init_46 : decode cX9_init 46 = .ok (.putfield 25, 3) := by decide +kernel
theorem dX9_init_49 : decode cX9_init 49 = .ok (.return_, 1) := by decide +kernel
theorem dX9_clear_0 : decode cX9_clear 0 = .ok (.aload_n 0, 1) := by decide +kernel
theorem dX9_clear_1 : decode cX9_clear 1 = .ok (.iconst 0, 1) := by decide +kernel
theorem dX9_clear_2 : decode cX9_clear 2 = .ok (.putfield 28, 3) := by decide +kernel
theorem dX9_clear_5 : decode cX9_clear 5 = .ok (.aload_n 0, 1) := by decide +kernel
theorem dX9_clear_6 : decode cX9_clear 6 = .ok (.iconst 0, 1) := by decide +kernel
theorem dX9_clear_7 : decode cX9_clear 7 = .ok (.putfield 32, 3) := by decide +kernel
theorem dX9_clear_10 : decode cX9_clear 10 = .ok (.return_, 1) := by decide +kernel
theorem dX9_newMark_0 : decode cX9_newMark 0 = .ok (.aload_n 0, 1) := by decide +kernel
theorem dX9_newMark_1 : decode cX9_newMark 1 = .ok (.getfield 32, 3) := by decide +kernel
theorem dX9_newMark_4 : decode cX9_newMark 4 = .ok (.aload_n 0, 1) := by decide +kernel
theorem dX9_newMark_5 : decode cX9_newMark 5 = .ok (.getfield 25, 3) := by decide +kernel
theorem dX9_newMark_8 : decode cX9_newMark 8 = .ok (.arraylength, 1) := by decide +kernel
theorem dX9_newMark_9 : decode cX9_newMark 9 = .ok (.if_icmp .ne 20, 3) := by decide +kernel
theorem dX9_newMark_12 : decode cX9_newMark 12 = .ok (.aload_n 0, 1) := by decide +kernel
theorem dX9_newMark_13 : decode cX9_newMark 13 = .ok (.aload_n 0, 1) := by decide +kernel
theorem dX9_newMark_14 : decode cX9_newMark 14 = .ok (.getfield 25, 3) := by decide +kernel
theorem dX9_newMark_17 : decode cX9_newMark 17 = .ok (.iconst 2, 1) := by decide +kernel
theorem dX9_newMark_18 : decode cX9_newMark 18 = .ok (.aload_n 0, 1) := by decide +kernel
theorem dX9_newMark_19 : decode cX9_newMark 19 = .ok (.getfield 32, 3) := by decide +kernel
theorem dX9_newMark_22 : decode cX9_newMark 22 = .ok (.imul, 1) := by decide +kernel
theorem dX9_newMark_23 : decode cX9_newMark 23 = .ok (.invokestatic 35, 3) := by decide +kernel
theorem dX9_newMark_26 : decode cX9_newMark 26 = .ok (.putfield 25, 3) := by decide +kernel
theorem dX9_newMark_29 : decode cX9_newMark 29 = .ok (.aload_n 0, 1) := by decide +kernel
theorem dX9_newMark_30 : decode cX9_newMark 30 = .ok (.dup, 1) := by decide +kernel
theorem dX9_newMark_31 : decode cX9_newMark 31 = .ok (.getfield 32, 3) := by decide +kernel
theorem dX9_newMark_34 : decode cX9_newMark 34 = .ok (.iconst 1, 1) := by decide +kernel
theorem dX9_newMark_35 : decode cX9_newMark 35 = .ok (.iadd, 1) := by decide +kernel
theorem dX9_newMark_36 : decode cX9_newMark 36 = .ok (.putfield 32, 3) := by decide +kernel
theorem dX9_newMark_39 : decode cX9_newMark 39 = .ok (.aload_n 0, 1) := by decide +kernel
theorem dX9_newMark_40 : decode cX9_newMark 40 = .ok (.getfield 32, 3) := by decide +kernel
theorem dX9_newMark_43 : decode cX9_newMark 43 = .ok (.iconst 1, 1) := by decide +kernel
theorem dX9_newMark_44 : decode cX9_newMark 44 = .ok (.isub, 1) := by decide +kernel
theorem dX9_newMark_45 : decode cX9_newMark 45 = .ok (.ireturn, 1) := by decide +kernel
theorem dX9_longer_0 : decode cX9_longer 0 = .ok (.iload_n 1, 1) := by decide +kernel
theorem dX9_longer_1 : decode cX9_longer 1 = .ok (.newarray .int, 2) := by decide +kernel
theorem dX9_longer_3 : decode cX9_longer 3 = .ok (.astore_n 2, 1) := by decide +kernel
theorem dX9_longer_4 : decode cX9_longer 4 = .ok (.iconst 0, 1) := by decide +kernel
theorem dX9_longer_5 : decode cX9_longer 5 = .ok (.istore_n 3, 1) := by decide +kernel
theorem dX9_longer_6 : decode cX9_longer 6 = .ok (.iload_n 3, 1) := by decide +kernel
theorem dX9_longer_7 : decode cX9_longer 7 = .ok (.aload_n 0, 1) := by decide +kernel
theorem dX9_longer_8 : decode cX9_longer 8 = .ok (.arraylength, 1) := by decide +kernel
theorem dX9_longer_9 : decode cX9_longer 9 = .ok (.if_icmp .ge 15, 3) := by decide +kernel
theorem dX9_longer_12 : decode cX9_longer 12 = .ok (.aload_n 2, 1) := by decide +kernel
theorem dX9_longer_13 : decode cX9_longer 13 = .ok (.iload_n 3, 1) := by decide +kernel
theorem dX9_longer_14 : decode cX9_longer 14 = .ok (.aload_n 0, 1) := by decide +kernel
theorem dX9_longer_15 : decode cX9_longer 15 = .ok (.iload_n 3, 1) := by decide +kernel
theorem dX9_longer_16 : decode cX9_longer 16 = .ok (.iaload, 1) := by decide +kernel
theorem dX9_longer_17 : decode cX9_longer 17 = .ok (.iastore, 1) := by decide +kernel
theorem dX9_longer_18 : decode cX9_longer 18 = .ok (.iinc 3 1, 3) := by decide +kernel
theorem dX9_longer_21 : decode cX9_longer 21 = .ok (.goto (-15), 3) := by decide +kernel
theorem dX9_longer_24 : decode cX9_longer 24 = .ok (.aload_n 2, 1) := by decide +kernel
theorem dX9_longer_25 : decode cX9_longer 25 = .ok (.areturn, 1) := by decide +kernel
theorem dX9_service_0 : decode cX9_service 0 = .ok (.aload_n 0, 1) := by decide +kernel
theorem dX9_service_1 : decode cX9_service 1 = .ok (.iconst 0, 1) := by decide +kernel
theorem dX9_service_2 : decode cX9_service 2 = .ok (.bipush 17, 2) := by decide +kernel
theorem dX9_service_4 : decode cX9_service 4 = .ok (.iconst 0, 1) := by decide +kernel
theorem dX9_service_5 : decode cX9_service 5 = .ok (.iload_n 1, 1) := by decide +kernel
theorem dX9_service_6 : decode cX9_service 6 = .ok (.invokevirtual 53, 3) := by decide +kernel
theorem dX9_service_9 : decode cX9_service 9 = .ok (.aload_n 0, 1) := by decide +kernel
theorem dX9_service_10 : decode cX9_service 10 = .ok (.bipush 115, 2) := by decide +kernel
theorem dX9_service_12 : decode cX9_service 12 = .ok (.invokevirtual 50, 3) := by decide +kernel
theorem dX9_service_15 : decode cX9_service 15 = .ok (.return_, 1) := by decide +kernel
theorem dX9_two_0 : decode cX9_two 0 = .ok (.aload_n 0, 1) := by decide +kernel
theorem dX9_two_1 : decode cX9_two 1 = .ok (.iload 4, 2) := by decide +kernel
theorem dX9_two_3 : decode cX9_two 3 = .ok (.bipush 20, 2) := by decide +kernel
theorem dX9_two_5 : decode cX9_two 5 = .ok (.ishl, 1) := by decide +kernel
theorem dX9_two_6 : decode cX9_two 6 = .ok (.iload_n 3, 1) := by decide +kernel
theorem dX9_two_7 : decode cX9_two 7 = .ok (.bipush 15, 2) := by decide +kernel
theorem dX9_two_9 : decode cX9_two 9 = .ok (.ishl, 1) := by decide +kernel
theorem dX9_two_10 : decode cX9_two 10 = .ok (.ior, 1) := by decide +kernel
theorem dX9_two_11 : decode cX9_two 11 = .ok (.iload_n 1, 1) := by decide +kernel
theorem dX9_two_12 : decode cX9_two 12 = .ok (.bipush 12, 2) := by decide +kernel
theorem dX9_two_14 : decode cX9_two 14 = .ok (.ishl, 1) := by decide +kernel
theorem dX9_two_15 : decode cX9_two 15 = .ok (.ior, 1) := by decide +kernel
theorem dX9_two_16 : decode cX9_two 16 = .ok (.iload_n 2, 1) := by decide +kernel
theorem dX9_two_17 : decode cX9_two 17 = .ok (.bipush 7, 2) := by decide +kernel
theorem dX9_two_19 : decode cX9_two 19 = .ok (.ishl, 1) := by decide +kernel
theorem dX9_two_20 : decode cX9_two 20 = .ok (.ior, 1) := by decide +kernel
theorem dX9_two_21 : decode cX9_two 21 = .ok (.bipush 19, 2) := by decide +kernel
theorem dX9_two_23 : decode cX9_two 23 = .ok (.ior, 1) := by decide +kernel
theorem dX9_two_24 : decode cX9_two 24 = .ok (.invokevirtual 50, 3) := by decide +kernel
theorem dX9_two_27 : decode cX9_two 27 = .ok (.return_, 1) := by decide +kernel
theorem dX9_add_0 : decode cX9_add 0 = .ok (.aload_n 0, 1) := by decide +kernel
theorem dX9_add_1 : decode cX9_add 1 = .ok (.iload_n 1, 1) := by decide +kernel
theorem dX9_add_2 : decode cX9_add 2 = .ok (.iconst (-1), 1) := by decide +kernel
theorem dX9_add_3 : decode cX9_add 3 = .ok (.invokevirtual 39, 3) := by decide +kernel
theorem dX9_add_6 : decode cX9_add 6 = .ok (.return_, 1) := by decide +kernel
theorem dX9_add_2_0 : decode cX9_add_2 0 = .ok (.aload_n 0, 1) := by decide +kernel
theorem dX9_add_2_1 : decode cX9_add_2 1 = .ok (.getfield 28, 3) := by decide +kernel
theorem dX9_add_2_4 : decode cX9_add_2 4 = .ok (.aload_n 0, 1) := by decide +kernel
theorem dX9_add_2_5 : decode cX9_add_2 5 = .ok (.getfield 9, 3) := by decide +kernel
theorem dX9_add_2_8 : decode cX9_add_2 8 = .ok (.arraylength, 1) := by decide +kernel
theorem dX9_add_2_9 : decode cX9_add_2 9 = .ok (.if_icmp .ne 68, 3) := by decide +kernel
theorem dX9_add_2_12 : decode cX9_add_2 12 = .ok (.aload_n 0, 1) := by decide +kernel
theorem dX9_add_2_13 : decode cX9_add_2 13 = .ok (.aload_n 0, 1) := by decide +kernel
theorem dX9_add_2_14 : decode cX9_add_2 14 = .ok (.getfield 9, 3) := by decide +kernel
theorem dX9_add_2_17 : decode cX9_add_2 17 = .ok (.iconst 2, 1) := by decide +kernel
theorem dX9_add_2_18 : decode cX9_add_2 18 = .ok (.aload_n 0, 1) := by decide +kernel
theorem dX9_add_2_19 : decode cX9_add_2 19 = .ok (.getfield 28, 3) := by decide +kernel
theorem dX9_add_2_22 : decode cX9_add_2 22 = .ok (.imul, 1) := by decide +kernel
theorem dX9_add_2_23 : decode cX9_add_2 23 = .ok (.invokestatic 35, 3) := by decide +kernel
theorem dX9_add_2_26 : decode cX9_add_2 26 = .ok (.putfield 9, 3) := by decide +kernel
theorem dX9_add_2_29 : decode cX9_add_2 29 = .ok (.aload_n 0, 1) := by decide +kernel
theorem dX9_add_2_30 : decode cX9_add_2 30 = .ok (.aload_n 0, 1) := by decide +kernel
theorem dX9_add_2_31 : decode cX9_add_2 31 = .ok (.getfield 15, 3) := by decide +kernel
theorem dX9_add_2_34 : decode cX9_add_2 34 = .ok (.iconst 2, 1) := by decide +kernel
theorem dX9_add_2_35 : decode cX9_add_2 35 = .ok (.aload_n 0, 1) := by decide +kernel
theorem dX9_add_2_36 : decode cX9_add_2 36 = .ok (.getfield 28, 3) := by decide +kernel
theorem dX9_add_2_39 : decode cX9_add_2 39 = .ok (.imul, 1) := by decide +kernel
theorem dX9_add_2_40 : decode cX9_add_2 40 = .ok (.invokestatic 35, 3) := by decide +kernel
theorem dX9_add_2_43 : decode cX9_add_2 43 = .ok (.putfield 15, 3) := by decide +kernel
theorem dX9_add_2_46 : decode cX9_add_2 46 = .ok (.aload_n 0, 1) := by decide +kernel
theorem dX9_add_2_47 : decode cX9_add_2 47 = .ok (.aload_n 0, 1) := by decide +kernel
theorem dX9_add_2_48 : decode cX9_add_2 48 = .ok (.getfield 18, 3) := by decide +kernel
theorem dX9_add_2_51 : decode cX9_add_2 51 = .ok (.iconst 2, 1) := by decide +kernel
theorem dX9_add_2_52 : decode cX9_add_2 52 = .ok (.aload_n 0, 1) := by decide +kernel
theorem dX9_add_2_53 : decode cX9_add_2 53 = .ok (.getfield 28, 3) := by decide +kernel
theorem dX9_add_2_56 : decode cX9_add_2 56 = .ok (.imul, 1) := by decide +kernel
theorem dX9_add_2_57 : decode cX9_add_2 57 = .ok (.iconst 1, 1) := by decide +kernel
theorem dX9_add_2_58 : decode cX9_add_2 58 = .ok (.iadd, 1) := by decide +kernel
theorem dX9_add_2_59 : decode cX9_add_2 59 = .ok (.invokestatic 35, 3) := by decide +kernel
theorem dX9_add_2_62 : decode cX9_add_2 62 = .ok (.putfield 18, 3) := by decide +kernel
theorem dX9_add_2_65 : decode cX9_add_2 65 = .ok (.aload_n 0, 1) := by decide +kernel
theorem dX9_add_2_66 : decode cX9_add_2 66 = .ok (.iconst 2, 1) := by decide +kernel
theorem dX9_add_2_67 : decode cX9_add_2 67 = .ok (.aload_n 0, 1) := by decide +kernel
theorem dX9_add_2_68 : decode cX9_add_2 68 = .ok (.getfield 28, 3) := by decide +kernel
theorem dX9_add_2_71 : decode cX9_add_2 71 = .ok (.imul, 1) := by decide +kernel
theorem dX9_add_2_72 : decode cX9_add_2 72 = .ok (.newarray .boolean, 2) := by decide +kernel
theorem dX9_add_2_74 : decode cX9_add_2 74 = .ok (.putfield 21, 3) := by decide +kernel
theorem dX9_add_2_77 : decode cX9_add_2 77 = .ok (.aload_n 0, 1) := by decide +kernel
theorem dX9_add_2_78 : decode cX9_add_2 78 = .ok (.getfield 9, 3) := by decide +kernel
theorem dX9_add_2_81 : decode cX9_add_2 81 = .ok (.aload_n 0, 1) := by decide +kernel
theorem dX9_add_2_82 : decode cX9_add_2 82 = .ok (.getfield 28, 3) := by decide +kernel
theorem dX9_add_2_85 : decode cX9_add_2 85 = .ok (.iload_n 1, 1) := by decide +kernel
theorem dX9_add_2_86 : decode cX9_add_2 86 = .ok (.iastore, 1) := by decide +kernel
theorem dX9_add_2_87 : decode cX9_add_2 87 = .ok (.aload_n 0, 1) := by decide +kernel
theorem dX9_add_2_88 : decode cX9_add_2 88 = .ok (.getfield 15, 3) := by decide +kernel
theorem dX9_add_2_91 : decode cX9_add_2 91 = .ok (.aload_n 0, 1) := by decide +kernel
theorem dX9_add_2_92 : decode cX9_add_2 92 = .ok (.getfield 28, 3) := by decide +kernel
theorem dX9_add_2_95 : decode cX9_add_2 95 = .ok (.iload_n 2, 1) := by decide +kernel
theorem dX9_add_2_96 : decode cX9_add_2 96 = .ok (.iastore, 1) := by decide +kernel
theorem dX9_add_2_97 : decode cX9_add_2 97 = .ok (.aload_n 0, 1) := by decide +kernel
theorem dX9_add_2_98 : decode cX9_add_2 98 = .ok (.dup, 1) := by decide +kernel
theorem dX9_add_2_99 : decode cX9_add_2 99 = .ok (.getfield 28, 3) := by decide +kernel
theorem dX9_add_2_102 : decode cX9_add_2 102 = .ok (.iconst 1, 1) := by decide +kernel
theorem dX9_add_2_103 : decode cX9_add_2 103 = .ok (.iadd, 1) := by decide +kernel
theorem dX9_add_2_104 : decode cX9_add_2 104 = .ok (.putfield 28, 3) := by decide +kernel
theorem dX9_add_2_107 : decode cX9_add_2 107 = .ok (.return_, 1) := by decide +kernel
theorem dX9_number_0 : decode cX9_number 0 = .ok (.iload_n 2, 1) := by decide +kernel
theorem dX9_number_1 : decode cX9_number 1 = .ok (.bipush 20, 2) := by decide +kernel
theorem dX9_number_3 : decode cX9_number 3 = .ok (.ishl, 1) := by decide +kernel
theorem dX9_number_4 : decode cX9_number 4 = .ok (.bipush 20, 2) := by decide +kernel
theorem dX9_number_6 : decode cX9_number 6 = .ok (.ishr, 1) := by decide +kernel
theorem dX9_number_7 : decode cX9_number 7 = .ok (.istore_n 3, 1) := by decide +kernel
theorem dX9_number_8 : decode cX9_number 8 = .ok (.iload_n 3, 1) := by decide +kernel
theorem dX9_number_9 : decode cX9_number 9 = .ok (.iload_n 2, 1) := by decide +kernel
theorem dX9_number_10 : decode cX9_number 10 = .ok (.if_icmp .ne 12, 3) := by decide +kernel
theorem dX9_number_13 : decode cX9_number 13 = .ok (.aload_n 0, 1) := by decide +kernel
theorem dX9_number_14 : decode cX9_number 14 = .ok (.iconst 0, 1) := by decide +kernel
theorem dX9_number_15 : decode cX9_number 15 = .ok (.iload_n 1, 1) := by decide +kernel
theorem dX9_number_16 : decode cX9_number 16 = .ok (.iconst 0, 1) := by decide +kernel
theorem dX9_number_17 : decode cX9_number 17 = .ok (.iload_n 2, 1) := by decide +kernel
theorem dX9_number_18 : decode cX9_number 18 = .ok (.invokevirtual 53, 3) := by decide +kernel
theorem dX9_number_21 : decode cX9_number 21 = .ok (.return_, 1) := by decide +kernel
theorem dX9_number_22 : decode cX9_number 22 = .ok (.aload_n 0, 1) := by decide +kernel
theorem dX9_number_23 : decode cX9_number 23 = .ok (.iload_n 2, 1) := by decide +kernel
theorem dX9_number_24 : decode cX9_number 24 = .ok (.iload_n 3, 1) := by decide +kernel
theorem dX9_number_25 : decode cX9_number 25 = .ok (.isub, 1) := by decide +kernel
theorem dX9_number_26 : decode cX9_number 26 = .ok (.sipush (-4096), 3) := by decide +kernel
theorem dX9_number_29 : decode cX9_number 29 = .ok (.iand, 1) := by decide +kernel
theorem dX9_number_30 : decode cX9_number 30 = .ok (.iload_n 1, 1) := by decide +kernel
theorem dX9_number_31 : decode cX9_number 31 = .ok (.bipush 7, 2) := by decide +kernel
theorem dX9_number_33 : decode cX9_number 33 = .ok (.ishl, 1) := by decide +kernel
theorem dX9_number_34 : decode cX9_number 34 = .ok (.ior, 1) := by decide +kernel
theorem dX9_number_35 : decode cX9_number 35 = .ok (.bipush 55, 2) := by decide +kernel
theorem dX9_number_37 : decode cX9_number 37 = .ok (.ior, 1) := by decide +kernel
theorem dX9_number_38 : decode cX9_number 38 = .ok (.invokevirtual 50, 3) := by decide +kernel
theorem dX9_number_41 : decode cX9_number 41 = .ok (.iload_n 3, 1) := by decide +kernel
theorem dX9_number_42 : decode cX9_number 42 = .ok (.ifCond .eq 11, 3) := by decide +kernel
theorem dX9_number_45 : decode cX9_number 45 = .ok (.aload_n 0, 1) := by decide +kernel
theorem dX9_number_46 : decode cX9_number 46 = .ok (.iconst 0, 1) := by decide +kernel
theorem dX9_number_47 : decode cX9_number 47 = .ok (.iload_n 1, 1) := by decide +kernel
theorem dX9_number_48 : decode cX9_number 48 = .ok (.iload_n 1, 1) := by decide +kernel
theorem dX9_number_49 : decode cX9_number 49 = .ok (.iload_n 3, 1) := by decide +kernel
theorem dX9_number_50 : decode cX9_number 50 = .ok (.invokevirtual 53, 3) := by decide +kernel
theorem dX9_number_53 : decode cX9_number 53 = .ok (.return_, 1) := by decide +kernel
theorem dX9_three_0 : decode cX9_three 0 = .ok (.aload_n 0, 1) := by decide +kernel
theorem dX9_three_1 : decode cX9_three 1 = .ok (.iload_n 2, 1) := by decide +kernel
theorem dX9_three_2 : decode cX9_three 2 = .ok (.bipush 25, 2) := by decide +kernel
theorem dX9_three_4 : decode cX9_three 4 = .ok (.ishl, 1) := by decide +kernel
theorem dX9_three_5 : decode cX9_three 5 = .ok (.iload 5, 2) := by decide +kernel
theorem dX9_three_7 : decode cX9_three 7 = .ok (.bipush 20, 2) := by decide +kernel
theorem dX9_three_9 : decode cX9_three 9 = .ok (.ishl, 1) := by decide +kernel
theorem dX9_three_10 : decode cX9_three 10 = .ok (.ior, 1) := by decide +kernel
theorem dX9_three_11 : decode cX9_three 11 = .ok (.iload 4, 2) := by decide +kernel
theorem dX9_three_13 : decode cX9_three 13 = .ok (.bipush 15, 2) := by decide +kernel
theorem dX9_three_15 : decode cX9_three 15 = .ok (.ishl, 1) := by decide +kernel
theorem dX9_three_16 : decode cX9_three 16 = .ok (.ior, 1) := by decide +kernel
theorem dX9_three_17 : decode cX9_three 17 = .ok (.iload_n 1, 1) := by decide +kernel
theorem dX9_three_18 : decode cX9_three 18 = .ok (.bipush 12, 2) := by decide +kernel
theorem dX9_three_20 : decode cX9_three 20 = .ok (.ishl, 1) := by decide +kernel
theorem dX9_three_21 : decode cX9_three 21 = .ok (.ior, 1) := by decide +kernel
theorem dX9_three_22 : decode cX9_three 22 = .ok (.iload_n 3, 1) := by decide +kernel
theorem dX9_three_23 : decode cX9_three 23 = .ok (.bipush 7, 2) := by decide +kernel
theorem dX9_three_25 : decode cX9_three 25 = .ok (.ishl, 1) := by decide +kernel
theorem dX9_three_26 : decode cX9_three 26 = .ok (.ior, 1) := by decide +kernel
theorem dX9_three_27 : decode cX9_three 27 = .ok (.bipush 51, 2) := by decide +kernel
theorem dX9_three_29 : decode cX9_three 29 = .ok (.ior, 1) := by decide +kernel
theorem dX9_three_30 : decode cX9_three 30 = .ok (.invokevirtual 50, 3) := by decide +kernel
theorem dX9_three_33 : decode cX9_three 33 = .ok (.return_, 1) := by decide +kernel
theorem dX9_store_0 : decode cX9_store 0 = .ok (.aload_n 0, 1) := by decide +kernel
theorem dX9_store_1 : decode cX9_store 1 = .ok (.iload 4, 2) := by decide +kernel
theorem dX9_store_3 : decode cX9_store 3 = .ok (.iconst 5, 1) := by decide +kernel
theorem dX9_store_4 : decode cX9_store 4 = .ok (.ishr, 1) := by decide +kernel
theorem dX9_store_5 : decode cX9_store 5 = .ok (.bipush 127, 2) := by decide +kernel
theorem dX9_store_7 : decode cX9_store 7 = .ok (.iand, 1) := by decide +kernel
theorem dX9_store_8 : decode cX9_store 8 = .ok (.bipush 25, 2) := by decide +kernel
theorem dX9_store_10 : decode cX9_store 10 = .ok (.ishl, 1) := by decide +kernel
theorem dX9_store_11 : decode cX9_store 11 = .ok (.iload_n 2, 1) := by decide +kernel
theorem dX9_store_12 : decode cX9_store 12 = .ok (.bipush 20, 2) := by decide +kernel
theorem dX9_store_14 : decode cX9_store 14 = .ok (.ishl, 1) := by decide +kernel
theorem dX9_store_15 : decode cX9_store 15 = .ok (.ior, 1) := by decide +kernel
theorem dX9_store_16 : decode cX9_store 16 = .ok (.iload_n 3, 1) := by decide +kernel
theorem dX9_store_17 : decode cX9_store 17 = .ok (.bipush 15, 2) := by decide +kernel
theorem dX9_store_19 : decode cX9_store 19 = .ok (.ishl, 1) := by decide +kernel
theorem dX9_store_20 : decode cX9_store 20 = .ok (.ior, 1) := by decide +kernel
theorem dX9_store_21 : decode cX9_store 21 = .ok (.iload_n 1, 1) := by decide +kernel
theorem dX9_store_22 : decode cX9_store 22 = .ok (.bipush 12, 2) := by decide +kernel
theorem dX9_store_24 : decode cX9_store 24 = .ok (.ishl, 1) := by decide +kernel
theorem dX9_store_25 : decode cX9_store 25 = .ok (.ior, 1) := by decide +kernel
theorem dX9_store_26 : decode cX9_store 26 = .ok (.iload 4, 2) := by decide +kernel
theorem dX9_store_28 : decode cX9_store 28 = .ok (.bipush 31, 2) := by decide +kernel
theorem dX9_store_30 : decode cX9_store 30 = .ok (.iand, 1) := by decide +kernel
theorem dX9_store_31 : decode cX9_store 31 = .ok (.bipush 7, 2) := by decide +kernel
theorem dX9_store_33 : decode cX9_store 33 = .ok (.ishl, 1) := by decide +kernel
theorem dX9_store_34 : decode cX9_store 34 = .ok (.ior, 1) := by decide +kernel
theorem dX9_store_35 : decode cX9_store 35 = .ok (.bipush 35, 2) := by decide +kernel
theorem dX9_store_37 : decode cX9_store 37 = .ok (.ior, 1) := by decide +kernel
theorem dX9_store_38 : decode cX9_store 38 = .ok (.invokevirtual 50, 3) := by decide +kernel
theorem dX9_store_41 : decode cX9_store 41 = .ok (.return_, 1) := by decide +kernel
theorem dX9_load_0 : decode cX9_load 0 = .ok (.aload_n 0, 1) := by decide +kernel
theorem dX9_load_1 : decode cX9_load 1 = .ok (.iload 4, 2) := by decide +kernel
theorem dX9_load_3 : decode cX9_load 3 = .ok (.bipush 20, 2) := by decide +kernel
theorem dX9_load_5 : decode cX9_load 5 = .ok (.ishl, 1) := by decide +kernel
theorem dX9_load_6 : decode cX9_load 6 = .ok (.iload_n 3, 1) := by decide +kernel
theorem dX9_load_7 : decode cX9_load 7 = .ok (.bipush 15, 2) := by decide +kernel
theorem dX9_load_9 : decode cX9_load 9 = .ok (.ishl, 1) := by decide +kernel
theorem dX9_load_10 : decode cX9_load 10 = .ok (.ior, 1) := by decide +kernel
theorem dX9_load_11 : decode cX9_load 11 = .ok (.iload_n 1, 1) := by decide +kernel
theorem dX9_load_12 : decode cX9_load 12 = .ok (.bipush 12, 2) := by decide +kernel
theorem dX9_load_14 : decode cX9_load 14 = .ok (.ishl, 1) := by decide +kernel
theorem dX9_load_15 : decode cX9_load 15 = .ok (.ior, 1) := by decide +kernel
theorem dX9_load_16 : decode cX9_load 16 = .ok (.iload_n 2, 1) := by decide +kernel
theorem dX9_load_17 : decode cX9_load 17 = .ok (.bipush 7, 2) := by decide +kernel
theorem dX9_load_19 : decode cX9_load 19 = .ok (.ishl, 1) := by decide +kernel
theorem dX9_load_20 : decode cX9_load 20 = .ok (.ior, 1) := by decide +kernel
theorem dX9_load_21 : decode cX9_load 21 = .ok (.iconst 3, 1) := by decide +kernel
theorem dX9_load_22 : decode cX9_load 22 = .ok (.ior, 1) := by decide +kernel
theorem dX9_load_23 : decode cX9_load 23 = .ok (.invokevirtual 50, 3) := by decide +kernel
theorem dX9_load_26 : decode cX9_load 26 = .ok (.return_, 1) := by decide +kernel
theorem dX9_put_0 : decode cX9_put 0 = .ok (.aload_n 0, 1) := by decide +kernel
theorem dX9_put_1 : decode cX9_put 1 = .ok (.getfield 25, 3) := by decide +kernel
theorem dX9_put_4 : decode cX9_put 4 = .ok (.iload_n 1, 1) := by decide +kernel
theorem dX9_put_5 : decode cX9_put 5 = .ok (.aload_n 0, 1) := by decide +kernel
theorem dX9_put_6 : decode cX9_put 6 = .ok (.getfield 28, 3) := by decide +kernel
theorem dX9_put_9 : decode cX9_put 9 = .ok (.iastore, 1) := by decide +kernel
theorem dX9_put_10 : decode cX9_put 10 = .ok (.return_, 1) := by decide +kernel
theorem dX9_move_0 : decode cX9_move 0 = .ok (.iload_n 1, 1) := by decide +kernel
theorem dX9_move_1 : decode cX9_move 1 = .ok (.iload_n 2, 1) := by decide +kernel
theorem dX9_move_2 : decode cX9_move 2 = .ok (.if_icmp .eq 11, 3) := by decide +kernel
theorem dX9_move_5 : decode cX9_move 5 = .ok (.aload_n 0, 1) := by decide +kernel
theorem dX9_move_6 : decode cX9_move 6 = .ok (.iconst 0, 1) := by decide +kernel
theorem dX9_move_7 : decode cX9_move 7 = .ok (.iload_n 1, 1) := by decide +kernel
theorem dX9_move_8 : decode cX9_move 8 = .ok (.iload_n 2, 1) := by decide +kernel
theorem dX9_move_9 : decode cX9_move 9 = .ok (.iconst 0, 1) := by decide +kernel
theorem dX9_move_10 : decode cX9_move 10 = .ok (.invokevirtual 53, 3) := by decide +kernel
theorem dX9_move_13 : decode cX9_move 13 = .ok (.return_, 1) := by decide +kernel
theorem dX9_branchWord_0 : decode cX9_branchWord 0 = .ok (.iload_n 2, 1) := by decide +kernel
theorem dX9_branchWord_1 : decode cX9_branchWord 1 = .ok (.bipush 20, 2) := by decide +kernel
theorem dX9_branchWord_3 : decode cX9_branchWord 3 = .ok (.ishl, 1) := by decide +kernel
theorem dX9_branchWord_4 : decode cX9_branchWord 4 = .ok (.iload_n 1, 1) := by decide +kernel
theorem dX9_branchWord_5 : decode cX9_branchWord 5 = .ok (.bipush 15, 2) := by decide +kernel
theorem dX9_branchWord_7 : decode cX9_branchWord 7 = .ok (.ishl, 1) := by decide +kernel
theorem dX9_branchWord_8 : decode cX9_branchWord 8 = .ok (.ior, 1) := by decide +kernel
theorem dX9_branchWord_9 : decode cX9_branchWord 9 = .ok (.iload_n 0, 1) := by decide +kernel
theorem dX9_branchWord_10 : decode cX9_branchWord 10 = .ok (.bipush 12, 2) := by decide +kernel
theorem dX9_branchWord_12 : decode cX9_branchWord 12 = .ok (.ishl, 1) := by decide +kernel
theorem dX9_branchWord_13 : decode cX9_branchWord 13 = .ok (.ior, 1) := by decide +kernel
theorem dX9_branchWord_14 : decode cX9_branchWord 14 = .ok (.bipush 99, 2) := by decide +kernel
theorem dX9_branchWord_16 : decode cX9_branchWord 16 = .ok (.ior, 1) := by decide +kernel
theorem dX9_branchWord_17 : decode cX9_branchWord 17 = .ok (.ireturn, 1) := by decide +kernel
theorem dX9_over_0 : decode cX9_over 0 = .ok (.aload_n 0, 1) := by decide +kernel
theorem dX9_over_1 : decode cX9_over 1 = .ok (.getfield 9, 3) := by decide +kernel
theorem dX9_over_4 : decode cX9_over 4 = .ok (.iload_n 1, 1) := by decide +kernel
theorem dX9_over_5 : decode cX9_over 5 = .ok (.dup2, 1) := by decide +kernel
theorem dX9_over_6 : decode cX9_over 6 = .ok (.iaload, 1) := by decide +kernel
theorem dX9_over_7 : decode cX9_over 7 = .ok (.iconst 4, 1) := by decide +kernel
theorem dX9_over_8 : decode cX9_over 8 = .ok (.aload_n 0, 1) := by decide +kernel
theorem dX9_over_9 : decode cX9_over 9 = .ok (.getfield 28, 3) := by decide +kernel
theorem dX9_over_12 : decode cX9_over 12 = .ok (.iload_n 1, 1) := by decide +kernel
theorem dX9_over_13 : decode cX9_over 13 = .ok (.isub, 1) := by decide +kernel
theorem dX9_over_14 : decode cX9_over 14 = .ok (.imul, 1) := by decide +kernel
theorem dX9_over_15 : decode cX9_over 15 = .ok (.invokestatic 43, 3) := by decide +kernel
theorem dX9_over_18 : decode cX9_over 18 = .ok (.ior, 1) := by decide +kernel
theorem dX9_over_19 : decode cX9_over 19 = .ok (.iastore, 1) := by decide +kernel
theorem dX9_over_20 : decode cX9_over 20 = .ok (.return_, 1) := by decide +kernel
theorem dX9_branch_0 : decode cX9_branch 0 = .ok (.iload_n 0, 1) := by decide +kernel
theorem dX9_branch_1 : decode cX9_branch 1 = .ok (.bipush 12, 2) := by decide +kernel
theorem dX9_branch_3 : decode cX9_branch 3 = .ok (.ishr, 1) := by decide +kernel
theorem dX9_branch_4 : decode cX9_branch 4 = .ok (.iconst 1, 1) := by decide +kernel
theorem dX9_branch_5 : decode cX9_branch 5 = .ok (.iand, 1) := by decide +kernel
theorem dX9_branch_6 : decode cX9_branch 6 = .ok (.bipush 31, 2) := by decide +kernel
theorem dX9_branch_8 : decode cX9_branch 8 = .ok (.ishl, 1) := by decide +kernel
theorem dX9_branch_9 : decode cX9_branch 9 = .ok (.iload_n 0, 1) := by decide +kernel
theorem dX9_branch_10 : decode cX9_branch 10 = .ok (.iconst 5, 1) := by decide +kernel
theorem dX9_branch_11 : decode cX9_branch 11 = .ok (.ishr, 1) := by decide +kernel
theorem dX9_branch_12 : decode cX9_branch 12 = .ok (.bipush 63, 2) := by decide +kernel
theorem dX9_branch_14 : decode cX9_branch 14 = .ok (.iand, 1) := by decide +kernel
theorem dX9_branch_15 : decode cX9_branch 15 = .ok (.bipush 25, 2) := by decide +kernel
theorem dX9_branch_17 : decode cX9_branch 17 = .ok (.ishl, 1) := by decide +kernel
theorem dX9_branch_18 : decode cX9_branch 18 = .ok (.ior, 1) := by decide +kernel
theorem dX9_branch_19 : decode cX9_branch 19 = .ok (.iload_n 0, 1) := by decide +kernel
theorem dX9_branch_20 : decode cX9_branch 20 = .ok (.iconst 1, 1) := by decide +kernel
theorem dX9_branch_21 : decode cX9_branch 21 = .ok (.ishr, 1) := by decide +kernel
theorem dX9_branch_22 : decode cX9_branch 22 = .ok (.bipush 15, 2) := by decide +kernel
theorem dX9_branch_24 : decode cX9_branch 24 = .ok (.iand, 1) := by decide +kernel
theorem dX9_branch_25 : decode cX9_branch 25 = .ok (.bipush 8, 2) := by decide +kernel
theorem dX9_branch_27 : decode cX9_branch 27 = .ok (.ishl, 1) := by decide +kernel
theorem dX9_branch_28 : decode cX9_branch 28 = .ok (.ior, 1) := by decide +kernel
theorem dX9_branch_29 : decode cX9_branch 29 = .ok (.iload_n 0, 1) := by decide +kernel
theorem dX9_branch_30 : decode cX9_branch 30 = .ok (.bipush 11, 2) := by decide +kernel
theorem dX9_branch_32 : decode cX9_branch 32 = .ok (.ishr, 1) := by decide +kernel
theorem dX9_branch_33 : decode cX9_branch 33 = .ok (.iconst 1, 1) := by decide +kernel
theorem dX9_branch_34 : decode cX9_branch 34 = .ok (.iand, 1) := by decide +kernel
theorem dX9_branch_35 : decode cX9_branch 35 = .ok (.bipush 7, 2) := by decide +kernel
theorem dX9_branch_37 : decode cX9_branch 37 = .ok (.ishl, 1) := by decide +kernel
theorem dX9_branch_38 : decode cX9_branch 38 = .ok (.ior, 1) := by decide +kernel
theorem dX9_branch_39 : decode cX9_branch 39 = .ok (.ireturn, 1) := by decide +kernel
theorem dX9_lay_0 : decode cX9_lay 0 = .ok (.iconst 0, 1) := by decide +kernel
theorem dX9_lay_1 : decode cX9_lay 1 = .ok (.istore_n 3, 1) := by decide +kernel
theorem dX9_lay_2 : decode cX9_lay 2 = .ok (.iload_n 3, 1) := by decide +kernel
theorem dX9_lay_3 : decode cX9_lay 3 = .ok (.aload_n 0, 1) := by decide +kernel
theorem dX9_lay_4 : decode cX9_lay 4 = .ok (.getfield 28, 3) := by decide +kernel
theorem dX9_lay_7 : decode cX9_lay 7 = .ok (.if_icmp .ge 16, 3) := by decide +kernel
theorem dX9_lay_10 : decode cX9_lay 10 = .ok (.aload_n 0, 1) := by decide +kernel
theorem dX9_lay_11 : decode cX9_lay 11 = .ok (.getfield 21, 3) := by decide +kernel
theorem dX9_lay_14 : decode cX9_lay 14 = .ok (.iload_n 3, 1) := by decide +kernel
theorem dX9_lay_15 : decode cX9_lay 15 = .ok (.iconst 0, 1) := by decide +kernel
theorem dX9_lay_16 : decode cX9_lay 16 = .ok (.bastore, 1) := by decide +kernel
theorem dX9_lay_17 : decode cX9_lay 17 = .ok (.iinc 3 1, 3) := by decide +kernel
theorem dX9_lay_20 : decode cX9_lay 20 = .ok (.goto (-18), 3) := by decide +kernel
theorem dX9_lay_23 : decode cX9_lay 23 = .ok (.iconst 1, 1) := by decide +kernel
theorem dX9_lay_24 : decode cX9_lay 24 = .ok (.istore_n 3, 1) := by decide +kernel
theorem dX9_lay_25 : decode cX9_lay 25 = .ok (.iload_n 3, 1) := by decide +kernel
theorem dX9_lay_26 : decode cX9_lay 26 = .ok (.ifCond .eq 183, 3) := by decide +kernel
theorem dX9_lay_29 : decode cX9_lay 29 = .ok (.iconst 0, 1) := by decide +kernel
theorem dX9_lay_30 : decode cX9_lay 30 = .ok (.istore_n 3, 1) := by decide +kernel
theorem dX9_lay_31 : decode cX9_lay 31 = .ok (.iload_n 2, 1) := by decide +kernel
theorem dX9_lay_32 : decode cX9_lay 32 = .ok (.istore 4, 2) := by decide +kernel
theorem dX9_lay_34 : decode cX9_lay 34 = .ok (.iconst 0, 1) := by decide +kernel
theorem dX9_lay_35 : decode cX9_lay 35 = .ok (.istore 5, 2) := by decide +kernel
theorem dX9_lay_37 : decode cX9_lay 37 = .ok (.iload 5, 2) := by decide +kernel
theorem dX9_lay_39 : decode cX9_lay 39 = .ok (.aload_n 0, 1) := by decide +kernel
theorem dX9_lay_40 : decode cX9_lay 40 = .ok (.getfield 28, 3) := by decide +kernel
theorem dX9_lay_43 : decode cX9_lay 43 = .ok (.if_icmp .ge 38, 3) := by decide +kernel
theorem dX9_lay_46 : decode cX9_lay 46 = .ok (.aload_n 0, 1) := by decide +kernel
theorem dX9_lay_47 : decode cX9_lay 47 = .ok (.getfield 18, 3) := by decide +kernel
theorem dX9_lay_50 : decode cX9_lay 50 = .ok (.iload 5, 2) := by decide +kernel
theorem dX9_lay_52 : decode cX9_lay 52 = .ok (.iload 4, 2) := by decide +kernel
theorem dX9_lay_54 : decode cX9_lay 54 = .ok (.iastore, 1) := by decide +kernel
theorem dX9_lay_55 : decode cX9_lay 55 = .ok (.iload 4, 2) := by decide +kernel
theorem dX9_lay_57 : decode cX9_lay 57 = .ok (.aload_n 0, 1) := by decide +kernel
theorem dX9_lay_58 : decode cX9_lay 58 = .ok (.getfield 21, 3) := by decide +kernel
theorem dX9_lay_61 : decode cX9_lay 61 = .ok (.iload 5, 2) := by decide +kernel
theorem dX9_lay_63 : decode cX9_lay 63 = .ok (.baload, 1) := by decide +kernel
theorem dX9_lay_64 : decode cX9_lay 64 = .ok (.ifCond .eq 7, 3) := by decide +kernel
theorem dX9_lay_67 : decode cX9_lay 67 = .ok (.iconst 2, 1) := by decide +kernel
theorem dX9_lay_68 : decode cX9_lay 68 = .ok (.goto 4, 3) := by decide +kernel
theorem dX9_lay_71 : decode cX9_lay 71 = .ok (.iconst 1, 1) := by decide +kernel
theorem dX9_lay_72 : decode cX9_lay 72 = .ok (.iadd, 1) := by decide +kernel
theorem dX9_lay_73 : decode cX9_lay 73 = .ok (.istore 4, 2) := by decide +kernel
theorem dX9_lay_75 : decode cX9_lay 75 = .ok (.iinc 5 1, 3) := by decide +kernel
theorem dX9_lay_78 : decode cX9_lay 78 = .ok (.goto (-41), 3) := by decide +kernel
theorem dX9_lay_81 : decode cX9_lay 81 = .ok (.aload_n 0, 1) := by decide +kernel
theorem dX9_lay_82 : decode cX9_lay 82 = .ok (.getfield 18, 3) := by decide +kernel
theorem dX9_lay_85 : decode cX9_lay 85 = .ok (.aload_n 0, 1) := by decide +kernel
theorem dX9_lay_86 : decode cX9_lay 86 = .ok (.getfield 28, 3) := by decide +kernel
theorem dX9_lay_89 : decode cX9_lay 89 = .ok (.iload 4, 2) := by decide +kernel
theorem dX9_lay_91 : decode cX9_lay 91 = .ok (.iastore, 1) := by decide +kernel
theorem dX9_lay_92 : decode cX9_lay 92 = .ok (.iconst 0, 1) := by decide +kernel
theorem dX9_lay_93 : decode cX9_lay 93 = .ok (.istore 5, 2) := by decide +kernel
theorem dX9_lay_95 : decode cX9_lay 95 = .ok (.iload 5, 2) := by decide +kernel
theorem dX9_lay_97 : decode cX9_lay 97 = .ok (.aload_n 0, 1) := by decide +kernel
theorem dX9_lay_98 : decode cX9_lay 98 = .ok (.getfield 28, 3) := by decide +kernel
theorem dX9_lay_101 : decode cX9_lay 101 = .ok (.if_icmp .ge 105, 3) := by decide +kernel
theorem dX9_lay_104 : decode cX9_lay 104 = .ok (.aload_n 0, 1) := by decide +kernel
theorem dX9_lay_105 : decode cX9_lay 105 = .ok (.getfield 15, 3) := by decide +kernel
theorem dX9_lay_108 : decode cX9_lay 108 = .ok (.iload 5, 2) := by decide +kernel
theorem dX9_lay_110 : decode cX9_lay 110 = .ok (.iaload, 1) := by decide +kernel
theorem dX9_lay_111 : decode cX9_lay 111 = .ok (.ifCond .lt 89, 3) := by decide +kernel
theorem dX9_lay_114 : decode cX9_lay 114 = .ok (.aload_n 0, 1) := by decide +kernel
theorem dX9_lay_115 : decode cX9_lay 115 = .ok (.getfield 21, 3) := by decide +kernel
theorem dX9_lay_118 : decode cX9_lay 118 = .ok (.iload 5, 2) := by decide +kernel
theorem dX9_lay_120 : decode cX9_lay 120 = .ok (.baload, 1) := by decide +kernel
theorem dX9_lay_121 : decode cX9_lay 121 = .ok (.ifCond .ne 79, 3) := by decide +kernel
theorem dX9_lay_124 : decode cX9_lay 124 = .ok (.aload_n 0, 1) := by decide +kernel
theorem dX9_lay_125 : decode cX9_lay 125 = .ok (.getfield 9, 3) := by decide +kernel
theorem dX9_lay_128 : decode cX9_lay 128 = .ok (.iload 5, 2) := by decide +kernel
theorem dX9_lay_130 : decode cX9_lay 130 = .ok (.iaload, 1) := by decide +kernel
theorem dX9_lay_131 : decode cX9_lay 131 = .ok (.bipush 127, 2) := by decide +kernel
theorem dX9_lay_133 : decode cX9_lay 133 = .ok (.iand, 1) := by decide +kernel
theorem dX9_lay_134 : decode cX9_lay 134 = .ok (.bipush 99, 2) := by decide +kernel
theorem dX9_lay_136 : decode cX9_lay 136 = .ok (.if_icmp .eq 6, 3) := by decide +kernel
theorem dX9_lay_139 : decode cX9_lay 139 = .ok (.goto 61, 3) := by decide +kernel
theorem dX9_lay_142 : decode cX9_lay 142 = .ok (.iconst 4, 1) := by decide +kernel
theorem dX9_lay_143 : decode cX9_lay 143 = .ok (.aload_n 0, 1) := by decide +kernel
theorem dX9_lay_144 : decode cX9_lay 144 = .ok (.getfield 18, 3) := by decide +kernel
theorem dX9_lay_147 : decode cX9_lay 147 = .ok (.aload_n 0, 1) := by decide +kernel
theorem dX9_lay_148 : decode cX9_lay 148 = .ok (.getfield 25, 3) := by decide +kernel
theorem dX9_lay_151 : decode cX9_lay 151 = .ok (.aload_n 0, 1) := by decide +kernel
theorem dX9_lay_152 : decode cX9_lay 152 = .ok (.getfield 15, 3) := by decide +kernel
theorem dX9_lay_155 : decode cX9_lay 155 = .ok (.iload 5, 2) := by decide +kernel
theorem dX9_lay_157 : decode cX9_lay 157 = .ok (.iaload, 1) := by decide +kernel
theorem dX9_lay_158 : decode cX9_lay 158 = .ok (.iaload, 1) := by decide +kernel
theorem dX9_lay_159 : decode cX9_lay 159 = .ok (.iaload, 1) := by decide +kernel
theorem dX9_lay_160 : decode cX9_lay 160 = .ok (.aload_n 0, 1) := by decide +kernel
theorem dX9_lay_161 : decode cX9_lay 161 = .ok (.getfield 18, 3) := by decide +kernel
theorem dX9_lay_164 : decode cX9_lay 164 = .ok (.iload 5, 2) := by decide +kernel
theorem dX9_lay_166 : decode cX9_lay 166 = .ok (.iaload, 1) := by decide +kernel
theorem dX9_lay_167 : decode cX9_lay 167 = .ok (.isub, 1) := by decide +kernel
theorem dX9_lay_168 : decode cX9_lay 168 = .ok (.imul, 1) := by decide +kernel
theorem dX9_lay_169 : decode cX9_lay 169 = .ok (.istore 6, 2) := by decide +kernel
theorem dX9_lay_171 : decode cX9_lay 171 = .ok (.iload 6, 2) := by decide +kernel
theorem dX9_lay_173 : decode cX9_lay 173 = .ok (.sipush (-4096), 3) := by decide +kernel
theorem dX9_lay_176 : decode cX9_lay 176 = .ok (.if_icmp .lt 14, 3) := by decide +kernel
theorem dX9_lay_179 : decode cX9_lay 179 = .ok (.iload 6, 2) := by decide +kernel
theorem dX9_lay_181 : decode cX9_lay 181 = .ok (.sipush 4096, 3) := by decide +kernel
theorem dX9_lay_184 : decode cX9_lay 184 = .ok (.if_icmp .ge 6, 3) := by decide +kernel
theorem dX9_lay_187 : decode cX9_lay 187 = .ok (.goto 13, 3) := by decide +kernel
theorem dX9_lay_190 : decode cX9_lay 190 = .ok (.aload_n 0, 1) := by decide +kernel
theorem dX9_lay_191 : decode cX9_lay 191 = .ok (.getfield 21, 3) := by decide +kernel
theorem dX9_lay_194 : decode cX9_lay 194 = .ok (.iload 5, 2) := by decide +kernel
theorem dX9_lay_196 : decode cX9_lay 196 = .ok (.iconst 1, 1) := by decide +kernel
theorem dX9_lay_197 : decode cX9_lay 197 = .ok (.bastore, 1) := by decide +kernel
theorem dX9_lay_198 : decode cX9_lay 198 = .ok (.iconst 1, 1) := by decide +kernel
theorem dX9_lay_199 : decode cX9_lay 199 = .ok (.istore_n 3, 1) := by decide +kernel
theorem dX9_lay_200 : decode cX9_lay 200 = .ok (.iinc 5 1, 3) := by decide +kernel
theorem dX9_lay_203 : decode cX9_lay 203 = .ok (.goto (-108), 3) := by decide +kernel
theorem dX9_lay_206 : decode cX9_lay 206 = .ok (.goto (-181), 3) := by decide +kernel
theorem dX9_lay_209 : decode cX9_lay 209 = .ok (.iconst 0, 1) := by decide +kernel
theorem dX9_lay_210 : decode cX9_lay 210 = .ok (.istore 4, 2) := by decide +kernel
theorem dX9_lay_212 : decode cX9_lay 212 = .ok (.iload 4, 2) := by decide +kernel
theorem dX9_lay_214 : decode cX9_lay 214 = .ok (.aload_n 0, 1) := by decide +kernel
theorem dX9_lay_215 : decode cX9_lay 215 = .ok (.getfield 28, 3) := by decide +kernel
theorem dX9_lay_218 : decode cX9_lay 218 = .ok (.if_icmp .ge 166, 3) := by decide +kernel
theorem dX9_lay_221 : decode cX9_lay 221 = .ok (.aload_n 0, 1) := by decide +kernel
theorem dX9_lay_222 : decode cX9_lay 222 = .ok (.getfield 9, 3) := by decide +kernel
theorem dX9_lay_225 : decode cX9_lay 225 = .ok (.iload 4, 2) := by decide +kernel
theorem dX9_lay_227 : decode cX9_lay 227 = .ok (.iaload, 1) := by decide +kernel
theorem dX9_lay_228 : decode cX9_lay 228 = .ok (.istore 5, 2) := by decide +kernel
theorem dX9_lay_230 : decode cX9_lay 230 = .ok (.aload_n 0, 1) := by decide +kernel
theorem dX9_lay_231 : decode cX9_lay 231 = .ok (.getfield 15, 3) := by decide +kernel
theorem dX9_lay_234 : decode cX9_lay 234 = .ok (.iload 4, 2) := by decide +kernel
theorem dX9_lay_236 : decode cX9_lay 236 = .ok (.iaload, 1) := by decide +kernel
theorem dX9_lay_237 : decode cX9_lay 237 = .ok (.ifCond .ge 7, 3) := by decide +kernel
theorem dX9_lay_240 : decode cX9_lay 240 = .ok (.iconst 0, 1) := by decide +kernel
theorem dX9_lay_241 : decode cX9_lay 241 = .ok (.goto 30, 3) := by decide +kernel
theorem dX9_lay_244 : decode cX9_lay 244 = .ok (.iconst 4, 1) := by decide +kernel
theorem dX9_lay_245 : decode cX9_lay 245 = .ok (.aload_n 0, 1) := by decide +kernel
theorem dX9_lay_246 : decode cX9_lay 246 = .ok (.getfield 18, 3) := by decide +kernel
theorem dX9_lay_249 : decode cX9_lay 249 = .ok (.aload_n 0, 1) := by decide +kernel
theorem dX9_lay_250 : decode cX9_lay 250 = .ok (.getfield 25, 3) := by decide +kernel
theorem dX9_lay_253 : decode cX9_lay 253 = .ok (.aload_n 0, 1) := by decide +kernel
theorem dX9_lay_254 : decode cX9_lay 254 = .ok (.getfield 15, 3) := by decide +kernel
theorem dX9_lay_257 : decode cX9_lay 257 = .ok (.iload 4, 2) := by decide +kernel
theorem dX9_lay_259 : decode cX9_lay 259 = .ok (.iaload, 1) := by decide +kernel
theorem dX9_lay_260 : decode cX9_lay 260 = .ok (.iaload, 1) := by decide +kernel
theorem dX9_lay_261 : decode cX9_lay 261 = .ok (.iaload, 1) := by decide +kernel
theorem dX9_lay_262 : decode cX9_lay 262 = .ok (.aload_n 0, 1) := by decide +kernel
theorem dX9_lay_263 : decode cX9_lay 263 = .ok (.getfield 18, 3) := by decide +kernel
theorem dX9_lay_266 : decode cX9_lay 266 = .ok (.iload 4, 2) := by decide +kernel
theorem dX9_lay_268 : decode cX9_lay 268 = .ok (.iaload, 1) := by decide +kernel
theorem dX9_lay_269 : decode cX9_lay 269 = .ok (.isub, 1) := by decide +kernel
theorem dX9_lay_270 : decode cX9_lay 270 = .ok (.imul, 1) := by decide +kernel
theorem dX9_lay_271 : decode cX9_lay 271 = .ok (.istore 6, 2) := by decide +kernel
theorem dX9_lay_273 : decode cX9_lay 273 = .ok (.aload_n 0, 1) := by decide +kernel
theorem dX9_lay_274 : decode cX9_lay 274 = .ok (.getfield 21, 3) := by decide +kernel
theorem dX9_lay_277 : decode cX9_lay 277 = .ok (.iload 4, 2) := by decide +kernel
theorem dX9_lay_279 : decode cX9_lay 279 = .ok (.baload, 1) := by decide +kernel
theorem dX9_lay_280 : decode cX9_lay 280 = .ok (.ifCond .eq 48, 3) := by decide +kernel
theorem dX9_lay_283 : decode cX9_lay 283 = .ok (.aload_n 1, 1) := by decide +kernel
theorem dX9_lay_284 : decode cX9_lay 284 = .ok (.aload_n 0, 1) := by decide +kernel
theorem dX9_lay_285 : decode cX9_lay 285 = .ok (.getfield 18, 3) := by decide +kernel
theorem dX9_lay_288 : decode cX9_lay 288 = .ok (.iload 4, 2) := by decide +kernel
theorem dX9_lay_290 : decode cX9_lay 290 = .ok (.iaload, 1) := by decide +kernel
theorem dX9_lay_291 : decode cX9_lay 291 = .ok (.iload 5, 2) := by decide +kernel
theorem dX9_lay_293 : decode cX9_lay 293 = .ok (.sipush 4096, 3) := by decide +kernel
theorem dX9_lay_296 : decode cX9_lay 296 = .ok (.ixor, 1) := by decide +kernel
theorem dX9_lay_297 : decode cX9_lay 297 = .ok (.bipush 8, 2) := by decide +kernel
theorem dX9_lay_299 : decode cX9_lay 299 = .ok (.invokestatic 43, 3) := by decide +kernel
theorem dX9_lay_302 : decode cX9_lay 302 = .ok (.ior, 1) := by decide +kernel
theorem dX9_lay_303 : decode cX9_lay 303 = .ok (.iastore, 1) := by decide +kernel
theorem dX9_lay_304 : decode cX9_lay 304 = .ok (.aload_n 1, 1) := by decide +kernel
theorem dX9_lay_305 : decode cX9_lay 305 = .ok (.aload_n 0, 1) := by decide +kernel
theorem dX9_lay_306 : decode cX9_lay 306 = .ok (.getfield 18, 3) := by decide +kernel
theorem dX9_lay_309 : decode cX9_lay 309 = .ok (.iload 4, 2) := by decide +kernel
theorem dX9_lay_311 : decode cX9_lay 311 = .ok (.iaload, 1) := by decide +kernel
theorem dX9_lay_312 : decode cX9_lay 312 = .ok (.iconst 1, 1) := by decide +kernel
theorem dX9_lay_313 : decode cX9_lay 313 = .ok (.iadd, 1) := by decide +kernel
theorem dX9_lay_314 : decode cX9_lay 314 = .ok (.bipush 111, 2) := by decide +kernel
theorem dX9_lay_316 : decode cX9_lay 316 = .ok (.iload 6, 2) := by decide +kernel
theorem dX9_lay_318 : decode cX9_lay 318 = .ok (.iconst 4, 1) := by decide +kernel
theorem dX9_lay_319 : decode cX9_lay 319 = .ok (.isub, 1) := by decide +kernel
theorem dX9_lay_320 : decode cX9_lay 320 = .ok (.invokestatic 47, 3) := by decide +kernel
theorem dX9_lay_323 : decode cX9_lay 323 = .ok (.ior, 1) := by decide +kernel
theorem dX9_lay_324 : decode cX9_lay 324 = .ok (.iastore, 1) := by decide +kernel
theorem dX9_lay_325 : decode cX9_lay 325 = .ok (.goto 53, 3) := by decide +kernel
theorem dX9_lay_328 : decode cX9_lay 328 = .ok (.aload_n 1, 1) := by decide +kernel
theorem dX9_lay_329 : decode cX9_lay 329 = .ok (.aload_n 0, 1) := by decide +kernel
theorem dX9_lay_330 : decode cX9_lay 330 = .ok (.getfield 18, 3) := by decide +kernel
theorem dX9_lay_333 : decode cX9_lay 333 = .ok (.iload 4, 2) := by decide +kernel
theorem dX9_lay_335 : decode cX9_lay 335 = .ok (.iaload, 1) := by decide +kernel
theorem dX9_lay_336 : decode cX9_lay 336 = .ok (.aload_n 0, 1) := by decide +kernel
theorem dX9_lay_337 : decode cX9_lay 337 = .ok (.getfield 15, 3) := by decide +kernel
theorem dX9_lay_340 : decode cX9_lay 340 = .ok (.iload 4, 2) := by decide +kernel
theorem dX9_lay_342 : decode cX9_lay 342 = .ok (.iaload, 1) := by decide +kernel
theorem dX9_lay_343 : decode cX9_lay 343 = .ok (.ifCond .ge 8, 3) := by decide +kernel
theorem dX9_lay_346 : decode cX9_lay 346 = .ok (.iload 5, 2) := by decide +kernel
theorem dX9_lay_348 : decode cX9_lay 348 = .ok (.goto 29, 3) := by decide +kernel
theorem dX9_lay_351 : decode cX9_lay 351 = .ok (.iload 5, 2) := by decide +kernel
theorem dX9_lay_353 : decode cX9_lay 353 = .ok (.iload 5, 2) := by decide +kernel
theorem dX9_lay_355 : decode cX9_lay 355 = .ok (.bipush 127, 2) := by decide +kernel
theorem dX9_lay_357 : decode cX9_lay 357 = .ok (.iand, 1) := by decide +kernel
theorem dX9_lay_358 : decode cX9_lay 358 = .ok (.bipush 99, 2) := by decide +kernel
theorem dX9_lay_360 : decode cX9_lay 360 = .ok (.if_icmp .ne 11, 3) := by decide +kernel
theorem dX9_lay_363 : decode cX9_lay 363 = .ok (.iload 6, 2) := by decide +kernel
theorem dX9_lay_365 : decode cX9_lay 365 = .ok (.invokestatic 43, 3) := by decide +kernel
theorem dX9_lay_368 : decode cX9_lay 368 = .ok (.goto 8, 3) := by decide +kernel
theorem dX9_lay_371 : decode cX9_lay 371 = .ok (.iload 6, 2) := by decide +kernel
theorem dX9_lay_373 : decode cX9_lay 373 = .ok (.invokestatic 47, 3) := by decide +kernel
theorem dX9_lay_376 : decode cX9_lay 376 = .ok (.ior, 1) := by decide +kernel
theorem dX9_lay_377 : decode cX9_lay 377 = .ok (.iastore, 1) := by decide +kernel
theorem dX9_lay_378 : decode cX9_lay 378 = .ok (.iinc 4 1, 3) := by decide +kernel
theorem dX9_lay_381 : decode cX9_lay 381 = .ok (.goto (-169), 3) := by decide +kernel
theorem dX9_lay_384 : decode cX9_lay 384 = .ok (.aload_n 0, 1) := by decide +kernel
theorem dX9_lay_385 : decode cX9_lay 385 = .ok (.getfield 18, 3) := by decide +kernel
theorem dX9_lay_388 : decode cX9_lay 388 = .ok (.aload_n 0, 1) := by decide +kernel
theorem dX9_lay_389 : decode cX9_lay 389 = .ok (.getfield 28, 3) := by decide +kernel
theorem dX9_lay_392 : decode cX9_lay 392 = .ok (.iaload, 1) := by decide +kernel
theorem dX9_lay_393 : decode cX9_lay 393 = .ok (.iload_n 2, 1) := by decide +kernel
theorem dX9_lay_394 : decode cX9_lay 394 = .ok (.isub, 1) := by decide +kernel
theorem dX9_lay_395 : decode cX9_lay 395 = .ok (.ireturn, 1) := by decide +kernel
theorem dX9_jump_0 : decode cX9_jump 0 = .ok (.iload_n 0, 1) := by decide +kernel
theorem dX9_jump_1 : decode cX9_jump 1 = .ok (.bipush 20, 2) := by decide +kernel
theorem dX9_jump_3 : decode cX9_jump 3 = .ok (.ishr, 1) := by decide +kernel
theorem dX9_jump_4 : decode cX9_jump 4 = .ok (.iconst 1, 1) := by decide +kernel
theorem dX9_jump_5 : decode cX9_jump 5 = .ok (.iand, 1) := by decide +kernel
theorem dX9_jump_6 : decode cX9_jump 6 = .ok (.bipush 31, 2) := by decide +kernel
theorem dX9_jump_8 : decode cX9_jump 8 = .ok (.ishl, 1) := by decide +kernel
theorem dX9_jump_9 : decode cX9_jump 9 = .ok (.iload_n 0, 1) := by decide +kernel
theorem dX9_jump_10 : decode cX9_jump 10 = .ok (.iconst 1, 1) := by decide +kernel
theorem dX9_jump_11 : decode cX9_jump 11 = .ok (.ishr, 1) := by decide +kernel
theorem dX9_jump_12 : decode cX9_jump 12 = .ok (.sipush 1023, 3) := by decide +kernel
theorem dX9_jump_15 : decode cX9_jump 15 = .ok (.iand, 1) := by decide +kernel
theorem dX9_jump_16 : decode cX9_jump 16 = .ok (.bipush 21, 2) := by decide +kernel
theorem dX9_jump_18 : decode cX9_jump 18 = .ok (.ishl, 1) := by decide +kernel
theorem dX9_jump_19 : decode cX9_jump 19 = .ok (.ior, 1) := by decide +kernel
theorem dX9_jump_20 : decode cX9_jump 20 = .ok (.iload_n 0, 1) := by decide +kernel
theorem dX9_jump_21 : decode cX9_jump 21 = .ok (.bipush 11, 2) := by decide +kernel
theorem dX9_jump_23 : decode cX9_jump 23 = .ok (.ishr, 1) := by decide +kernel
theorem dX9_jump_24 : decode cX9_jump 24 = .ok (.iconst 1, 1) := by decide +kernel
theorem dX9_jump_25 : decode cX9_jump 25 = .ok (.iand, 1) := by decide +kernel
theorem dX9_jump_26 : decode cX9_jump 26 = .ok (.bipush 20, 2) := by decide +kernel
theorem dX9_jump_28 : decode cX9_jump 28 = .ok (.ishl, 1) := by decide +kernel
theorem dX9_jump_29 : decode cX9_jump 29 = .ok (.ior, 1) := by decide +kernel
theorem dX9_jump_30 : decode cX9_jump 30 = .ok (.iload_n 0, 1) := by decide +kernel
theorem dX9_jump_31 : decode cX9_jump 31 = .ok (.bipush 12, 2) := by decide +kernel
theorem dX9_jump_33 : decode cX9_jump 33 = .ok (.ishr, 1) := by decide +kernel
theorem dX9_jump_34 : decode cX9_jump 34 = .ok (.sipush 255, 3) := by decide +kernel
theorem dX9_jump_37 : decode cX9_jump 37 = .ok (.iand, 1) := by decide +kernel
theorem dX9_jump_38 : decode cX9_jump 38 = .ok (.bipush 12, 2) := by decide +kernel
theorem dX9_jump_40 : decode cX9_jump 40 = .ok (.ishl, 1) := by decide +kernel
theorem dX9_jump_41 : decode cX9_jump 41 = .ok (.ior, 1) := by decide +kernel
theorem dX9_jump_42 : decode cX9_jump 42 = .ok (.ireturn, 1) := by decide +kernel
