/-! names: X8_fresh X8_define X8_holds X8_act X8_sum X8_fit X8_number X8_move X8_keep X8_simple X8_alike (tools/chunk.py) -/
set_option maxRecDepth 100000
theorem q2528 : (Jvm.Cond.methodLink "CompiledHouse$Cleaner" (318 : Nat) ({ cls := "CompiledHouse$Cleaner", name := "holds", desc := "(II)Z" } : Jvm.MethodName)) ∈ lw_all := lw_g (lw_at lw_m10 172 rfl) rfl
abbrev cX8_holds : ByteArray := prog_10_method_18_code
def yX8_holds : MethodName := ⟨RX8, "holds", "(II)Z"⟩
theorem q2531 : (Jvm.Cond.code ({ cls := "CompiledHouse$Cleaner", name := "holds", desc := "(II)Z" } : Jvm.MethodName) prog_10_method_18_code (3 : Nat) (Option.some Jvm.ClassFile.FieldType.boolean)) ∈ lw_all := lw_g (lw_at lw_m10 175 rfl) rfl
def kX8_holds : xK := (yX8_holds, cX8_holds, 3, some .boolean, [])
theorem me_X8_holds : xMe kX8_holds 2 := ⟨q2531, q211, by decide, by decide, by decide +kernel⟩
theorem q2530 : (Jvm.Cond.instanceMethod ({ cls := "CompiledHouse$Cleaner", name := "holds", desc := "(II)Z" } : Jvm.MethodName)) ∈ lw_all := lw_g (lw_at lw_m10 174 rfl) rfl
theorem is_X8_holds : Cond.instanceMethod kX8_holds.y ∈ lw_all := q2530
theorem se_X8_holds : Cond.selects RX8 kX8_holds.y kX8_holds.y ∈ lw_all := qs64
theorem lk_X8_318 : xLk RX8 318 yX8_holds := Or.inl q2528
theorem q2536 : (Jvm.Cond.methodLink "CompiledHouse$Cleaner" (342 : Nat) ({ cls := "CompiledHouse$Cleaner", name := "sum", desc := "(LCompiledHouse$Act;)V" } : Jvm.MethodName)) ∈ lw_all := lw_g (lw_at lw_m10 180 rfl) rfl
abbrev cX8_sum : ByteArray := prog_10_method_23_code
def yX8_sum : MethodName := ⟨RX8, "sum", "(LCompiledHouse$Act;)V"⟩
theorem q2539 : (Jvm.Cond.code ({ cls := "CompiledHouse$Cleaner", name := "sum", desc := "(LCompiledHouse$Act;)V" } : Jvm.MethodName) prog_10_method_23_code (8 : Nat) (Option.none : Option Jvm.ClassFile.FieldType)) ∈ lw_all := lw_g (lw_at lw_m10 183 rfl) rfl
def kX8_sum : xK := (yX8_sum, cX8_sum, 8, none, [])
theorem me_X8_sum : xMe kX8_sum 1 := ⟨q2539, q211, by decide, by decide, by decide +kernel⟩
theorem q2538 : (Jvm.Cond.instanceMethod ({ cls := "CompiledHouse$Cleaner", name := "sum", desc := "(LCompiledHouse$Act;)V" } : Jvm.MethodName)) ∈ lw_all := lw_g (lw_at lw_m10 182 rfl) rfl
theorem is_X8_sum : Cond.instanceMethod kX8_sum.y ∈ lw_all := q2538
theorem se_X8_sum : Cond.selects RX8 kX8_sum.y kX8_sum.y ∈ lw_all := qs66
theorem lk_X8_342 : xLk RX8 342 yX8_sum := Or.inl q2536
theorem q2572 : (Jvm.Cond.methodLink "CompiledHouse$Cleaner" (345 : Nat) ({ cls := "CompiledHouse$Act", name := "isLoad", desc := "()Z" } : Jvm.MethodName)) ∈ lw_all := lw_g (lw_at lw_m10 216 rfl) rfl
theorem lk_X8_345 : xLk RX8 345 yX37_isLoad := Or.inl q2572
theorem q2576 : (Jvm.Cond.methodLink "CompiledHouse$Cleaner" (348 : Nat) ({ cls := "CompiledHouse$Cleaner", name := "load", desc := "(LCompiledHouse$Act;)V" } : Jvm.MethodName)) ∈ lw_all := lw_g (lw_at lw_m10 220 rfl) rfl
abbrev cX8_load : ByteArray := prog_10_method_27_code
def yX8_load : MethodName := ⟨RX8, "load", "(LCompiledHouse$Act;)V"⟩
theorem q2579 : (Jvm.Cond.code ({ cls := "CompiledHouse$Cleaner", name := "load", desc := "(LCompiledHouse$Act;)V" } : Jvm.MethodName) prog_10_method_27_code (6 : Nat) (Option.none : Option Jvm.ClassFile.FieldType)) ∈ lw_all := lw_g (lw_at lw_m10 223 rfl) rfl
def kX8_load : xK := (yX8_load, cX8_load, 6, none, [])
theorem me_X8_load : xMe kX8_load 1 := ⟨q2579, q211, by decide, by decide, by decide +kernel⟩
theorem q2578 : (Jvm.Cond.instanceMethod ({ cls := "CompiledHouse$Cleaner", name := "load", desc := "(LCompiledHouse$Act;)V" } : Jvm.MethodName)) ∈ lw_all := lw_g (lw_at lw_m10 222 rfl) rfl
theorem is_X8_load : Cond.instanceMethod kX8_load.y ∈ lw_all := q2578
theorem se_X8_load : Cond.selects RX8 kX8_load.y kX8_load.y ∈ lw_all := qs72
theorem lk_X8_348 : xLk RX8 348 yX8_load := Or.inl q2576
theorem q2549 : (Jvm.Cond.methodLink "CompiledHouse$Cleaner" (351 : Nat) ({ cls := "CompiledHouse$Cleaner", name := "move", desc := "(LCompiledHouse$Act;J)V" } : Jvm.MethodName)) ∈ lw_all := lw_g (lw_at lw_m10 193 rfl) rfl
abbrev cX8_move : ByteArray := prog_10_method_21_code
def yX8_move : MethodName := ⟨RX8, "move", "(LCompiledHouse$Act;J)V"⟩
theorem q2552 : (Jvm.Cond.code ({ cls := "CompiledHouse$Cleaner", name := "move", desc := "(LCompiledHouse$Act;J)V" } : Jvm.MethodName) prog_10_method_21_code (5 : Nat) (Option.none : Option Jvm.ClassFile.FieldType)) ∈ lw_all := lw_g (lw_at lw_m10 196 rfl) rfl
def kX8_move : xK := (yX8_move, cX8_move, 5, none, [])
theorem me_X8_move : xMe kX8_move 2 := ⟨q2552, q211, by decide, by decide, by decide +kernel⟩
theorem q2551 : (Jvm.Cond.instanceMethod ({ cls := "CompiledHouse$Cleaner", name := "move", desc := "(LCompiledHouse$Act;J)V" } : Jvm.MethodName)) ∈ lw_all := lw_g (lw_at lw_m10 195 rfl) rfl
theorem is_X8_move : Cond.instanceMethod kX8_move.y ∈ lw_all := q2551
theorem se_X8_move : Cond.selects RX8 kX8_move.y kX8_move.y ∈ lw_all := qs69
theorem lk_X8_351 : xLk RX8 351 yX8_move := Or.inl q2549
theorem q1936 : (Jvm.Cond.fieldLinkNest "CompiledHouse$Cleaner" (355 : Nat) "CompiledHouse$Act" "n" "I" "CompiledHouse") ∈ lw_tbl := lw_at lw_m8 60 rfl
theorem f_X8_355_35 : xF RX8 355 35 5 := ⟨_, "CompiledHouse$Act", rfl, by decide, Or.inr ⟨_, q1936⟩, Or.inl rfl⟩
theorem q2568 : (Jvm.Cond.methodLink "CompiledHouse$Cleaner" (358 : Nat) ({ cls := "CompiledHouse$Cleaner", name := "remember", desc := "(LCompiledHouse$Act;II)V" } : Jvm.MethodName)) ∈ lw_all := lw_g (lw_at lw_m10 212 rfl) rfl
abbrev cX8_remember : ByteArray := prog_10_method_26_code
def yX8_remember : MethodName := ⟨RX8, "remember", "(LCompiledHouse$Act;II)V"⟩
theorem q2571 : (Jvm.Cond.code ({ cls := "CompiledHouse$Cleaner", name := "remember", desc := "(LCompiledHouse$Act;II)V" } : Jvm.MethodName) prog_10_method_26_code (5 : Nat) (Option.none : Option Jvm.ClassFile.FieldType)) ∈ lw_all := lw_g (lw_at lw_m10 215 rfl) rfl
def kX8_remember : xK := (yX8_remember, cX8_remember, 5, none, [])
theorem me_X8_remember : xMe kX8_remember 3 := ⟨q2571, q211, by decide, by decide, by decide +kernel⟩
theorem q2570 : (Jvm.Cond.instanceMethod ({ cls := "CompiledHouse$Cleaner", name := "remember", desc := "(LCompiledHouse$Act;II)V" } : Jvm.MethodName)) ∈ lw_all := lw_g (lw_at lw_m10 214 rfl) rfl
theorem is_X8_remember : Cond.instanceMethod kX8_remember.y ∈ lw_all := q2570
theorem se_X8_remember : Cond.selects RX8 kX8_remember.y kX8_remember.y ∈ lw_all := qs71
theorem lk_X8_358 : xLk RX8 358 yX8_remember := Or.inl q2568
theorem q2584 : (Jvm.Cond.methodLink "CompiledHouse$Cleaner" (362 : Nat) ({ cls := "CompiledHouse$Cleaner", name := "store", desc := "(LCompiledHouse$Act;)V" } : Jvm.MethodName)) ∈ lw_all := lw_g (lw_at lw_m10 228 rfl) rfl
abbrev cX8_store : ByteArray := prog_10_method_29_code
def yX8_store : MethodName := ⟨RX8, "store", "(LCompiledHouse$Act;)V"⟩
theorem q2587 : (Jvm.Cond.code ({ cls := "CompiledHouse$Cleaner", name := "store", desc := "(LCompiledHouse$Act;)V" } : Jvm.MethodName) prog_10_method_29_code (2 : Nat) (Option.none : Option Jvm.ClassFile.FieldType)) ∈ lw_all := lw_g (lw_at lw_m10 231 rfl) rfl
def kX8_store : xK := (yX8_store, cX8_store, 2, none, [])
theorem me_X8_store : xMe kX8_store 1 := ⟨q2587, q211, by decide, by decide, by decide +kernel⟩
theorem q2586 : (Jvm.Cond.instanceMethod ({ cls := "CompiledHouse$Cleaner", name := "store", desc := "(LCompiledHouse$Act;)V" } : Jvm.MethodName)) ∈ lw_all := lw_g (lw_at lw_m10 230 rfl) rfl
theorem is_X8_store : Cond.instanceMethod kX8_store.y ∈ lw_all := q2586
theorem se_X8_store : Cond.selects RX8 kX8_store.y kX8_store.y ∈ lw_all := qs74
theorem lk_X8_362 : xLk RX8 362 yX8_store := Or.inl q2584
theorem q2592 : (Jvm.Cond.methodLink "CompiledHouse$Cleaner" (365 : Nat) ({ cls := "CompiledHouse$Cleaner", name := "check", desc := "(LCompiledHouse$Act;)V" } : Jvm.MethodName)) ∈ lw_all := lw_g (lw_at lw_m10 236 rfl) rfl
abbrev cX8_check : ByteArray := prog_10_method_31_code
def yX8_check : MethodName := ⟨RX8, "check", "(LCompiledHouse$Act;)V"⟩
theorem q2595 : (Jvm.Cond.code ({ cls := "CompiledHouse$Cleaner", name := "check", desc := "(LCompiledHouse$Act;)V" } : Jvm.MethodName) prog_10_method_31_code (5 : Nat) (Option.none : Option Jvm.ClassFile.FieldType)) ∈ lw_all := lw_g (lw_at lw_m10 239 rfl) rfl
def kX8_check : xK := (yX8_check, cX8_check, 5, none, [])
theorem me_X8_check : xMe kX8_check 1 := ⟨q2595, q211, by decide, by decide, by decide +kernel⟩
theorem q2594 : (Jvm.Cond.instanceMethod ({ cls := "CompiledHouse$Cleaner", name := "check", desc := "(LCompiledHouse$Act;)V" } : Jvm.MethodName)) ∈ lw_all := lw_g (lw_at lw_m10 238 rfl) rfl
theorem is_X8_check : Cond.instanceMethod kX8_check.y ∈ lw_all := q2594
theorem se_X8_check : Cond.selects RX8 kX8_check.y kX8_check.y ∈ lw_all := qs76
theorem lk_X8_365 : xLk RX8 365 yX8_check := Or.inl q2592
theorem q2540 : (Jvm.Cond.methodLink "CompiledHouse$Cleaner" (331 : Nat) ({ cls := "CompiledHouse$Cleaner", name := "fit", desc := "(J)J" } : Jvm.MethodName)) ∈ lw_all := lw_g (lw_at lw_m10 184 rfl) rfl
abbrev cX8_fit : ByteArray := prog_10_method_20_code
def yX8_fit : MethodName := ⟨RX8, "fit", "(J)J"⟩
theorem q2543 : (Jvm.Cond.code ({ cls := "CompiledHouse$Cleaner", name := "fit", desc := "(J)J" } : Jvm.MethodName) prog_10_method_20_code (4 : Nat) (Option.some Jvm.ClassFile.FieldType.long)) ∈ lw_all := lw_g (lw_at lw_m10 187 rfl) rfl
def kX8_fit : xK := (yX8_fit, cX8_fit, 4, some .long, [])
theorem me_X8_fit : xMe kX8_fit 1 := ⟨q2543, q211, by decide, by decide, by decide +kernel⟩
theorem q2542 : (Jvm.Cond.instanceMethod ({ cls := "CompiledHouse$Cleaner", name := "fit", desc := "(J)J" } : Jvm.MethodName)) ∈ lw_all := lw_g (lw_at lw_m10 186 rfl) rfl
theorem is_X8_fit : Cond.instanceMethod kX8_fit.y ∈ lw_all := q2542
theorem se_X8_fit : Cond.selects RX8 kX8_fit.y kX8_fit.y ∈ lw_all := qs67
theorem lk_X8_331 : xLk RX8 331 yX8_fit := Or.inl q2540
theorem q1942 : (Jvm.Cond.fieldLinkNest "CompiledHouse$Cleaner" (368 : Nat) "CompiledHouse$Act" "told" "LCompiledHouse$Told;" "CompiledHouse") ∈ lw_tbl := lw_at lw_m8 66 rfl
theorem f_X8_368_35 : xF RX8 368 35 8 := ⟨_, "CompiledHouse$Act", rfl, by decide, Or.inr ⟨_, q1942⟩, Or.inl rfl⟩
theorem q2596 : (Jvm.Cond.methodLink "CompiledHouse$Cleaner" (372 : Nat) ({ cls := "CompiledHouse$Told", name := "words", desc := "()I" } : Jvm.MethodName)) ∈ lw_all := lw_g (lw_at lw_m11 0 rfl) rfl
theorem lk_X8_372 : xLk RX8 372 yX14_words := Or.inl q2596
theorem q1132 : (Jvm.Cond.fieldLinkNest "CompiledHouse$Cleaner" (377 : Nat) "CompiledHouse$Told" "formals" "Ljava/util/ArrayList;" "CompiledHouse") ∈ lw_tbl := lw_at lw_m4 216 rfl
theorem f_X8_377_13 : xF RX8 377 13 8 := ⟨_, "CompiledHouse$Told", rfl, by decide, Or.inr ⟨_, q1132⟩, Or.inl rfl⟩
theorem q2588 : (Jvm.Cond.methodLink "CompiledHouse$Cleaner" (380 : Nat) ({ cls := "CompiledHouse$Cleaner", name := "forget", desc := "(LCompiledHouse$Symbol;Z)V" } : Jvm.MethodName)) ∈ lw_all := lw_g (lw_at lw_m10 232 rfl) rfl
abbrev cX8_forget : ByteArray := prog_10_method_30_code
def yX8_forget : MethodName := ⟨RX8, "forget", "(LCompiledHouse$Symbol;Z)V"⟩
theorem q2591 : (Jvm.Cond.code ({ cls := "CompiledHouse$Cleaner", name := "forget", desc := "(LCompiledHouse$Symbol;Z)V" } : Jvm.MethodName) prog_10_method_30_code (7 : Nat) (Option.none : Option Jvm.ClassFile.FieldType)) ∈ lw_all := lw_g (lw_at lw_m10 235 rfl) rfl
def kX8_forget : xK := (yX8_forget, cX8_forget, 7, none, [])
theorem me_X8_forget : xMe kX8_forget 2 := ⟨q2591, q211, by decide, by decide, by decide +kernel⟩
theorem q2590 : (Jvm.Cond.instanceMethod ({ cls := "CompiledHouse$Cleaner", name := "forget", desc := "(LCompiledHouse$Symbol;Z)V" } : Jvm.MethodName)) ∈ lw_all := lw_g (lw_at lw_m10 234 rfl) rfl
theorem is_X8_forget : Cond.instanceMethod kX8_forget.y ∈ lw_all := q2590
theorem se_X8_forget : Cond.selects RX8 kX8_forget.y kX8_forget.y ∈ lw_all := qs75
theorem lk_X8_380 : xLk RX8 380 yX8_forget := Or.inl q2588
theorem q1939 : (Jvm.Cond.fieldLinkNest "CompiledHouse$Cleaner" (335 : Nat) "CompiledHouse$Act" "of" "LCompiledHouse$Symbol;" "CompiledHouse") ∈ lw_tbl := lw_at lw_m8 63 rfl
theorem f_X8_335_35 : xF RX8 335 35 7 := ⟨_, "CompiledHouse$Act", rfl, by decide, Or.inr ⟨_, q1939⟩, Or.inl rfl⟩
theorem q2553 : (Jvm.Cond.methodLink "CompiledHouse$Cleaner" (339 : Nat) ({ cls := "CompiledHouse$Cleaner", name := "keep", desc := "(LCompiledHouse$Act;)V" } : Jvm.MethodName)) ∈ lw_all := lw_g (lw_at lw_m10 197 rfl) rfl
abbrev cX8_keep : ByteArray := prog_10_method_13_code
def yX8_keep : MethodName := ⟨RX8, "keep", "(LCompiledHouse$Act;)V"⟩
theorem q2556 : (Jvm.Cond.code ({ cls := "CompiledHouse$Cleaner", name := "keep", desc := "(LCompiledHouse$Act;)V" } : Jvm.MethodName) prog_10_method_13_code (2 : Nat) (Option.none : Option Jvm.ClassFile.FieldType)) ∈ lw_all := lw_g (lw_at lw_m10 200 rfl) rfl
def kX8_keep : xK := (yX8_keep, cX8_keep, 2, none, [])
theorem me_X8_keep : xMe kX8_keep 1 := ⟨q2556, q211, by decide, by decide, by decide +kernel⟩
theorem q2555 : (Jvm.Cond.instanceMethod ({ cls := "CompiledHouse$Cleaner", name := "keep", desc := "(LCompiledHouse$Act;)V" } : Jvm.MethodName)) ∈ lw_all := lw_g (lw_at lw_m10 199 rfl) rfl
theorem is_X8_keep : Cond.instanceMethod kX8_keep.y ∈ lw_all := q2555
theorem se_X8_keep : Cond.selects RX8 kX8_keep.y kX8_keep.y ∈ lw_all := qs70
theorem lk_X8_339 : xLk RX8 339 yX8_keep := Or.inl q2553
theorem q2548 : (Jvm.Cond.methodLink "CompiledHouse$Cleaner" (325 : Nat) ({ cls := "CompiledHouse$Maker", name := "constant", desc := "(I)J" } : Jvm.MethodName)) ∈ lw_all := lw_g (lw_at lw_m10 192 rfl) rfl
theorem lk_X8_325 : xLk RX8 325 yX6_constant := Or.inl q2548
theorem q2557 : (Jvm.Cond.methodLink "CompiledHouse$Cleaner" (384 : Nat) ({ cls := "CompiledHouse$Cleaner", name := "simple", desc := "(LCompiledHouse$Act;I)J" } : Jvm.MethodName)) ∈ lw_all := lw_g (lw_at lw_m10 201 rfl) rfl
abbrev cX8_simple : ByteArray := prog_10_method_24_code
def yX8_simple : MethodName := ⟨RX8, "simple", "(LCompiledHouse$Act;I)J"⟩
theorem q2559 : (Jvm.Cond.code ({ cls := "CompiledHouse$Cleaner", name := "simple", desc := "(LCompiledHouse$Act;I)J" } : Jvm.MethodName) prog_10_method_24_code (2 : Nat) (Option.some Jvm.ClassFile.FieldType.long)) ∈ lw_all := lw_g (lw_at lw_m10 203 rfl) rfl
def kX8_simple : xK := (yX8_simple, cX8_simple, 2, some .long, [])
theorem me_X8_simple : xMe kX8_simple 2 := ⟨q2559, q211, by decide, by decide, by decide +kernel⟩
theorem q2558 : (Jvm.Cond.static ({ cls := "CompiledHouse$Cleaner", name := "simple", desc := "(LCompiledHouse$Act;I)J" } : Jvm.MethodName)) ∈ lw_all := lw_g (lw_at lw_m10 202 rfl) rfl
theorem st_X8_simple : Cond.static kX8_simple.y ∈ lw_all := q2558
theorem lk_X8_384 : xLk RX8 384 yX8_simple := Or.inl q2557
theorem q2544 : (Jvm.Cond.methodLink "CompiledHouse$Cleaner" (322 : Nat) ({ cls := "CompiledHouse$Cleaner", name := "number", desc := "(J)I" } : Jvm.MethodName)) ∈ lw_all := lw_g (lw_at lw_m10 188 rfl) rfl
abbrev cX8_number : ByteArray := prog_10_method_17_code
def yX8_number : MethodName := ⟨RX8, "number", "(J)I"⟩
theorem q2547 : (Jvm.Cond.code ({ cls := "CompiledHouse$Cleaner", name := "number", desc := "(J)I" } : Jvm.MethodName) prog_10_method_17_code (4 : Nat) (Option.some Jvm.ClassFile.FieldType.int)) ∈ lw_all := lw_g (lw_at lw_m10 191 rfl) rfl
def kX8_number : xK := (yX8_number, cX8_number, 4, some .int, [])
theorem me_X8_number : xMe kX8_number 1 := ⟨q2547, q211, by decide, by decide, by decide +kernel⟩
theorem q2546 : (Jvm.Cond.instanceMethod ({ cls := "CompiledHouse$Cleaner", name := "number", desc := "(J)I" } : Jvm.MethodName)) ∈ lw_all := lw_g (lw_at lw_m10 190 rfl) rfl
theorem is_X8_number : Cond.instanceMethod kX8_number.y ∈ lw_all := q2546
theorem se_X8_number : Cond.selects RX8 kX8_number.y kX8_number.y ∈ lw_all := qs68
theorem lk_X8_322 : xLk RX8 322 yX8_number := Or.inl q2544
theorem q2565 : (Jvm.Cond.methodLink "CompiledHouse$Cleaner" (388 : Nat) ({ cls := "CompiledHouse$Cleaner", name := "alike", desc := "(LCompiledHouse$Act;)J" } : Jvm.MethodName)) ∈ lw_all := lw_g (lw_at lw_m10 209 rfl) rfl
abbrev cX8_alike : ByteArray := prog_10_method_25_code
def yX8_alike : MethodName := ⟨RX8, "alike", "(LCompiledHouse$Act;)J"⟩
theorem q2567 : (Jvm.Cond.code ({ cls := "CompiledHouse$Cleaner", name := "alike", desc := "(LCompiledHouse$Act;)J" } : Jvm.MethodName) prog_10_method_25_code (1 : Nat) (Option.some Jvm.ClassFile.FieldType.long)) ∈ lw_all := lw_g (lw_at lw_m10 211 rfl) rfl
def kX8_alike : xK := (yX8_alike, cX8_alike, 1, some .long, [])
theorem me_X8_alike : xMe kX8_alike 1 := ⟨q2567, q211, by decide, by decide, by decide +kernel⟩
theorem q2566 : (Jvm.Cond.static ({ cls := "CompiledHouse$Cleaner", name := "alike", desc := "(LCompiledHouse$Act;)J" } : Jvm.MethodName)) ∈ lw_all := lw_g (lw_at lw_m10 210 rfl) rfl
theorem st_X8_alike : Cond.static kX8_alike.y ∈ lw_all := q2566
theorem lk_X8_388 : xLk RX8 388 yX8_alike := Or.inl q2565
theorem q2560 : (Jvm.Cond.constantLong "CompiledHouse$Cleaner" (392 : Nat) (-1 : Int64)) ∈ lw_all := lw_g (lw_at lw_m10 204 rfl) rfl
theorem q2561 : (Jvm.Cond.methodLink "CompiledHouse$Cleaner" (394 : Nat) ({ cls := "java/lang/Integer", name := "numberOfTrailingZeros", desc := "(I)I" } : Jvm.MethodName)) ∈ lw_all := lw_g (lw_at lw_m10 205 rfl) rfl
theorem lk_X8_394 : xLk RX8 394 yJ15_numberOfTrailingZeros := Or.inl q2561
theorem dX8_fresh_0 : decode cX8_fresh 0 = .ok (.aload_n 0, 1) := by decide +kernel
theorem dX8_fresh_1 : decode cX8_fresh 1 = .ok (.getfield 49, 3) := by decide +kernel
theorem dX8_fresh_4 : decode cX8_fresh 4 = .ok (.aload_n 0, 1) := by decide +kernel
theorem dX8_fresh_5 : decode cX8_fresh 5 = .ok (.getfield 248, 3) := by decide +kernel
theorem dX8_fresh_8 : decode cX8_fresh 8 = .ok (.iconst (-1), 1) := by decide +kernel
theorem dX8_fresh_9 : decode cX8_fresh 9 = .ok (.iastore, 1) := by decide +kernel
theorem dX8_fresh_10 : decode cX8_fresh 10 = .ok (.aload_n 0, 1) := by decide +kernel
theorem dX8_fresh_11 : decode cX8_fresh 11 = .ok (.getfield 272, 3) := by decide +kernel
theorem dX8_fresh_14 : decode cX8_fresh 14 = .ok (.aload_n 0, 1) := by decide +kernel
theorem dX8_fresh_15 : decode cX8_fresh 15 = .ok (.getfield 248, 3) := by decide +kernel
theorem dX8_fresh_18 : decode cX8_fresh 18 = .ok (.iconst 0, 1) := by decide +kernel
theorem dX8_fresh_19 : decode cX8_fresh 19 = .ok (.bastore, 1) := by decide +kernel
theorem dX8_fresh_20 : decode cX8_fresh 20 = .ok (.aload_n 0, 1) := by decide +kernel
theorem dX8_fresh_21 : decode cX8_fresh 21 = .ok (.dup, 1) := by decide +kernel
theorem dX8_fresh_22 : decode cX8_fresh 22 = .ok (.getfield 248, 3) := by decide +kernel
theorem dX8_fresh_25 : decode cX8_fresh 25 = .ok (.iconst 1, 1) := by decide +kernel
theorem dX8_fresh_26 : decode cX8_fresh 26 = .ok (.iadd, 1) := by decide +kernel
theorem dX8_fresh_27 : decode cX8_fresh 27 = .ok (.putfield 248, 3) := by decide +kernel
theorem dX8_fresh_30 : decode cX8_fresh 30 = .ok (.aload_n 0, 1) := by decide +kernel
theorem dX8_fresh_31 : decode cX8_fresh 31 = .ok (.getfield 248, 3) := by decide +kernel
theorem dX8_fresh_34 : decode cX8_fresh 34 = .ok (.iconst 1, 1) := by decide +kernel
theorem dX8_fresh_35 : decode cX8_fresh 35 = .ok (.isub, 1) := by decide +kernel
theorem dX8_fresh_36 : decode cX8_fresh 36 = .ok (.ireturn, 1) := by decide +kernel
theorem dX8_define_0 : decode cX8_define 0 = .ok (.aload_n 0, 1) := by decide +kernel
theorem dX8_define_1 : decode cX8_define 1 = .ok (.getfield 46, 3) := by decide +kernel
theorem dX8_define_4 : decode cX8_define 4 = .ok (.iload_n 1, 1) := by decide +kernel
theorem dX8_define_5 : decode cX8_define 5 = .ok (.aload_n 0, 1) := by decide +kernel
theorem dX8_define_6 : decode cX8_define 6 = .ok (.getfield 219, 3) := by decide +kernel
theorem dX8_define_9 : decode cX8_define 9 = .ok (.iastore, 1) := by decide +kernel
theorem dX8_define_10 : decode cX8_define 10 = .ok (.aload_n 0, 1) := by decide +kernel
theorem dX8_define_11 : decode cX8_define 11 = .ok (.getfield 43, 3) := by decide +kernel
theorem dX8_define_14 : decode cX8_define 14 = .ok (.iload_n 1, 1) := by decide +kernel
theorem dX8_define_15 : decode cX8_define 15 = .ok (.iload_n 2, 1) := by decide +kernel
theorem dX8_define_16 : decode cX8_define 16 = .ok (.iastore, 1) := by decide +kernel
theorem dX8_define_17 : decode cX8_define 17 = .ok (.aload_n 0, 1) := by decide +kernel
theorem dX8_define_18 : decode cX8_define 18 = .ok (.aload_n 0, 1) := by decide +kernel
theorem dX8_define_19 : decode cX8_define 19 = .ok (.getfield 49, 3) := by decide +kernel
theorem dX8_define_22 : decode cX8_define 22 = .ok (.iload_n 2, 1) := by decide +kernel
theorem dX8_define_23 : decode cX8_define 23 = .ok (.iaload, 1) := by decide +kernel
theorem dX8_define_24 : decode cX8_define 24 = .ok (.iload_n 2, 1) := by decide +kernel
theorem dX8_define_25 : decode cX8_define 25 = .ok (.invokevirtual 318, 3) := by decide +kernel
theorem dX8_define_28 : decode cX8_define 28 = .ok (.ifCond .ne 10, 3) := by decide +kernel
theorem dX8_define_31 : decode cX8_define 31 = .ok (.aload_n 0, 1) := by decide +kernel
theorem dX8_define_32 : decode cX8_define 32 = .ok (.getfield 49, 3) := by decide +kernel
theorem dX8_define_35 : decode cX8_define 35 = .ok (.iload_n 2, 1) := by decide +kernel
theorem dX8_define_36 : decode cX8_define 36 = .ok (.iload_n 1, 1) := by decide +kernel
theorem dX8_define_37 : decode cX8_define 37 = .ok (.iastore, 1) := by decide +kernel
theorem dX8_define_38 : decode cX8_define 38 = .ok (.return_, 1) := by decide +kernel
theorem dX8_holds_0 : decode cX8_holds 0 = .ok (.iload_n 1, 1) := by decide +kernel
theorem dX8_holds_1 : decode cX8_holds 1 = .ok (.ifCond .lt 30, 3) := by decide +kernel
theorem dX8_holds_4 : decode cX8_holds 4 = .ok (.aload_n 0, 1) := by decide +kernel
theorem dX8_holds_5 : decode cX8_holds 5 = .ok (.getfield 46, 3) := by decide +kernel
theorem dX8_holds_8 : decode cX8_holds 8 = .ok (.iload_n 1, 1) := by decide +kernel
theorem dX8_holds_9 : decode cX8_holds 9 = .ok (.iaload, 1) := by decide +kernel
theorem dX8_holds_10 : decode cX8_holds 10 = .ok (.aload_n 0, 1) := by decide +kernel
theorem dX8_holds_11 : decode cX8_holds 11 = .ok (.getfield 219, 3) := by decide +kernel
theorem dX8_holds_14 : decode cX8_holds 14 = .ok (.if_icmp .ne 17, 3) := by decide +kernel
theorem dX8_holds_17 : decode cX8_holds 17 = .ok (.aload_n 0, 1) := by decide +kernel
theorem dX8_holds_18 : decode cX8_holds 18 = .ok (.getfield 43, 3) := by decide +kernel
theorem dX8_holds_21 : decode cX8_holds 21 = .ok (.iload_n 1, 1) := by decide +kernel
theorem dX8_holds_22 : decode cX8_holds 22 = .ok (.iaload, 1) := by decide +kernel
theorem dX8_holds_23 : decode cX8_holds 23 = .ok (.iload_n 2, 1) := by decide +kernel
theorem dX8_holds_24 : decode cX8_holds 24 = .ok (.if_icmp .ne 7, 3) := by decide +kernel
theorem dX8_holds_27 : decode cX8_holds 27 = .ok (.iconst 1, 1) := by decide +kernel
theorem dX8_holds_28 : decode cX8_holds 28 = .ok (.goto 4, 3) := by decide +kernel
theorem dX8_holds_31 : decode cX8_holds 31 = .ok (.iconst 0, 1) := by decide +kernel
theorem dX8_holds_32 : decode cX8_holds 32 = .ok (.ireturn, 1) := by decide +kernel
theorem dX8_act_0 : decode cX8_act 0 = .ok (.aload_n 1, 1) := by decide +kernel
theorem dX8_act_1 : decode cX8_act 1 = .ok (.getfield 212, 3) := by decide +kernel
theorem dX8_act_4 : decode cX8_act 4 = .ok (.invokestatic 214, 3) := by decide +kernel
theorem dX8_act_7 : decode cX8_act 7 = .ok (.ifCond .eq 9, 3) := by decide +kernel
theorem dX8_act_10 : decode cX8_act 10 = .ok (.aload_n 0, 1) := by decide +kernel
theorem dX8_act_11 : decode cX8_act 11 = .ok (.aload_n 1, 1) := by decide +kernel
theorem dX8_act_12 : decode cX8_act 12 = .ok (.invokevirtual 342, 3) := by decide +kernel
theorem dX8_act_15 : decode cX8_act 15 = .ok (.return_, 1) := by decide +kernel
theorem dX8_act_16 : decode cX8_act 16 = .ok (.aload_n 1, 1) := by decide +kernel
theorem dX8_act_17 : decode cX8_act 17 = .ok (.invokevirtual 345, 3) := by decide +kernel
theorem dX8_act_20 : decode cX8_act 20 = .ok (.ifCond .eq 9, 3) := by decide +kernel
theorem dX8_act_23 : decode cX8_act 23 = .ok (.aload_n 0, 1) := by decide +kernel
theorem dX8_act_24 : decode cX8_act 24 = .ok (.aload_n 1, 1) := by decide +kernel
theorem dX8_act_25 : decode cX8_act 25 = .ok (.invokevirtual 348, 3) := by decide +kernel
theorem dX8_act_28 : decode cX8_act 28 = .ok (.return_, 1) := by decide +kernel
theorem dX8_act_29 : decode cX8_act 29 = .ok (.aload_n 1, 1) := by decide +kernel
theorem dX8_act_30 : decode cX8_act 30 = .ok (.getfield 212, 3) := by decide +kernel
theorem dX8_act_33 : decode cX8_act 33 = .ok (.tableswitch 201 20 32 #[67, 201, 201, 96, 96, 102, 108, 201, 174, 201, 174, 189, 77], 67) := by decide +kernel
theorem dX8_act_100 : decode cX8_act 100 = .ok (.aload_n 0, 1) := by decide +kernel
theorem dX8_act_101 : decode cX8_act 101 = .ok (.aload_n 1, 1) := by decide +kernel
theorem dX8_act_102 : decode cX8_act 102 = .ok (.aload_n 1, 1) := by decide +kernel
theorem dX8_act_103 : decode cX8_act 103 = .ok (.getfield 213, 3) := by decide +kernel
theorem dX8_act_106 : decode cX8_act 106 = .ok (.invokevirtual 351, 3) := by decide +kernel
theorem dX8_act_109 : decode cX8_act 109 = .ok (.return_, 1) := by decide +kernel
theorem dX8_act_110 : decode cX8_act 110 = .ok (.aload_n 0, 1) := by decide +kernel
theorem dX8_act_111 : decode cX8_act 111 = .ok (.aload_n 1, 1) := by decide +kernel
theorem dX8_act_112 : decode cX8_act 112 = .ok (.aload_n 0, 1) := by decide +kernel
theorem dX8_act_113 : decode cX8_act 113 = .ok (.aload_n 1, 1) := by decide +kernel
theorem dX8_act_114 : decode cX8_act 114 = .ok (.getfield 355, 3) := by decide +kernel
theorem dX8_act_117 : decode cX8_act 117 = .ok (.invokevirtual 230, 3) := by decide +kernel
theorem dX8_act_120 : decode cX8_act 120 = .ok (.aload_n 0, 1) := by decide +kernel
theorem dX8_act_121 : decode cX8_act 121 = .ok (.iconst 0, 1) := by decide +kernel
theorem dX8_act_122 : decode cX8_act 122 = .ok (.invokevirtual 230, 3) := by decide +kernel
theorem dX8_act_125 : decode cX8_act 125 = .ok (.invokevirtual 358, 3) := by decide +kernel
theorem dX8_act_128 : decode cX8_act 128 = .ok (.return_, 1) := by decide +kernel
theorem dX8_act_129 : decode cX8_act 129 = .ok (.aload_n 0, 1) := by decide +kernel
theorem dX8_act_130 : decode cX8_act 130 = .ok (.aload_n 1, 1) := by decide +kernel
theorem dX8_act_131 : decode cX8_act 131 = .ok (.invokevirtual 362, 3) := by decide +kernel
theorem dX8_act_134 : decode cX8_act 134 = .ok (.return_, 1) := by decide +kernel
theorem dX8_act_135 : decode cX8_act 135 = .ok (.aload_n 0, 1) := by decide +kernel
theorem dX8_act_136 : decode cX8_act 136 = .ok (.aload_n 1, 1) := by decide +kernel
theorem dX8_act_137 : decode cX8_act 137 = .ok (.invokevirtual 365, 3) := by decide +kernel
theorem dX8_act_140 : decode cX8_act 140 = .ok (.return_, 1) := by decide +kernel
theorem dX8_act_141 : decode cX8_act 141 = .ok (.iconst 0, 1) := by decide +kernel
theorem dX8_act_142 : decode cX8_act 142 = .ok (.istore_n 2, 1) := by decide +kernel
theorem dX8_act_143 : decode cX8_act 143 = .ok (.iload_n 2, 1) := by decide +kernel
theorem dX8_act_144 : decode cX8_act 144 = .ok (.aload_n 1, 1) := by decide +kernel
theorem dX8_act_145 : decode cX8_act 145 = .ok (.getfield 222, 3) := by decide +kernel
theorem dX8_act_148 : decode cX8_act 148 = .ok (.arraylength, 1) := by decide +kernel
theorem dX8_act_149 : decode cX8_act 149 = .ok (.if_icmp .ge 25, 3) := by decide +kernel
theorem dX8_act_152 : decode cX8_act 152 = .ok (.aload_n 1, 1) := by decide +kernel
theorem dX8_act_153 : decode cX8_act 153 = .ok (.getfield 222, 3) := by decide +kernel
theorem dX8_act_156 : decode cX8_act 156 = .ok (.iload_n 2, 1) := by decide +kernel
theorem dX8_act_157 : decode cX8_act 157 = .ok (.aload_n 0, 1) := by decide +kernel
theorem dX8_act_158 : decode cX8_act 158 = .ok (.aload_n 1, 1) := by decide +kernel
theorem dX8_act_159 : decode cX8_act 159 = .ok (.getfield 222, 3) := by decide +kernel
theorem dX8_act_162 : decode cX8_act 162 = .ok (.iload_n 2, 1) := by decide +kernel
theorem dX8_act_163 : decode cX8_act 163 = .ok (.laload, 1) := by decide +kernel
theorem dX8_act_164 : decode cX8_act 164 = .ok (.invokevirtual 331, 3) := by decide +kernel
theorem dX8_act_167 : decode cX8_act 167 = .ok (.lastore, 1) := by decide +kernel
theorem dX8_act_168 : decode cX8_act 168 = .ok (.iinc 2 1, 3) := by decide +kernel
theorem dX8_act_171 : decode cX8_act 171 = .ok (.goto (-28), 3) := by decide +kernel
theorem dX8_act_174 : decode cX8_act 174 = .ok (.aload_n 0, 1) := by decide +kernel
theorem dX8_act_175 : decode cX8_act 175 = .ok (.aconst_null, 1) := by decide +kernel
theorem dX8_act_176 : decode cX8_act 176 = .ok (.aload_n 1, 1) := by decide +kernel
theorem dX8_act_177 : decode cX8_act 177 = .ok (.getfield 368, 3) := by decide +kernel
theorem dX8_act_180 : decode cX8_act 180 = .ok (.invokevirtual 372, 3) := by decide +kernel
theorem dX8_act_183 : decode cX8_act 183 = .ok (.aload_n 1, 1) := by decide +kernel
theorem dX8_act_184 : decode cX8_act 184 = .ok (.getfield 368, 3) := by decide +kernel
theorem dX8_act_187 : decode cX8_act 187 = .ok (.getfield 377, 3) := by decide +kernel
theorem dX8_act_190 : decode cX8_act 190 = .ok (.invokevirtual 73, 3) := by decide +kernel
theorem dX8_act_193 : decode cX8_act 193 = .ok (.if_icmp .le 7, 3) := by decide +kernel
theorem dX8_act_196 : decode cX8_act 196 = .ok (.iconst 1, 1) := by decide +kernel
theorem dX8_act_197 : decode cX8_act 197 = .ok (.goto 4, 3) := by decide +kernel
theorem dX8_act_200 : decode cX8_act 200 = .ok (.iconst 0, 1) := by decide +kernel
theorem dX8_act_201 : decode cX8_act 201 = .ok (.invokevirtual 380, 3) := by decide +kernel
theorem dX8_act_204 : decode cX8_act 204 = .ok (.goto 30, 3) := by decide +kernel
theorem dX8_act_207 : decode cX8_act 207 = .ok (.aload_n 1, 1) := by decide +kernel
theorem dX8_act_208 : decode cX8_act 208 = .ok (.aload_n 0, 1) := by decide +kernel
theorem dX8_act_209 : decode cX8_act 209 = .ok (.aload_n 1, 1) := by decide +kernel
theorem dX8_act_210 : decode cX8_act 210 = .ok (.getfield 213, 3) := by decide +kernel
theorem dX8_act_213 : decode cX8_act 213 = .ok (.invokevirtual 331, 3) := by decide +kernel
theorem dX8_act_216 : decode cX8_act 216 = .ok (.putfield 213, 3) := by decide +kernel
theorem dX8_act_219 : decode cX8_act 219 = .ok (.goto 15, 3) := by decide +kernel
theorem dX8_act_222 : decode cX8_act 222 = .ok (.aload_n 0, 1) := by decide +kernel
theorem dX8_act_223 : decode cX8_act 223 = .ok (.aload_n 1, 1) := by decide +kernel
theorem dX8_act_224 : decode cX8_act 224 = .ok (.getfield 335, 3) := by decide +kernel
theorem dX8_act_227 : decode cX8_act 227 = .ok (.iconst 0, 1) := by decide +kernel
theorem dX8_act_228 : decode cX8_act 228 = .ok (.invokevirtual 380, 3) := by decide +kernel
theorem dX8_act_231 : decode cX8_act 231 = .ok (.goto 3, 3) := by decide +kernel
theorem dX8_act_234 : decode cX8_act 234 = .ok (.aload_n 1, 1) := by decide +kernel
theorem dX8_act_235 : decode cX8_act 235 = .ok (.getfield 209, 3) := by decide +kernel
theorem dX8_act_238 : decode cX8_act 238 = .ok (.ifCond .lt 15, 3) := by decide +kernel
theorem dX8_act_241 : decode cX8_act 241 = .ok (.aload_n 0, 1) := by decide +kernel
theorem dX8_act_242 : decode cX8_act 242 = .ok (.aload_n 1, 1) := by decide +kernel
theorem dX8_act_243 : decode cX8_act 243 = .ok (.getfield 209, 3) := by decide +kernel
theorem dX8_act_246 : decode cX8_act 246 = .ok (.aload_n 0, 1) := by decide +kernel
theorem dX8_act_247 : decode cX8_act 247 = .ok (.invokevirtual 315, 3) := by decide +kernel
theorem dX8_act_250 : decode cX8_act 250 = .ok (.invokevirtual 234, 3) := by decide +kernel
theorem dX8_act_253 : decode cX8_act 253 = .ok (.aload_n 0, 1) := by decide +kernel
theorem dX8_act_254 : decode cX8_act 254 = .ok (.aload_n 1, 1) := by decide +kernel
theorem dX8_act_255 : decode cX8_act 255 = .ok (.invokevirtual 339, 3) := by decide +kernel
theorem dX8_act_258 : decode cX8_act 258 = .ok (.return_, 1) := by decide +kernel
theorem dX8_sum_0 : decode cX8_sum 0 = .ok (.aload_n 1, 1) := by decide +kernel
theorem dX8_sum_1 : decode cX8_sum 1 = .ok (.aload_n 0, 1) := by decide +kernel
theorem dX8_sum_2 : decode cX8_sum 2 = .ok (.aload_n 1, 1) := by decide +kernel
theorem dX8_sum_3 : decode cX8_sum 3 = .ok (.getfield 213, 3) := by decide +kernel
theorem dX8_sum_6 : decode cX8_sum 6 = .ok (.invokevirtual 331, 3) := by decide +kernel
theorem dX8_sum_9 : decode cX8_sum 9 = .ok (.putfield 213, 3) := by decide +kernel
theorem dX8_sum_12 : decode cX8_sum 12 = .ok (.aload_n 1, 1) := by decide +kernel
theorem dX8_sum_13 : decode cX8_sum 13 = .ok (.aload_n 0, 1) := by decide +kernel
theorem dX8_sum_14 : decode cX8_sum 14 = .ok (.aload_n 1, 1) := by decide +kernel
theorem dX8_sum_15 : decode cX8_sum 15 = .ok (.getfield 218, 3) := by decide +kernel
theorem dX8_sum_18 : decode cX8_sum 18 = .ok (.invokevirtual 331, 3) := by decide +kernel
theorem dX8_sum_21 : decode cX8_sum 21 = .ok (.putfield 218, 3) := by decide +kernel
theorem dX8_sum_24 : decode cX8_sum 24 = .ok (.aload_n 1, 1) := by decide +kernel
theorem dX8_sum_25 : decode cX8_sum 25 = .ok (.getfield 213, 3) := by decide +kernel
theorem dX8_sum_28 : decode cX8_sum 28 = .ok (.invokestatic 205, 3) := by decide +kernel
theorem dX8_sum_31 : decode cX8_sum 31 = .ok (.ifCond .eq 39, 3) := by decide +kernel
theorem dX8_sum_34 : decode cX8_sum 34 = .ok (.aload_n 1, 1) := by decide +kernel
theorem dX8_sum_35 : decode cX8_sum 35 = .ok (.getfield 218, 3) := by decide +kernel
theorem dX8_sum_38 : decode cX8_sum 38 = .ok (.invokestatic 205, 3) := by decide +kernel
theorem dX8_sum_41 : decode cX8_sum 41 = .ok (.ifCond .eq 29, 3) := by decide +kernel
theorem dX8_sum_44 : decode cX8_sum 44 = .ok (.aload_n 0, 1) := by decide +kernel
theorem dX8_sum_45 : decode cX8_sum 45 = .ok (.aload_n 1, 1) := by decide +kernel
theorem dX8_sum_46 : decode cX8_sum 46 = .ok (.aload_n 1, 1) := by decide +kernel
theorem dX8_sum_47 : decode cX8_sum 47 = .ok (.getfield 212, 3) := by decide +kernel
theorem dX8_sum_50 : decode cX8_sum 50 = .ok (.aload_n 1, 1) := by decide +kernel
theorem dX8_sum_51 : decode cX8_sum 51 = .ok (.getfield 213, 3) := by decide +kernel
theorem dX8_sum_54 : decode cX8_sum 54 = .ok (.l2i, 1) := by decide +kernel
theorem dX8_sum_55 : decode cX8_sum 55 = .ok (.aload_n 1, 1) := by decide +kernel
theorem dX8_sum_56 : decode cX8_sum 56 = .ok (.getfield 218, 3) := by decide +kernel
theorem dX8_sum_59 : decode cX8_sum 59 = .ok (.l2i, 1) := by decide +kernel
theorem dX8_sum_60 : decode cX8_sum 60 = .ok (.invokestatic 201, 3) := by decide +kernel
theorem dX8_sum_63 : decode cX8_sum 63 = .ok (.invokestatic 325, 3) := by decide +kernel
theorem dX8_sum_66 : decode cX8_sum 66 = .ok (.invokevirtual 351, 3) := by decide +kernel
theorem dX8_sum_69 : decode cX8_sum 69 = .ok (.return_, 1) := by decide +kernel
theorem dX8_sum_70 : decode cX8_sum 70 = .ok (.aload_n 1, 1) := by decide +kernel
theorem dX8_sum_71 : decode cX8_sum 71 = .ok (.getfield 212, 3) := by decide +kernel
theorem dX8_sum_74 : decode cX8_sum 74 = .ok (.ifCond .eq 55, 3) := by decide +kernel
theorem dX8_sum_77 : decode cX8_sum 77 = .ok (.aload_n 1, 1) := by decide +kernel
theorem dX8_sum_78 : decode cX8_sum 78 = .ok (.getfield 212, 3) := by decide +kernel
theorem dX8_sum_81 : decode cX8_sum 81 = .ok (.iconst 2, 1) := by decide +kernel
theorem dX8_sum_82 : decode cX8_sum 82 = .ok (.if_icmp .eq 47, 3) := by decide +kernel
theorem dX8_sum_85 : decode cX8_sum 85 = .ok (.aload_n 1, 1) := by decide +kernel
theorem dX8_sum_86 : decode cX8_sum 86 = .ok (.getfield 212, 3) := by decide +kernel
theorem dX8_sum_89 : decode cX8_sum 89 = .ok (.iconst 5, 1) := by decide +kernel
theorem dX8_sum_90 : decode cX8_sum 90 = .ok (.if_icmp .eq 39, 3) := by decide +kernel
theorem dX8_sum_93 : decode cX8_sum 93 = .ok (.aload_n 1, 1) := by decide +kernel
theorem dX8_sum_94 : decode cX8_sum 94 = .ok (.getfield 212, 3) := by decide +kernel
theorem dX8_sum_97 : decode cX8_sum 97 = .ok (.bipush 6, 2) := by decide +kernel
theorem dX8_sum_99 : decode cX8_sum 99 = .ok (.if_icmp .eq 30, 3) := by decide +kernel
theorem dX8_sum_102 : decode cX8_sum 102 = .ok (.aload_n 1, 1) := by decide +kernel
theorem dX8_sum_103 : decode cX8_sum 103 = .ok (.getfield 212, 3) := by decide +kernel
theorem dX8_sum_106 : decode cX8_sum 106 = .ok (.bipush 7, 2) := by decide +kernel
theorem dX8_sum_108 : decode cX8_sum 108 = .ok (.if_icmp .eq 21, 3) := by decide +kernel
theorem dX8_sum_111 : decode cX8_sum 111 = .ok (.aload_n 1, 1) := by decide +kernel
theorem dX8_sum_112 : decode cX8_sum 112 = .ok (.getfield 212, 3) := by decide +kernel
theorem dX8_sum_115 : decode cX8_sum 115 = .ok (.bipush 11, 2) := by decide +kernel
theorem dX8_sum_117 : decode cX8_sum 117 = .ok (.if_icmp .eq 12, 3) := by decide +kernel
theorem dX8_sum_120 : decode cX8_sum 120 = .ok (.aload_n 1, 1) := by decide +kernel
theorem dX8_sum_121 : decode cX8_sum 121 = .ok (.getfield 212, 3) := by decide +kernel
theorem dX8_sum_124 : decode cX8_sum 124 = .ok (.bipush 12, 2) := by decide +kernel
theorem dX8_sum_126 : decode cX8_sum 126 = .ok (.if_icmp .ne 7, 3) := by decide +kernel
theorem dX8_sum_129 : decode cX8_sum 129 = .ok (.iconst 1, 1) := by decide +kernel
theorem dX8_sum_130 : decode cX8_sum 130 = .ok (.goto 4, 3) := by decide +kernel
theorem dX8_sum_133 : decode cX8_sum 133 = .ok (.iconst 0, 1) := by decide +kernel
theorem dX8_sum_134 : decode cX8_sum 134 = .ok (.istore_n 2, 1) := by decide +kernel
theorem dX8_sum_135 : decode cX8_sum 135 = .ok (.iload_n 2, 1) := by decide +kernel
theorem dX8_sum_136 : decode cX8_sum 136 = .ok (.ifCond .eq 31, 3) := by decide +kernel
theorem dX8_sum_139 : decode cX8_sum 139 = .ok (.aload_n 1, 1) := by decide +kernel
theorem dX8_sum_140 : decode cX8_sum 140 = .ok (.getfield 213, 3) := by decide +kernel
theorem dX8_sum_143 : decode cX8_sum 143 = .ok (.invokestatic 205, 3) := by decide +kernel
theorem dX8_sum_146 : decode cX8_sum 146 = .ok (.ifCond .eq 21, 3) := by decide +kernel
theorem dX8_sum_149 : decode cX8_sum 149 = .ok (.aload_n 1, 1) := by decide +kernel
theorem dX8_sum_150 : decode cX8_sum 150 = .ok (.getfield 213, 3) := by decide +kernel
theorem dX8_sum_153 : decode cX8_sum 153 = .ok (.lstore_n 3, 1) := by decide +kernel
theorem dX8_sum_154 : decode cX8_sum 154 = .ok (.aload_n 1, 1) := by decide +kernel
theorem dX8_sum_155 : decode cX8_sum 155 = .ok (.aload_n 1, 1) := by decide +kernel
theorem dX8_sum_156 : decode cX8_sum 156 = .ok (.getfield 218, 3) := by decide +kernel
theorem dX8_sum_159 : decode cX8_sum 159 = .ok (.putfield 213, 3) := by decide +kernel
theorem dX8_sum_162 : decode cX8_sum 162 = .ok (.aload_n 1, 1) := by decide +kernel
theorem dX8_sum_163 : decode cX8_sum 163 = .ok (.lload_n 3, 1) := by decide +kernel
theorem dX8_sum_164 : decode cX8_sum 164 = .ok (.putfield 218, 3) := by decide +kernel
theorem dX8_sum_167 : decode cX8_sum 167 = .ok (.aload_n 1, 1) := by decide +kernel
theorem dX8_sum_168 : decode cX8_sum 168 = .ok (.getfield 218, 3) := by decide +kernel
theorem dX8_sum_171 : decode cX8_sum 171 = .ok (.invokestatic 205, 3) := by decide +kernel
theorem dX8_sum_174 : decode cX8_sum 174 = .ok (.ifCond .eq 15, 3) := by decide +kernel
theorem dX8_sum_177 : decode cX8_sum 177 = .ok (.aload_n 1, 1) := by decide +kernel
theorem dX8_sum_178 : decode cX8_sum 178 = .ok (.aload_n 1, 1) := by decide +kernel
theorem dX8_sum_179 : decode cX8_sum 179 = .ok (.getfield 218, 3) := by decide +kernel
theorem dX8_sum_182 : decode cX8_sum 182 = .ok (.l2i, 1) := by decide +kernel
theorem dX8_sum_183 : decode cX8_sum 183 = .ok (.invokestatic 384, 3) := by decide +kernel
theorem dX8_sum_186 : decode cX8_sum 186 = .ok (.goto 32, 3) := by decide +kernel
theorem dX8_sum_189 : decode cX8_sum 189 = .ok (.aload_n 0, 1) := by decide +kernel
theorem dX8_sum_190 : decode cX8_sum 190 = .ok (.aload_n 1, 1) := by decide +kernel
theorem dX8_sum_191 : decode cX8_sum 191 = .ok (.getfield 213, 3) := by decide +kernel
theorem dX8_sum_194 : decode cX8_sum 194 = .ok (.invokevirtual 322, 3) := by decide +kernel
theorem dX8_sum_197 : decode cX8_sum 197 = .ok (.aload_n 0, 1) := by decide +kernel
theorem dX8_sum_198 : decode cX8_sum 198 = .ok (.aload_n 1, 1) := by decide +kernel
theorem dX8_sum_199 : decode cX8_sum 199 = .ok (.getfield 218, 3) := by decide +kernel
theorem dX8_sum_202 : decode cX8_sum 202 = .ok (.invokevirtual 322, 3) := by decide +kernel
theorem dX8_sum_205 : decode cX8_sum 205 = .ok (.if_icmp .ne 10, 3) := by decide +kernel
theorem dX8_sum_208 : decode cX8_sum 208 = .ok (.aload_n 1, 1) := by decide +kernel
theorem dX8_sum_209 : decode cX8_sum 209 = .ok (.invokestatic 388, 3) := by decide +kernel
theorem dX8_sum_212 : decode cX8_sum 212 = .ok (.goto 6, 3) := by decide +kernel
theorem dX8_sum_215 : decode cX8_sum 215 = .ok (.ldc2_w 392, 3) := by decide +kernel
theorem dX8_sum_218 : decode cX8_sum 218 = .ok (.lstore_n 3, 1) := by decide +kernel
theorem dX8_sum_219 : decode cX8_sum 219 = .ok (.lload_n 3, 1) := by decide +kernel
theorem dX8_sum_220 : decode cX8_sum 220 = .ok (.lconst 0, 1) := by decide +kernel
theorem dX8_sum_221 : decode cX8_sum 221 = .ok (.lcmp, 1) := by decide +kernel
theorem dX8_sum_222 : decode cX8_sum 222 = .ok (.ifCond .lt 10, 3) := by decide +kernel
theorem dX8_sum_225 : decode cX8_sum 225 = .ok (.aload_n 0, 1) := by decide +kernel
theorem dX8_sum_226 : decode cX8_sum 226 = .ok (.aload_n 1, 1) := by decide +kernel
theorem dX8_sum_227 : decode cX8_sum 227 = .ok (.lload_n 3, 1) := by decide +kernel
theorem dX8_sum_228 : decode cX8_sum 228 = .ok (.invokevirtual 351, 3) := by decide +kernel
theorem dX8_sum_231 : decode cX8_sum 231 = .ok (.return_, 1) := by decide +kernel
theorem dX8_sum_232 : decode cX8_sum 232 = .ok (.aload_n 0, 1) := by decide +kernel
theorem dX8_sum_233 : decode cX8_sum 233 = .ok (.aload_n 1, 1) := by decide +kernel
theorem dX8_sum_234 : decode cX8_sum 234 = .ok (.getfield 213, 3) := by decide +kernel
theorem dX8_sum_237 : decode cX8_sum 237 = .ok (.invokevirtual 322, 3) := by decide +kernel
theorem dX8_sum_240 : decode cX8_sum 240 = .ok (.istore 5, 2) := by decide +kernel
theorem dX8_sum_242 : decode cX8_sum 242 = .ok (.aload_n 0, 1) := by decide +kernel
theorem dX8_sum_243 : decode cX8_sum 243 = .ok (.aload_n 1, 1) := by decide +kernel
theorem dX8_sum_244 : decode cX8_sum 244 = .ok (.getfield 218, 3) := by decide +kernel
theorem dX8_sum_247 : decode cX8_sum 247 = .ok (.invokevirtual 322, 3) := by decide +kernel
theorem dX8_sum_250 : decode cX8_sum 250 = .ok (.istore 6, 2) := by decide +kernel
theorem dX8_sum_252 : decode cX8_sum 252 = .ok (.iload_n 2, 1) := by decide +kernel
theorem dX8_sum_253 : decode cX8_sum 253 = .ok (.ifCond .eq 24, 3) := by decide +kernel
theorem dX8_sum_256 : decode cX8_sum 256 = .ok (.iload 5, 2) := by decide +kernel
theorem dX8_sum_258 : decode cX8_sum 258 = .ok (.iload 6, 2) := by decide +kernel
theorem dX8_sum_260 : decode cX8_sum 260 = .ok (.if_icmp .le 17, 3) := by decide +kernel
theorem dX8_sum_263 : decode cX8_sum 263 = .ok (.aload_n 1, 1) := by decide +kernel
theorem dX8_sum_264 : decode cX8_sum 264 = .ok (.getfield 218, 3) := by decide +kernel
theorem dX8_sum_267 : decode cX8_sum 267 = .ok (.invokestatic 205, 3) := by decide +kernel
theorem dX8_sum_270 : decode cX8_sum 270 = .ok (.ifCond .ne 7, 3) := by decide +kernel
theorem dX8_sum_273 : decode cX8_sum 273 = .ok (.iconst 1, 1) := by decide +kernel
theorem dX8_sum_274 : decode cX8_sum 274 = .ok (.goto 4, 3) := by decide +kernel
theorem dX8_sum_277 : decode cX8_sum 277 = .ok (.iconst 0, 1) := by decide +kernel
theorem dX8_sum_278 : decode cX8_sum 278 = .ok (.istore 7, 2) := by decide +kernel
theorem dX8_sum_280 : decode cX8_sum 280 = .ok (.aload_n 0, 1) := by decide +kernel
theorem dX8_sum_281 : decode cX8_sum 281 = .ok (.aload_n 1, 1) := by decide +kernel
theorem dX8_sum_282 : decode cX8_sum 282 = .ok (.iload 7, 2) := by decide +kernel
theorem dX8_sum_284 : decode cX8_sum 284 = .ok (.ifCond .eq 8, 3) := by decide +kernel
theorem dX8_sum_287 : decode cX8_sum 287 = .ok (.iload 6, 2) := by decide +kernel
theorem dX8_sum_289 : decode cX8_sum 289 = .ok (.goto 5, 3) := by decide +kernel
theorem dX8_sum_292 : decode cX8_sum 292 = .ok (.iload 5, 2) := by decide +kernel
theorem dX8_sum_294 : decode cX8_sum 294 = .ok (.iload 7, 2) := by decide +kernel
theorem dX8_sum_296 : decode cX8_sum 296 = .ok (.ifCond .eq 8, 3) := by decide +kernel
theorem dX8_sum_299 : decode cX8_sum 299 = .ok (.iload 5, 2) := by decide +kernel
theorem dX8_sum_301 : decode cX8_sum 301 = .ok (.goto 5, 3) := by decide +kernel
theorem dX8_sum_304 : decode cX8_sum 304 = .ok (.iload 6, 2) := by decide +kernel
theorem dX8_sum_306 : decode cX8_sum 306 = .ok (.invokevirtual 358, 3) := by decide +kernel
theorem dX8_sum_309 : decode cX8_sum 309 = .ok (.return_, 1) := by decide +kernel
theorem dX8_fit_0 : decode cX8_fit 0 = .ok (.aload_n 0, 1) := by decide +kernel
theorem dX8_fit_1 : decode cX8_fit 1 = .ok (.lload_n 1, 1) := by decide +kernel
theorem dX8_fit_2 : decode cX8_fit 2 = .ok (.invokevirtual 322, 3) := by decide +kernel
theorem dX8_fit_5 : decode cX8_fit 5 = .ok (.istore_n 3, 1) := by decide +kernel
theorem dX8_fit_6 : decode cX8_fit 6 = .ok (.aload_n 0, 1) := by decide +kernel
theorem dX8_fit_7 : decode cX8_fit 7 = .ok (.getfield 272, 3) := by decide +kernel
theorem dX8_fit_10 : decode cX8_fit 10 = .ok (.iload_n 3, 1) := by decide +kernel
theorem dX8_fit_11 : decode cX8_fit 11 = .ok (.baload, 1) := by decide +kernel
theorem dX8_fit_12 : decode cX8_fit 12 = .ok (.ifCond .eq 15, 3) := by decide +kernel
theorem dX8_fit_15 : decode cX8_fit 15 = .ok (.aload_n 0, 1) := by decide +kernel
theorem dX8_fit_16 : decode cX8_fit 16 = .ok (.getfield 269, 3) := by decide +kernel
theorem dX8_fit_19 : decode cX8_fit 19 = .ok (.iload_n 3, 1) := by decide +kernel
theorem dX8_fit_20 : decode cX8_fit 20 = .ok (.iaload, 1) := by decide +kernel
theorem dX8_fit_21 : decode cX8_fit 21 = .ok (.invokestatic 325, 3) := by decide +kernel
theorem dX8_fit_24 : decode cX8_fit 24 = .ok (.goto 28, 3) := by decide +kernel
theorem dX8_fit_27 : decode cX8_fit 27 = .ok (.aload_n 0, 1) := by decide +kernel
theorem dX8_fit_28 : decode cX8_fit 28 = .ok (.aload_n 0, 1) := by decide +kernel
theorem dX8_fit_29 : decode cX8_fit 29 = .ok (.getfield 49, 3) := by decide +kernel
theorem dX8_fit_32 : decode cX8_fit 32 = .ok (.iload_n 3, 1) := by decide +kernel
theorem dX8_fit_33 : decode cX8_fit 33 = .ok (.iaload, 1) := by decide +kernel
theorem dX8_fit_34 : decode cX8_fit 34 = .ok (.iload_n 3, 1) := by decide +kernel
theorem dX8_fit_35 : decode cX8_fit 35 = .ok (.invokevirtual 318, 3) := by decide +kernel
theorem dX8_fit_38 : decode cX8_fit 38 = .ok (.ifCond .eq 13, 3) := by decide +kernel
theorem dX8_fit_41 : decode cX8_fit 41 = .ok (.aload_n 0, 1) := by decide +kernel
theorem dX8_fit_42 : decode cX8_fit 42 = .ok (.getfield 49, 3) := by decide +kernel
theorem dX8_fit_45 : decode cX8_fit 45 = .ok (.iload_n 3, 1) := by decide +kernel
theorem dX8_fit_46 : decode cX8_fit 46 = .ok (.iaload, 1) := by decide +kernel
theorem dX8_fit_47 : decode cX8_fit 47 = .ok (.i2l, 1) := by decide +kernel
theorem dX8_fit_48 : decode cX8_fit 48 = .ok (.goto 4, 3) := by decide +kernel
theorem dX8_fit_51 : decode cX8_fit 51 = .ok (.lload_n 1, 1) := by decide +kernel
theorem dX8_fit_52 : decode cX8_fit 52 = .ok (.lreturn, 1) := by decide +kernel
theorem dX8_number_0 : decode cX8_number 0 = .ok (.lload_n 1, 1) := by decide +kernel
theorem dX8_number_1 : decode cX8_number 1 = .ok (.invokestatic 205, 3) := by decide +kernel
theorem dX8_number_4 : decode cX8_number 4 = .ok (.ifCond .eq 10, 3) := by decide +kernel
theorem dX8_number_7 : decode cX8_number 7 = .ok (.aload_n 0, 1) := by decide +kernel
theorem dX8_number_8 : decode cX8_number 8 = .ok (.lload_n 1, 1) := by decide +kernel
theorem dX8_number_9 : decode cX8_number 9 = .ok (.l2i, 1) := by decide +kernel
theorem dX8_number_10 : decode cX8_number 10 = .ok (.invokevirtual 230, 3) := by decide +kernel
theorem dX8_number_13 : decode cX8_number 13 = .ok (.ireturn, 1) := by decide +kernel
theorem dX8_number_14 : decode cX8_number 14 = .ok (.lload_n 1, 1) := by decide +kernel
theorem dX8_number_15 : decode cX8_number 15 = .ok (.l2i, 1) := by decide +kernel
theorem dX8_number_16 : decode cX8_number 16 = .ok (.istore_n 3, 1) := by decide +kernel
theorem dX8_number_17 : decode cX8_number 17 = .ok (.aload_n 0, 1) := by decide +kernel
theorem dX8_number_18 : decode cX8_number 18 = .ok (.getfield 46, 3) := by decide +kernel
theorem dX8_number_21 : decode cX8_number 21 = .ok (.iload_n 3, 1) := by decide +kernel
theorem dX8_number_22 : decode cX8_number 22 = .ok (.iaload, 1) := by decide +kernel
theorem dX8_number_23 : decode cX8_number 23 = .ok (.aload_n 0, 1) := by decide +kernel
theorem dX8_number_24 : decode cX8_number 24 = .ok (.getfield 219, 3) := by decide +kernel
theorem dX8_number_27 : decode cX8_number 27 = .ok (.if_icmp .eq 12, 3) := by decide +kernel
theorem dX8_number_30 : decode cX8_number 30 = .ok (.aload_n 0, 1) := by decide +kernel
theorem dX8_number_31 : decode cX8_number 31 = .ok (.iload_n 3, 1) := by decide +kernel
theorem dX8_number_32 : decode cX8_number 32 = .ok (.aload_n 0, 1) := by decide +kernel
theorem dX8_number_33 : decode cX8_number 33 = .ok (.invokevirtual 315, 3) := by decide +kernel
theorem dX8_number_36 : decode cX8_number 36 = .ok (.invokevirtual 234, 3) := by decide +kernel
theorem dX8_number_39 : decode cX8_number 39 = .ok (.aload_n 0, 1) := by decide +kernel
theorem dX8_number_40 : decode cX8_number 40 = .ok (.getfield 43, 3) := by decide +kernel
theorem dX8_number_43 : decode cX8_number 43 = .ok (.iload_n 3, 1) := by decide +kernel
theorem dX8_number_44 : decode cX8_number 44 = .ok (.iaload, 1) := by decide +kernel
theorem dX8_number_45 : decode cX8_number 45 = .ok (.ireturn, 1) := by decide +kernel
theorem dX8_move_0 : decode cX8_move 0 = .ok (.aload_n 1, 1) := by decide +kernel
theorem dX8_move_1 : decode cX8_move 1 = .ok (.bipush 20, 2) := by decide +kernel
theorem dX8_move_3 : decode cX8_move 3 = .ok (.putfield 212, 3) := by decide +kernel
theorem dX8_move_6 : decode cX8_move 6 = .ok (.aload_n 1, 1) := by decide +kernel
theorem dX8_move_7 : decode cX8_move 7 = .ok (.aload_n 0, 1) := by decide +kernel
theorem dX8_move_8 : decode cX8_move 8 = .ok (.lload_n 2, 1) := by decide +kernel
theorem dX8_move_9 : decode cX8_move 9 = .ok (.invokevirtual 331, 3) := by decide +kernel
theorem dX8_move_12 : decode cX8_move 12 = .ok (.putfield 213, 3) := by decide +kernel
theorem dX8_move_15 : decode cX8_move 15 = .ok (.aload_n 1, 1) := by decide +kernel
theorem dX8_move_16 : decode cX8_move 16 = .ok (.lconst 0, 1) := by decide +kernel
theorem dX8_move_17 : decode cX8_move 17 = .ok (.putfield 218, 3) := by decide +kernel
theorem dX8_move_20 : decode cX8_move 20 = .ok (.aload_n 1, 1) := by decide +kernel
theorem dX8_move_21 : decode cX8_move 21 = .ok (.aconst_null, 1) := by decide +kernel
theorem dX8_move_22 : decode cX8_move 22 = .ok (.putfield 335, 3) := by decide +kernel
theorem dX8_move_25 : decode cX8_move 25 = .ok (.aload_n 0, 1) := by decide +kernel
theorem dX8_move_26 : decode cX8_move 26 = .ok (.aload_n 1, 1) := by decide +kernel
theorem dX8_move_27 : decode cX8_move 27 = .ok (.getfield 213, 3) := by decide +kernel
theorem dX8_move_30 : decode cX8_move 30 = .ok (.invokevirtual 322, 3) := by decide +kernel
theorem dX8_move_33 : decode cX8_move 33 = .ok (.istore 4, 2) := by decide +kernel
theorem dX8_move_35 : decode cX8_move 35 = .ok (.aload_n 1, 1) := by decide +kernel
theorem dX8_move_36 : decode cX8_move 36 = .ok (.getfield 213, 3) := by decide +kernel
theorem dX8_move_39 : decode cX8_move 39 = .ok (.invokestatic 205, 3) := by decide +kernel
theorem dX8_move_42 : decode cX8_move 42 = .ok (.ifCond .ne 16, 3) := by decide +kernel
theorem dX8_move_45 : decode cX8_move 45 = .ok (.aload_n 1, 1) := by decide +kernel
theorem dX8_move_46 : decode cX8_move 46 = .ok (.getfield 213, 3) := by decide +kernel
theorem dX8_move_49 : decode cX8_move 49 = .ok (.l2i, 1) := by decide +kernel
theorem dX8_move_50 : decode cX8_move 50 = .ok (.aload_n 1, 1) := by decide +kernel
theorem dX8_move_51 : decode cX8_move 51 = .ok (.getfield 209, 3) := by decide +kernel
theorem dX8_move_54 : decode cX8_move 54 = .ok (.if_icmp .ne 4, 3) := by decide +kernel
theorem dX8_move_57 : decode cX8_move 57 = .ok (.return_, 1) := by decide +kernel
theorem dX8_move_58 : decode cX8_move 58 = .ok (.aload_n 0, 1) := by decide +kernel
theorem dX8_move_59 : decode cX8_move 59 = .ok (.aload_n 1, 1) := by decide +kernel
theorem dX8_move_60 : decode cX8_move 60 = .ok (.getfield 209, 3) := by decide +kernel
theorem dX8_move_63 : decode cX8_move 63 = .ok (.iload 4, 2) := by decide +kernel
theorem dX8_move_65 : decode cX8_move 65 = .ok (.invokevirtual 234, 3) := by decide +kernel
theorem dX8_move_68 : decode cX8_move 68 = .ok (.aload_n 0, 1) := by decide +kernel
theorem dX8_move_69 : decode cX8_move 69 = .ok (.aload_n 1, 1) := by decide +kernel
theorem dX8_move_70 : decode cX8_move 70 = .ok (.invokevirtual 339, 3) := by decide +kernel
theorem dX8_move_73 : decode cX8_move 73 = .ok (.return_, 1) := by decide +kernel
theorem dX8_keep_0 : decode cX8_keep 0 = .ok (.aload_n 0, 1) := by decide +kernel
theorem dX8_keep_1 : decode cX8_keep 1 = .ok (.getfield 238, 3) := by decide +kernel
theorem dX8_keep_4 : decode cX8_keep 4 = .ok (.aload_n 0, 1) := by decide +kernel
theorem dX8_keep_5 : decode cX8_keep 5 = .ok (.getfield 241, 3) := by decide +kernel
theorem dX8_keep_8 : decode cX8_keep 8 = .ok (.aload_n 1, 1) := by decide +kernel
theorem dX8_keep_9 : decode cX8_keep 9 = .ok (.invokevirtual 145, 3) := by decide +kernel
theorem dX8_keep_12 : decode cX8_keep 12 = .ok (.pop, 1) := by decide +kernel
theorem dX8_keep_13 : decode cX8_keep 13 = .ok (.aload_n 0, 1) := by decide +kernel
theorem dX8_keep_14 : decode cX8_keep 14 = .ok (.dup, 1) := by decide +kernel
theorem dX8_keep_15 : decode cX8_keep 15 = .ok (.getfield 241, 3) := by decide +kernel
theorem dX8_keep_18 : decode cX8_keep 18 = .ok (.iconst 1, 1) := by decide +kernel
theorem dX8_keep_19 : decode cX8_keep 19 = .ok (.iadd, 1) := by decide +kernel
theorem dX8_keep_20 : decode cX8_keep 20 = .ok (.putfield 241, 3) := by decide +kernel
theorem dX8_keep_23 : decode cX8_keep 23 = .ok (.return_, 1) := by decide +kernel
theorem dX8_simple_0 : decode cX8_simple 0 = .ok (.aload_n 0, 1) := by decide +kernel
theorem dX8_simple_1 : decode cX8_simple 1 = .ok (.getfield 212, 3) := by decide +kernel
theorem dX8_simple_4 : decode cX8_simple 4 = .ok (.tableswitch 305 0 10 #[89, 60, 141, 220, 273, 193, 89, 89, 123, 123, 123], 60) := by decide +kernel
theorem dX8_simple_64 : decode cX8_simple 64 = .ok (.aload_n 0, 1) := by decide +kernel
theorem dX8_simple_65 : decode cX8_simple 65 = .ok (.iconst 0, 1) := by decide +kernel
theorem dX8_simple_66 : decode cX8_simple 66 = .ok (.putfield 212, 3) := by decide +kernel
theorem dX8_simple_69 : decode cX8_simple 69 = .ok (.aload_n 0, 1) := by decide +kernel
theorem dX8_simple_70 : decode cX8_simple 70 = .ok (.iload_n 1, 1) := by decide +kernel
theorem dX8_simple_71 : decode cX8_simple 71 = .ok (.ineg, 1) := by decide +kernel
theorem dX8_simple_72 : decode cX8_simple 72 = .ok (.invokestatic 325, 3) := by decide +kernel
theorem dX8_simple_75 : decode cX8_simple 75 = .ok (.putfield 218, 3) := by decide +kernel
theorem dX8_simple_78 : decode cX8_simple 78 = .ok (.iload_n 1, 1) := by decide +kernel
theorem dX8_simple_79 : decode cX8_simple 79 = .ok (.ifCond .ne 10, 3) := by decide +kernel
theorem dX8_simple_82 : decode cX8_simple 82 = .ok (.aload_n 0, 1) := by decide +kernel
theorem dX8_simple_83 : decode cX8_simple 83 = .ok (.getfield 213, 3) := by decide +kernel
theorem dX8_simple_86 : decode cX8_simple 86 = .ok (.goto 6, 3) := by decide +kernel
theorem dX8_simple_89 : decode cX8_simple 89 = .ok (.ldc2_w 392, 3) := by decide +kernel
theorem dX8_simple_92 : decode cX8_simple 92 = .ok (.lreturn, 1) := by decide +kernel
theorem dX8_simple_93 : decode cX8_simple 93 = .ok (.aload_n 0, 1) := by decide +kernel
theorem dX8_simple_94 : decode cX8_simple 94 = .ok (.getfield 212, 3) := by decide +kernel
theorem dX8_simple_97 : decode cX8_simple 97 = .ok (.bipush 6, 2) := by decide +kernel
theorem dX8_simple_99 : decode cX8_simple 99 = .ok (.if_icmp .ne 13, 3) := by decide +kernel
theorem dX8_simple_102 : decode cX8_simple 102 = .ok (.iload_n 1, 1) := by decide +kernel
theorem dX8_simple_103 : decode cX8_simple 103 = .ok (.iconst (-1), 1) := by decide +kernel
theorem dX8_simple_104 : decode cX8_simple 104 = .ok (.if_icmp .ne 8, 3) := by decide +kernel
theorem dX8_simple_107 : decode cX8_simple 107 = .ok (.iconst (-1), 1) := by decide +kernel
theorem dX8_simple_108 : decode cX8_simple 108 = .ok (.invokestatic 325, 3) := by decide +kernel
theorem dX8_simple_111 : decode cX8_simple 111 = .ok (.lreturn, 1) := by decide +kernel
theorem dX8_simple_112 : decode cX8_simple 112 = .ok (.iload_n 1, 1) := by decide +kernel
theorem dX8_simple_113 : decode cX8_simple 113 = .ok (.ifCond .ne 10, 3) := by decide +kernel
theorem dX8_simple_116 : decode cX8_simple 116 = .ok (.aload_n 0, 1) := by decide +kernel
theorem dX8_simple_117 : decode cX8_simple 117 = .ok (.getfield 213, 3) := by decide +kernel
theorem dX8_simple_120 : decode cX8_simple 120 = .ok (.goto 6, 3) := by decide +kernel
theorem dX8_simple_123 : decode cX8_simple 123 = .ok (.ldc2_w 392, 3) := by decide +kernel
theorem dX8_simple_126 : decode cX8_simple 126 = .ok (.lreturn, 1) := by decide +kernel
theorem dX8_simple_127 : decode cX8_simple 127 = .ok (.iload_n 1, 1) := by decide +kernel
theorem dX8_simple_128 : decode cX8_simple 128 = .ok (.bipush 31, 2) := by decide +kernel
theorem dX8_simple_130 : decode cX8_simple 130 = .ok (.iand, 1) := by decide +kernel
theorem dX8_simple_131 : decode cX8_simple 131 = .ok (.ifCond .ne 10, 3) := by decide +kernel
theorem dX8_simple_134 : decode cX8_simple 134 = .ok (.aload_n 0, 1) := by decide +kernel
theorem dX8_simple_135 : decode cX8_simple 135 = .ok (.getfield 213, 3) := by decide +kernel
theorem dX8_simple_138 : decode cX8_simple 138 = .ok (.goto 6, 3) := by decide +kernel
theorem dX8_simple_141 : decode cX8_simple 141 = .ok (.ldc2_w 392, 3) := by decide +kernel
theorem dX8_simple_144 : decode cX8_simple 144 = .ok (.lreturn, 1) := by decide +kernel
theorem dX8_simple_145 : decode cX8_simple 145 = .ok (.iload_n 1, 1) := by decide +kernel
theorem dX8_simple_146 : decode cX8_simple 146 = .ok (.ifCond .ne 8, 3) := by decide +kernel
theorem dX8_simple_149 : decode cX8_simple 149 = .ok (.iconst 0, 1) := by decide +kernel
theorem dX8_simple_150 : decode cX8_simple 150 = .ok (.invokestatic 325, 3) := by decide +kernel
theorem dX8_simple_153 : decode cX8_simple 153 = .ok (.lreturn, 1) := by decide +kernel
theorem dX8_simple_154 : decode cX8_simple 154 = .ok (.iload_n 1, 1) := by decide +kernel
theorem dX8_simple_155 : decode cX8_simple 155 = .ok (.iconst 1, 1) := by decide +kernel
theorem dX8_simple_156 : decode cX8_simple 156 = .ok (.if_icmp .ne 8, 3) := by decide +kernel
theorem dX8_simple_159 : decode cX8_simple 159 = .ok (.aload_n 0, 1) := by decide +kernel
theorem dX8_simple_160 : decode cX8_simple 160 = .ok (.getfield 213, 3) := by decide +kernel
theorem dX8_simple_163 : decode cX8_simple 163 = .ok (.lreturn, 1) := by decide +kernel
theorem dX8_simple_164 : decode cX8_simple 164 = .ok (.iload_n 1, 1) := by decide +kernel
theorem dX8_simple_165 : decode cX8_simple 165 = .ok (.ifCond .le 28, 3) := by decide +kernel
theorem dX8_simple_168 : decode cX8_simple 168 = .ok (.iload_n 1, 1) := by decide +kernel
theorem dX8_simple_169 : decode cX8_simple 169 = .ok (.iload_n 1, 1) := by decide +kernel
theorem dX8_simple_170 : decode cX8_simple 170 = .ok (.iconst 1, 1) := by decide +kernel
theorem dX8_simple_171 : decode cX8_simple 171 = .ok (.isub, 1) := by decide +kernel
theorem dX8_simple_172 : decode cX8_simple 172 = .ok (.iand, 1) := by decide +kernel
theorem dX8_simple_173 : decode cX8_simple 173 = .ok (.ifCond .ne 20, 3) := by decide +kernel
theorem dX8_simple_176 : decode cX8_simple 176 = .ok (.aload_n 0, 1) := by decide +kernel
theorem dX8_simple_177 : decode cX8_simple 177 = .ok (.bipush 8, 2) := by decide +kernel
theorem dX8_simple_179 : decode cX8_simple 179 = .ok (.putfield 212, 3) := by decide +kernel
theorem dX8_simple_182 : decode cX8_simple 182 = .ok (.aload_n 0, 1) := by decide +kernel
theorem dX8_simple_183 : decode cX8_simple 183 = .ok (.iload_n 1, 1) := by decide +kernel
theorem dX8_simple_184 : decode cX8_simple 184 = .ok (.invokestatic 394, 3) := by decide +kernel
theorem dX8_simple_187 : decode cX8_simple 187 = .ok (.invokestatic 325, 3) := by decide +kernel
theorem dX8_simple_190 : decode cX8_simple 190 = .ok (.putfield 218, 3) := by decide +kernel
theorem dX8_simple_193 : decode cX8_simple 193 = .ok (.ldc2_w 392, 3) := by decide +kernel
theorem dX8_simple_196 : decode cX8_simple 196 = .ok (.lreturn, 1) := by decide +kernel
theorem dX8_simple_197 : decode cX8_simple 197 = .ok (.iload_n 1, 1) := by decide +kernel
theorem dX8_simple_198 : decode cX8_simple 198 = .ok (.ifCond .ne 10, 3) := by decide +kernel
theorem dX8_simple_201 : decode cX8_simple 201 = .ok (.iconst 0, 1) := by decide +kernel
theorem dX8_simple_202 : decode cX8_simple 202 = .ok (.invokestatic 325, 3) := by decide +kernel
theorem dX8_simple_205 : decode cX8_simple 205 = .ok (.goto 18, 3) := by decide +kernel
theorem dX8_simple_208 : decode cX8_simple 208 = .ok (.iload_n 1, 1) := by decide +kernel
theorem dX8_simple_209 : decode cX8_simple 209 = .ok (.iconst (-1), 1) := by decide +kernel
theorem dX8_simple_210 : decode cX8_simple 210 = .ok (.if_icmp .ne 10, 3) := by decide +kernel
theorem dX8_simple_213 : decode cX8_simple 213 = .ok (.aload_n 0, 1) := by decide +kernel
theorem dX8_simple_214 : decode cX8_simple 214 = .ok (.getfield 213, 3) := by decide +kernel
theorem dX8_simple_217 : decode cX8_simple 217 = .ok (.goto 6, 3) := by decide +kernel
theorem dX8_simple_220 : decode cX8_simple 220 = .ok (.ldc2_w 392, 3) := by decide +kernel
theorem dX8_simple_223 : decode cX8_simple 223 = .ok (.lreturn, 1) := by decide +kernel
theorem dX8_simple_224 : decode cX8_simple 224 = .ok (.iload_n 1, 1) := by decide +kernel
theorem dX8_simple_225 : decode cX8_simple 225 = .ok (.iconst (-1), 1) := by decide +kernel
theorem dX8_simple_226 : decode cX8_simple 226 = .ok (.if_icmp .ne 24, 3) := by decide +kernel
theorem dX8_simple_229 : decode cX8_simple 229 = .ok (.aload_n 0, 1) := by decide +kernel
theorem dX8_simple_230 : decode cX8_simple 230 = .ok (.iconst 1, 1) := by decide +kernel
theorem dX8_simple_231 : decode cX8_simple 231 = .ok (.putfield 212, 3) := by decide +kernel
theorem dX8_simple_234 : decode cX8_simple 234 = .ok (.aload_n 0, 1) := by decide +kernel
theorem dX8_simple_235 : decode cX8_simple 235 = .ok (.aload_n 0, 1) := by decide +kernel
theorem dX8_simple_236 : decode cX8_simple 236 = .ok (.getfield 213, 3) := by decide +kernel
theorem dX8_simple_239 : decode cX8_simple 239 = .ok (.putfield 218, 3) := by decide +kernel
theorem dX8_simple_242 : decode cX8_simple 242 = .ok (.aload_n 0, 1) := by decide +kernel
theorem dX8_simple_243 : decode cX8_simple 243 = .ok (.iconst 0, 1) := by decide +kernel
theorem dX8_simple_244 : decode cX8_simple 244 = .ok (.invokestatic 325, 3) := by decide +kernel
theorem dX8_simple_247 : decode cX8_simple 247 = .ok (.putfield 213, 3) := by decide +kernel
theorem dX8_simple_250 : decode cX8_simple 250 = .ok (.iload_n 1, 1) := by decide +kernel
theorem dX8_simple_251 : decode cX8_simple 251 = .ok (.iconst 1, 1) := by decide +kernel
theorem dX8_simple_252 : decode cX8_simple 252 = .ok (.if_icmp .ne 10, 3) := by decide +kernel
theorem dX8_simple_255 : decode cX8_simple 255 = .ok (.aload_n 0, 1) := by decide +kernel
theorem dX8_simple_256 : decode cX8_simple 256 = .ok (.getfield 213, 3) := by decide +kernel
theorem dX8_simple_259 : decode cX8_simple 259 = .ok (.goto 17, 3) := by decide +kernel
theorem dX8_simple_262 : decode cX8_simple 262 = .ok (.iload_n 1, 1) := by decide +kernel
theorem dX8_simple_263 : decode cX8_simple 263 = .ok (.ifCond .ne 10, 3) := by decide +kernel
theorem dX8_simple_266 : decode cX8_simple 266 = .ok (.iconst (-1), 1) := by decide +kernel
theorem dX8_simple_267 : decode cX8_simple 267 = .ok (.invokestatic 325, 3) := by decide +kernel
theorem dX8_simple_270 : decode cX8_simple 270 = .ok (.goto 6, 3) := by decide +kernel
theorem dX8_simple_273 : decode cX8_simple 273 = .ok (.ldc2_w 392, 3) := by decide +kernel
theorem dX8_simple_276 : decode cX8_simple 276 = .ok (.lreturn, 1) := by decide +kernel
theorem dX8_simple_277 : decode cX8_simple 277 = .ok (.iload_n 1, 1) := by decide +kernel
theorem dX8_simple_278 : decode cX8_simple 278 = .ok (.iconst 1, 1) := by decide +kernel
theorem dX8_simple_279 : decode cX8_simple 279 = .ok (.if_icmp .eq 8, 3) := by decide +kernel
theorem dX8_simple_282 : decode cX8_simple 282 = .ok (.iload_n 1, 1) := by decide +kernel
theorem dX8_simple_283 : decode cX8_simple 283 = .ok (.iconst (-1), 1) := by decide +kernel
theorem dX8_simple_284 : decode cX8_simple 284 = .ok (.if_icmp .ne 10, 3) := by decide +kernel
theorem dX8_simple_287 : decode cX8_simple 287 = .ok (.iconst 0, 1) := by decide +kernel
theorem dX8_simple_288 : decode cX8_simple 288 = .ok (.invokestatic 325, 3) := by decide +kernel
theorem dX8_simple_291 : decode cX8_simple 291 = .ok (.goto 17, 3) := by decide +kernel
theorem dX8_simple_294 : decode cX8_simple 294 = .ok (.iload_n 1, 1) := by decide +kernel
theorem dX8_simple_295 : decode cX8_simple 295 = .ok (.ifCond .ne 10, 3) := by decide +kernel
theorem dX8_simple_298 : decode cX8_simple 298 = .ok (.aload_n 0, 1) := by decide +kernel
theorem dX8_simple_299 : decode cX8_simple 299 = .ok (.getfield 213, 3) := by decide +kernel
theorem dX8_simple_302 : decode cX8_simple 302 = .ok (.goto 6, 3) := by decide +kernel
theorem dX8_simple_305 : decode cX8_simple 305 = .ok (.ldc2_w 392, 3) := by decide +kernel
theorem dX8_simple_308 : decode cX8_simple 308 = .ok (.lreturn, 1) := by decide +kernel
theorem dX8_simple_309 : decode cX8_simple 309 = .ok (.ldc2_w 392, 3) := by decide +kernel
theorem dX8_simple_312 : decode cX8_simple 312 = .ok (.lreturn, 1) := by decide +kernel
theorem dX8_alike_0 : decode cX8_alike 0 = .ok (.aload_n 0, 1) := by decide +kernel
theorem dX8_alike_1 : decode cX8_alike 1 = .ok (.getfield 212, 3) := by decide +kernel
theorem dX8_alike_4 : decode cX8_alike 4 = .ok (.tableswitch 95 1 16 #[80, 95, 95, 95, 85, 85, 80, 95, 95, 95, 90, 80, 80, 95, 95, 90], 80) := by decide +kernel
theorem dX8_alike_84 : decode cX8_alike 84 = .ok (.iconst 0, 1) := by decide +kernel
theorem dX8_alike_85 : decode cX8_alike 85 = .ok (.invokestatic 325, 3) := by decide +kernel
theorem dX8_alike_88 : decode cX8_alike 88 = .ok (.lreturn, 1) := by decide +kernel
theorem dX8_alike_89 : decode cX8_alike 89 = .ok (.aload_n 0, 1) := by decide +kernel
theorem dX8_alike_90 : decode cX8_alike 90 = .ok (.getfield 213, 3) := by decide +kernel
theorem dX8_alike_93 : decode cX8_alike 93 = .ok (.lreturn, 1) := by decide +kernel
theorem dX8_alike_94 : decode cX8_alike 94 = .ok (.iconst 1, 1) := by decide +kernel
theorem dX8_alike_95 : decode cX8_alike 95 = .ok (.invokestatic 325, 3) := by decide +kernel
theorem dX8_alike_98 : decode cX8_alike 98 = .ok (.lreturn, 1) := by decide +kernel
theorem dX8_alike_99 : decode cX8_alike 99 = .ok (.ldc2_w 392, 3) := by decide +kernel
theorem dX8_alike_102 : decode cX8_alike 102 = .ok (.lreturn, 1) := by decide +kernel
