/-! names: X13_function X13_begins X13_formalHere X13_block X13_statement X13_ends X13_simple (tools/names.py) -/
set_option maxRecDepth 100000
theorem q3062 : (Jvm.Cond.fieldLink "CompiledHouseModel" (377 : Nat) "CompiledHouseModel" "breaks" "I") ∈ lw_all := lw_g (lw_at lw_m12 226 rfl) rfl
theorem f_X13_377_12 : xF RX13 377 12 63 := ⟨_, "CompiledHouseModel", rfl, by decide, Or.inl q3062, Or.inl rfl⟩
theorem q3063 : (Jvm.Cond.fieldLink "CompiledHouseModel" (380 : Nat) "CompiledHouseModel" "continues" "I") ∈ lw_all := lw_g (lw_at lw_m12 227 rfl) rfl
theorem f_X13_380_12 : xF RX13 380 12 64 := ⟨_, "CompiledHouseModel", rfl, by decide, Or.inl q3063, Or.inl rfl⟩
theorem q3051 : (Jvm.Cond.fieldLink "CompiledHouseModel" (383 : Nat) "CompiledHouseModel" "ownWords" "I") ∈ lw_all := lw_g (lw_at lw_m12 215 rfl) rfl
theorem f_X13_383_12 : xF RX13 383 12 52 := ⟨_, "CompiledHouseModel", rfl, by decide, Or.inl q3051, Or.inl rfl⟩
theorem q3052 : (Jvm.Cond.fieldLink "CompiledHouseModel" (386 : Nat) "CompiledHouseModel" "ownCells" "I") ∈ lw_all := lw_g (lw_at lw_m12 216 rfl) rfl
theorem f_X13_386_12 : xF RX13 386 12 53 := ⟨_, "CompiledHouseModel", rfl, by decide, Or.inl q3052, Or.inl rfl⟩
theorem q3050 : (Jvm.Cond.fieldLink "CompiledHouseModel" (389 : Nat) "CompiledHouseModel" "loops" "I") ∈ lw_all := lw_g (lw_at lw_m12 214 rfl) rfl
theorem f_X13_389_12 : xF RX13 389 12 51 := ⟨_, "CompiledHouseModel", rfl, by decide, Or.inl q3050, Or.inl rfl⟩
theorem q3506 : (Jvm.Cond.methodLink "CompiledHouseModel" (392 : Nat) ({ cls := "CompiledHouseModel", name := "begins", desc := "()V" } : Jvm.MethodName)) ∈ lw_all := lw_g (lw_at lw_m14 190 rfl) rfl
abbrev cX13_begins : ByteArray := prog_39_method_41_code
def yX13_begins : MethodName := ⟨RX13, "begins", "()V"⟩
theorem q3509 : (Jvm.Cond.code ({ cls := "CompiledHouseModel", name := "begins", desc := "()V" } : Jvm.MethodName) prog_39_method_41_code (1 : Nat) (Option.none : Option Jvm.ClassFile.FieldType)) ∈ lw_all := lw_g (lw_at lw_m14 193 rfl) rfl
def kX13_begins : xK := (yX13_begins, cX13_begins, 1, none, [])
theorem me_X13_begins : xMe kX13_begins 0 := ⟨q3509, q216, by decide, by decide, by decide +kernel⟩
theorem q3508 : (Jvm.Cond.instanceMethod ({ cls := "CompiledHouseModel", name := "begins", desc := "()V" } : Jvm.MethodName)) ∈ lw_all := lw_g (lw_at lw_m14 192 rfl) rfl
theorem is_X13_begins : Cond.instanceMethod kX13_begins.y ∈ lw_all := q3508
theorem se_X13_begins : Cond.selects RX13 kX13_begins.y kX13_begins.y ∈ lw_all := qs161
theorem lk_X13_392 : xLk RX13 392 yX13_begins := Or.inl q3506
theorem q3510 : (Jvm.Cond.methodLink "CompiledHouseModel" (395 : Nat) ({ cls := "CompiledHouseModel", name := "formalHere", desc := "(I)I" } : Jvm.MethodName)) ∈ lw_all := lw_g (lw_at lw_m14 194 rfl) rfl
abbrev cX13_formalHere : ByteArray := prog_39_method_44_code
def yX13_formalHere : MethodName := ⟨RX13, "formalHere", "(I)I"⟩
theorem q3513 : (Jvm.Cond.code ({ cls := "CompiledHouseModel", name := "formalHere", desc := "(I)I" } : Jvm.MethodName) prog_39_method_44_code (5 : Nat) (Option.some Jvm.ClassFile.FieldType.int)) ∈ lw_all := lw_g (lw_at lw_m14 197 rfl) rfl
def kX13_formalHere : xK := (yX13_formalHere, cX13_formalHere, 5, some .int, [])
theorem me_X13_formalHere : xMe kX13_formalHere 1 := ⟨q3513, q216, by decide, by decide, by decide +kernel⟩
theorem q3512 : (Jvm.Cond.instanceMethod ({ cls := "CompiledHouseModel", name := "formalHere", desc := "(I)I" } : Jvm.MethodName)) ∈ lw_all := lw_g (lw_at lw_m14 196 rfl) rfl
theorem is_X13_formalHere : Cond.instanceMethod kX13_formalHere.y ∈ lw_all := q3512
theorem se_X13_formalHere : Cond.selects RX13 kX13_formalHere.y kX13_formalHere.y ∈ lw_all := qs162
theorem lk_X13_395 : xLk RX13 395 yX13_formalHere := Or.inl q3510
theorem q3514 : (Jvm.Cond.methodLink "CompiledHouseModel" (398 : Nat) ({ cls := "CompiledHouseModel", name := "block", desc := "()Z" } : Jvm.MethodName)) ∈ lw_all := lw_g (lw_at lw_m14 198 rfl) rfl
abbrev cX13_block : ByteArray := prog_39_method_45_code
def yX13_block : MethodName := ⟨RX13, "block", "()Z"⟩
theorem q3517 : (Jvm.Cond.code ({ cls := "CompiledHouseModel", name := "block", desc := "()Z" } : Jvm.MethodName) prog_39_method_45_code (1 : Nat) (Option.some Jvm.ClassFile.FieldType.boolean)) ∈ lw_all := lw_g (lw_at lw_m14 201 rfl) rfl
def kX13_block : xK := (yX13_block, cX13_block, 1, some .boolean, [])
theorem me_X13_block : xMe kX13_block 0 := ⟨q3517, q216, by decide, by decide, by decide +kernel⟩
theorem q3516 : (Jvm.Cond.instanceMethod ({ cls := "CompiledHouseModel", name := "block", desc := "()Z" } : Jvm.MethodName)) ∈ lw_all := lw_g (lw_at lw_m14 200 rfl) rfl
theorem is_X13_block : Cond.instanceMethod kX13_block.y ∈ lw_all := q3516
theorem se_X13_block : Cond.selects RX13 kX13_block.y kX13_block.y ∈ lw_all := qs163
theorem lk_X13_398 : xLk RX13 398 yX13_block := Or.inl q3514
theorem q3522 : (Jvm.Cond.methodLink "CompiledHouseModel" (405 : Nat) ({ cls := "CompiledHouseModel", name := "ends", desc := "(I)V" } : Jvm.MethodName)) ∈ lw_all := lw_g (lw_at lw_m14 206 rfl) rfl
abbrev cX13_ends : ByteArray := prog_39_method_42_code
def yX13_ends : MethodName := ⟨RX13, "ends", "(I)V"⟩
theorem q3525 : (Jvm.Cond.code ({ cls := "CompiledHouseModel", name := "ends", desc := "(I)V" } : Jvm.MethodName) prog_39_method_42_code (2 : Nat) (Option.none : Option Jvm.ClassFile.FieldType)) ∈ lw_all := lw_g (lw_at lw_m14 209 rfl) rfl
def kX13_ends : xK := (yX13_ends, cX13_ends, 2, none, [])
theorem me_X13_ends : xMe kX13_ends 1 := ⟨q3525, q216, by decide, by decide, by decide +kernel⟩
theorem q3524 : (Jvm.Cond.instanceMethod ({ cls := "CompiledHouseModel", name := "ends", desc := "(I)V" } : Jvm.MethodName)) ∈ lw_all := lw_g (lw_at lw_m14 208 rfl) rfl
theorem is_X13_ends : Cond.instanceMethod kX13_ends.y ∈ lw_all := q3524
theorem se_X13_ends : Cond.selects RX13 kX13_ends.y kX13_ends.y ∈ lw_all := qs165
theorem lk_X13_405 : xLk RX13 405 yX13_ends := Or.inl q3522
theorem q3518 : (Jvm.Cond.methodLink "CompiledHouseModel" (408 : Nat) ({ cls := "CompiledHouseModel", name := "statement", desc := "()Z" } : Jvm.MethodName)) ∈ lw_all := lw_g (lw_at lw_m14 202 rfl) rfl
abbrev cX13_statement : ByteArray := prog_39_method_47_code
def yX13_statement : MethodName := ⟨RX13, "statement", "()Z"⟩
theorem q3521 : (Jvm.Cond.code ({ cls := "CompiledHouseModel", name := "statement", desc := "()Z" } : Jvm.MethodName) prog_39_method_47_code (3 : Nat) (Option.some Jvm.ClassFile.FieldType.boolean)) ∈ lw_all := lw_g (lw_at lw_m14 205 rfl) rfl
def kX13_statement : xK := (yX13_statement, cX13_statement, 3, some .boolean, [])
theorem me_X13_statement : xMe kX13_statement 0 := ⟨q3521, q216, by decide, by decide, by decide +kernel⟩
theorem q3520 : (Jvm.Cond.instanceMethod ({ cls := "CompiledHouseModel", name := "statement", desc := "()Z" } : Jvm.MethodName)) ∈ lw_all := lw_g (lw_at lw_m14 204 rfl) rfl
theorem is_X13_statement : Cond.instanceMethod kX13_statement.y ∈ lw_all := q3520
theorem se_X13_statement : Cond.selects RX13 kX13_statement.y kX13_statement.y ∈ lw_all := qs164
theorem lk_X13_408 : xLk RX13 408 yX13_statement := Or.inl q3518
theorem q3526 : (Jvm.Cond.methodLink "CompiledHouseModel" (411 : Nat) ({ cls := "CompiledHouseModel", name := "simple", desc := "()Z" } : Jvm.MethodName)) ∈ lw_all := lw_g (lw_at lw_m14 210 rfl) rfl
abbrev cX13_simple : ByteArray := prog_39_method_58_code
def yX13_simple : MethodName := ⟨RX13, "simple", "()Z"⟩
theorem q3529 : (Jvm.Cond.code ({ cls := "CompiledHouseModel", name := "simple", desc := "()Z" } : Jvm.MethodName) prog_39_method_58_code (11 : Nat) (Option.some Jvm.ClassFile.FieldType.boolean)) ∈ lw_all := lw_g (lw_at lw_m14 213 rfl) rfl
def kX13_simple : xK := (yX13_simple, cX13_simple, 11, some .boolean, [])
theorem me_X13_simple : xMe kX13_simple 0 := ⟨q3529, q216, by decide, by decide, by decide +kernel⟩
theorem q3528 : (Jvm.Cond.instanceMethod ({ cls := "CompiledHouseModel", name := "simple", desc := "()Z" } : Jvm.MethodName)) ∈ lw_all := lw_g (lw_at lw_m14 212 rfl) rfl
theorem is_X13_simple : Cond.instanceMethod kX13_simple.y ∈ lw_all := q3528
theorem se_X13_simple : Cond.selects RX13 kX13_simple.y kX13_simple.y ∈ lw_all := qs166
theorem lk_X13_411 : xLk RX13 411 yX13_simple := Or.inl q3526
theorem q3530 : (Jvm.Cond.methodLink "CompiledHouseModel" (414 : Nat) ({ cls := "CompiledHouseModel", name := "tellHere", desc := "(Z)Z" } : Jvm.MethodName)) ∈ lw_all := lw_g (lw_at lw_m14 214 rfl) rfl
abbrev cX13_tellHere : ByteArray := prog_39_method_48_code
def yX13_tellHere : MethodName := ⟨RX13, "tellHere", "(Z)Z"⟩
theorem q3533 : (Jvm.Cond.code ({ cls := "CompiledHouseModel", name := "tellHere", desc := "(Z)Z" } : Jvm.MethodName) prog_39_method_48_code (6 : Nat) (Option.some Jvm.ClassFile.FieldType.boolean)) ∈ lw_all := lw_g (lw_at lw_m14 217 rfl) rfl
def kX13_tellHere : xK := (yX13_tellHere, cX13_tellHere, 6, some .boolean, [])
theorem me_X13_tellHere : xMe kX13_tellHere 1 := ⟨q3533, q216, by decide, by decide, by decide +kernel⟩
theorem q3532 : (Jvm.Cond.instanceMethod ({ cls := "CompiledHouseModel", name := "tellHere", desc := "(Z)Z" } : Jvm.MethodName)) ∈ lw_all := lw_g (lw_at lw_m14 216 rfl) rfl
theorem is_X13_tellHere : Cond.instanceMethod kX13_tellHere.y ∈ lw_all := q3532
theorem se_X13_tellHere : Cond.selects RX13 kX13_tellHere.y kX13_tellHere.y ∈ lw_all := qs167
theorem lk_X13_414 : xLk RX13 414 yX13_tellHere := Or.inl q3530
theorem q3538 : (Jvm.Cond.methodLink "CompiledHouseModel" (418 : Nat) ({ cls := "CompiledHouseModel", name := "choice", desc := "()Z" } : Jvm.MethodName)) ∈ lw_all := lw_g (lw_at lw_m14 222 rfl) rfl
abbrev cX13_choice : ByteArray := prog_39_method_50_code
def yX13_choice : MethodName := ⟨RX13, "choice", "()Z"⟩
theorem q3541 : (Jvm.Cond.code ({ cls := "CompiledHouseModel", name := "choice", desc := "()Z" } : Jvm.MethodName) prog_39_method_50_code (3 : Nat) (Option.some Jvm.ClassFile.FieldType.boolean)) ∈ lw_all := lw_g (lw_at lw_m14 225 rfl) rfl
def kX13_choice : xK := (yX13_choice, cX13_choice, 3, some .boolean, [])
theorem me_X13_choice : xMe kX13_choice 0 := ⟨q3541, q216, by decide, by decide, by decide +kernel⟩
theorem q3540 : (Jvm.Cond.instanceMethod ({ cls := "CompiledHouseModel", name := "choice", desc := "()Z" } : Jvm.MethodName)) ∈ lw_all := lw_g (lw_at lw_m14 224 rfl) rfl
theorem is_X13_choice : Cond.instanceMethod kX13_choice.y ∈ lw_all := q3540
theorem se_X13_choice : Cond.selects RX13 kX13_choice.y kX13_choice.y ∈ lw_all := qs169
theorem lk_X13_418 : xLk RX13 418 yX13_choice := Or.inl q3538
theorem q3550 : (Jvm.Cond.methodLink "CompiledHouseModel" (421 : Nat) ({ cls := "CompiledHouseModel", name := "loop", desc := "()Z" } : Jvm.MethodName)) ∈ lw_all := lw_g (lw_at lw_m14 234 rfl) rfl
abbrev cX13_loop : ByteArray := prog_39_method_53_code
def yX13_loop : MethodName := ⟨RX13, "loop", "()Z"⟩
theorem q3553 : (Jvm.Cond.code ({ cls := "CompiledHouseModel", name := "loop", desc := "()Z" } : Jvm.MethodName) prog_39_method_53_code (4 : Nat) (Option.some Jvm.ClassFile.FieldType.boolean)) ∈ lw_all := lw_g (lw_at lw_m14 237 rfl) rfl
def kX13_loop : xK := (yX13_loop, cX13_loop, 4, some .boolean, [])
theorem me_X13_loop : xMe kX13_loop 0 := ⟨q3553, q216, by decide, by decide, by decide +kernel⟩
theorem q3552 : (Jvm.Cond.instanceMethod ({ cls := "CompiledHouseModel", name := "loop", desc := "()Z" } : Jvm.MethodName)) ∈ lw_all := lw_g (lw_at lw_m14 236 rfl) rfl
theorem is_X13_loop : Cond.instanceMethod kX13_loop.y ∈ lw_all := q3552
theorem se_X13_loop : Cond.selects RX13 kX13_loop.y kX13_loop.y ∈ lw_all := qs172
theorem lk_X13_421 : xLk RX13 421 yX13_loop := Or.inl q3550
theorem q3562 : (Jvm.Cond.methodLink "CompiledHouseModel" (424 : Nat) ({ cls := "CompiledHouseModel", name := "turnLoop", desc := "()Z" } : Jvm.MethodName)) ∈ lw_all := lw_g (lw_at lw_m15 6 rfl) rfl
abbrev cX13_turnLoop : ByteArray := prog_39_method_54_code
def yX13_turnLoop : MethodName := ⟨RX13, "turnLoop", "()Z"⟩
theorem q3565 : (Jvm.Cond.code ({ cls := "CompiledHouseModel", name := "turnLoop", desc := "()Z" } : Jvm.MethodName) prog_39_method_54_code (4 : Nat) (Option.some Jvm.ClassFile.FieldType.boolean)) ∈ lw_all := lw_g (lw_at lw_m15 9 rfl) rfl
def kX13_turnLoop : xK := (yX13_turnLoop, cX13_turnLoop, 4, some .boolean, [])
theorem me_X13_turnLoop : xMe kX13_turnLoop 0 := ⟨q3565, q216, by decide, by decide, by decide +kernel⟩
theorem q3564 : (Jvm.Cond.instanceMethod ({ cls := "CompiledHouseModel", name := "turnLoop", desc := "()Z" } : Jvm.MethodName)) ∈ lw_all := lw_g (lw_at lw_m15 8 rfl) rfl
theorem is_X13_turnLoop : Cond.instanceMethod kX13_turnLoop.y ∈ lw_all := q3564
theorem se_X13_turnLoop : Cond.selects RX13 kX13_turnLoop.y kX13_turnLoop.y ∈ lw_all := qs175
theorem lk_X13_424 : xLk RX13 424 yX13_turnLoop := Or.inl q3562
theorem q3566 : (Jvm.Cond.methodLink "CompiledHouseModel" (427 : Nat) ({ cls := "CompiledHouseModel", name := "counted", desc := "()Z" } : Jvm.MethodName)) ∈ lw_all := lw_g (lw_at lw_m15 10 rfl) rfl
abbrev cX13_counted : ByteArray := prog_39_method_55_code
def yX13_counted : MethodName := ⟨RX13, "counted", "()Z"⟩
theorem q3569 : (Jvm.Cond.code ({ cls := "CompiledHouseModel", name := "counted", desc := "()Z" } : Jvm.MethodName) prog_39_method_55_code (7 : Nat) (Option.some Jvm.ClassFile.FieldType.boolean)) ∈ lw_all := lw_g (lw_at lw_m15 13 rfl) rfl
def kX13_counted : xK := (yX13_counted, cX13_counted, 7, some .boolean, [])
theorem me_X13_counted : xMe kX13_counted 0 := ⟨q3569, q216, by decide, by decide, by decide +kernel⟩
theorem q3568 : (Jvm.Cond.instanceMethod ({ cls := "CompiledHouseModel", name := "counted", desc := "()Z" } : Jvm.MethodName)) ∈ lw_all := lw_g (lw_at lw_m15 12 rfl) rfl
theorem is_X13_counted : Cond.instanceMethod kX13_counted.y ∈ lw_all := q3568
theorem se_X13_counted : Cond.selects RX13 kX13_counted.y kX13_counted.y ∈ lw_all := qs176
theorem lk_X13_427 : xLk RX13 427 yX13_counted := Or.inl q3566
theorem q3570 : (Jvm.Cond.methodLink "CompiledHouseModel" (430 : Nat) ({ cls := "CompiledHouseModel", name := "leaves", desc := "()Z" } : Jvm.MethodName)) ∈ lw_all := lw_g (lw_at lw_m15 14 rfl) rfl
abbrev cX13_leaves : ByteArray := prog_39_method_56_code
def yX13_leaves : MethodName := ⟨RX13, "leaves", "()Z"⟩
theorem q3573 : (Jvm.Cond.code ({ cls := "CompiledHouseModel", name := "leaves", desc := "()Z" } : Jvm.MethodName) prog_39_method_56_code (3 : Nat) (Option.some Jvm.ClassFile.FieldType.boolean)) ∈ lw_all := lw_g (lw_at lw_m15 17 rfl) rfl
def kX13_leaves : xK := (yX13_leaves, cX13_leaves, 3, some .boolean, [])
theorem me_X13_leaves : xMe kX13_leaves 0 := ⟨q3573, q216, by decide, by decide, by decide +kernel⟩
theorem q3572 : (Jvm.Cond.instanceMethod ({ cls := "CompiledHouseModel", name := "leaves", desc := "()Z" } : Jvm.MethodName)) ∈ lw_all := lw_g (lw_at lw_m15 16 rfl) rfl
theorem is_X13_leaves : Cond.instanceMethod kX13_leaves.y ∈ lw_all := q3572
theorem se_X13_leaves : Cond.selects RX13 kX13_leaves.y kX13_leaves.y ∈ lw_all := qs177
theorem lk_X13_430 : xLk RX13 430 yX13_leaves := Or.inl q3570
theorem q3574 : (Jvm.Cond.methodLink "CompiledHouseModel" (433 : Nat) ({ cls := "CompiledHouseModel", name := "returns", desc := "()Z" } : Jvm.MethodName)) ∈ lw_all := lw_g (lw_at lw_m15 18 rfl) rfl
abbrev cX13_returns : ByteArray := prog_39_method_57_code
def yX13_returns : MethodName := ⟨RX13, "returns", "()Z"⟩
theorem q3577 : (Jvm.Cond.code ({ cls := "CompiledHouseModel", name := "returns", desc := "()Z" } : Jvm.MethodName) prog_39_method_57_code (1 : Nat) (Option.some Jvm.ClassFile.FieldType.boolean)) ∈ lw_all := lw_g (lw_at lw_m15 21 rfl) rfl
def kX13_returns : xK := (yX13_returns, cX13_returns, 1, some .boolean, [])
theorem me_X13_returns : xMe kX13_returns 0 := ⟨q3577, q216, by decide, by decide, by decide +kernel⟩
theorem q3576 : (Jvm.Cond.instanceMethod ({ cls := "CompiledHouseModel", name := "returns", desc := "()Z" } : Jvm.MethodName)) ∈ lw_all := lw_g (lw_at lw_m15 20 rfl) rfl
theorem is_X13_returns : Cond.instanceMethod kX13_returns.y ∈ lw_all := q3576
theorem se_X13_returns : Cond.selects RX13 kX13_returns.y kX13_returns.y ∈ lw_all := qs178
theorem lk_X13_433 : xLk RX13 433 yX13_returns := Or.inl q3574
theorem dX13_function_0 : decode cX13_function 0 = .ok (.aload_n 0, 1) := by decide +kernel
theorem dX13_function_1 : decode cX13_function 1 = .ok (.iconst 1, 1) := by decide +kernel
theorem dX13_function_2 : decode cX13_function 2 = .ok (.putfield 306, 3) := by decide +kernel
theorem dX13_function_5 : decode cX13_function 5 = .ok (.aload_n 0, 1) := by decide +kernel
theorem dX13_function_6 : decode cX13_function 6 = .ok (.iload_n 2, 1) := by decide +kernel
theorem dX13_function_7 : decode cX13_function 7 = .ok (.invokevirtual 348, 3) := by decide +kernel
theorem dX13_function_10 : decode cX13_function 10 = .ok (.iload_n 1, 1) := by decide +kernel
theorem dX13_function_11 : decode cX13_function 11 = .ok (.bipush 40, 2) := by decide +kernel
theorem dX13_function_13 : decode cX13_function 13 = .ok (.if_icmp .lt 15, 3) := by decide +kernel
theorem dX13_function_16 : decode cX13_function 16 = .ok (.aload_n 0, 1) := by decide +kernel
theorem dX13_function_17 : decode cX13_function 17 = .ok (.bipush 11, 2) := by decide +kernel
theorem dX13_function_19 : decode cX13_function 19 = .ok (.aload_n 0, 1) := by decide +kernel
theorem dX13_function_20 : decode cX13_function 20 = .ok (.getfield 22, 3) := by decide +kernel
theorem dX13_function_23 : decode cX13_function 23 = .ok (.iload_n 2, 1) := by decide +kernel
theorem dX13_function_24 : decode cX13_function 24 = .ok (.iaload, 1) := by decide +kernel
theorem dX13_function_25 : decode cX13_function 25 = .ok (.invokevirtual 352, 3) := by decide +kernel
theorem dX13_function_28 : decode cX13_function 28 = .ok (.aload_n 0, 1) := by decide +kernel
theorem dX13_function_29 : decode cX13_function 29 = .ok (.getfield 245, 3) := by decide +kernel
theorem dX13_function_32 : decode cX13_function 32 = .ok (.ifCond .ne 65, 3) := by decide +kernel
theorem dX13_function_35 : decode cX13_function 35 = .ok (.aload_n 0, 1) := by decide +kernel
theorem dX13_function_36 : decode cX13_function 36 = .ok (.getfield 62, 3) := by decide +kernel
theorem dX13_function_39 : decode cX13_function 39 = .ok (.iload_n 1, 1) := by decide +kernel
theorem dX13_function_40 : decode cX13_function 40 = .ok (.aload_n 0, 1) := by decide +kernel
theorem dX13_function_41 : decode cX13_function 41 = .ok (.getfield 19, 3) := by decide +kernel
theorem dX13_function_44 : decode cX13_function 44 = .ok (.iload_n 2, 1) := by decide +kernel
theorem dX13_function_45 : decode cX13_function 45 = .ok (.iaload, 1) := by decide +kernel
theorem dX13_function_46 : decode cX13_function 46 = .ok (.iastore, 1) := by decide +kernel
theorem dX13_function_47 : decode cX13_function 47 = .ok (.aload_n 0, 1) := by decide +kernel
theorem dX13_function_48 : decode cX13_function 48 = .ok (.getfield 65, 3) := by decide +kernel
theorem dX13_function_51 : decode cX13_function 51 = .ok (.iload_n 1, 1) := by decide +kernel
theorem dX13_function_52 : decode cX13_function 52 = .ok (.aload_n 0, 1) := by decide +kernel
theorem dX13_function_53 : decode cX13_function 53 = .ok (.getfield 22, 3) := by decide +kernel
theorem dX13_function_56 : decode cX13_function 56 = .ok (.iload_n 2, 1) := by decide +kernel
theorem dX13_function_57 : decode cX13_function 57 = .ok (.iaload, 1) := by decide +kernel
theorem dX13_function_58 : decode cX13_function 58 = .ok (.iastore, 1) := by decide +kernel
theorem dX13_function_59 : decode cX13_function 59 = .ok (.aload_n 0, 1) := by decide +kernel
theorem dX13_function_60 : decode cX13_function 60 = .ok (.getfield 86, 3) := by decide +kernel
theorem dX13_function_63 : decode cX13_function 63 = .ok (.iload_n 1, 1) := by decide +kernel
theorem dX13_function_64 : decode cX13_function 64 = .ok (.iload_n 3, 1) := by decide +kernel
theorem dX13_function_65 : decode cX13_function 65 = .ok (.bastore, 1) := by decide +kernel
theorem dX13_function_66 : decode cX13_function 66 = .ok (.aload_n 0, 1) := by decide +kernel
theorem dX13_function_67 : decode cX13_function 67 = .ok (.getfield 80, 3) := by decide +kernel
theorem dX13_function_70 : decode cX13_function 70 = .ok (.iload_n 1, 1) := by decide +kernel
theorem dX13_function_71 : decode cX13_function 71 = .ok (.aload_n 0, 1) := by decide +kernel
theorem dX13_function_72 : decode cX13_function 72 = .ok (.getfield 300, 3) := by decide +kernel
theorem dX13_function_75 : decode cX13_function 75 = .ok (.iastore, 1) := by decide +kernel
theorem dX13_function_76 : decode cX13_function 76 = .ok (.aload_n 0, 1) := by decide +kernel
theorem dX13_function_77 : decode cX13_function 77 = .ok (.getfield 68, 3) := by decide +kernel
theorem dX13_function_80 : decode cX13_function 80 = .ok (.iload_n 1, 1) := by decide +kernel
theorem dX13_function_81 : decode cX13_function 81 = .ok (.iconst 0, 1) := by decide +kernel
theorem dX13_function_82 : decode cX13_function 82 = .ok (.iastore, 1) := by decide +kernel
theorem dX13_function_83 : decode cX13_function 83 = .ok (.aload_n 0, 1) := by decide +kernel
theorem dX13_function_84 : decode cX13_function 84 = .ok (.getfield 83, 3) := by decide +kernel
theorem dX13_function_87 : decode cX13_function 87 = .ok (.iload_n 1, 1) := by decide +kernel
theorem dX13_function_88 : decode cX13_function 88 = .ok (.iconst (-1), 1) := by decide +kernel
theorem dX13_function_89 : decode cX13_function 89 = .ok (.iastore, 1) := by decide +kernel
theorem dX13_function_90 : decode cX13_function 90 = .ok (.aload_n 0, 1) := by decide +kernel
theorem dX13_function_91 : decode cX13_function 91 = .ok (.iload_n 1, 1) := by decide +kernel
theorem dX13_function_92 : decode cX13_function 92 = .ok (.iconst 1, 1) := by decide +kernel
theorem dX13_function_93 : decode cX13_function 93 = .ok (.iadd, 1) := by decide +kernel
theorem dX13_function_94 : decode cX13_function 94 = .ok (.putfield 297, 3) := by decide +kernel
theorem dX13_function_97 : decode cX13_function 97 = .ok (.aload_n 0, 1) := by decide +kernel
theorem dX13_function_98 : decode cX13_function 98 = .ok (.iload_n 1, 1) := by decide +kernel
theorem dX13_function_99 : decode cX13_function 99 = .ok (.putfield 294, 3) := by decide +kernel
theorem dX13_function_102 : decode cX13_function 102 = .ok (.aload_n 0, 1) := by decide +kernel
theorem dX13_function_103 : decode cX13_function 103 = .ok (.iconst (-1), 1) := by decide +kernel
theorem dX13_function_104 : decode cX13_function 104 = .ok (.putfield 377, 3) := by decide +kernel
theorem dX13_function_107 : decode cX13_function 107 = .ok (.aload_n 0, 1) := by decide +kernel
theorem dX13_function_108 : decode cX13_function 108 = .ok (.iconst (-1), 1) := by decide +kernel
theorem dX13_function_109 : decode cX13_function 109 = .ok (.putfield 380, 3) := by decide +kernel
theorem dX13_function_112 : decode cX13_function 112 = .ok (.aload_n 0, 1) := by decide +kernel
theorem dX13_function_113 : decode cX13_function 113 = .ok (.iconst 0, 1) := by decide +kernel
theorem dX13_function_114 : decode cX13_function 114 = .ok (.putfield 383, 3) := by decide +kernel
theorem dX13_function_117 : decode cX13_function 117 = .ok (.aload_n 0, 1) := by decide +kernel
theorem dX13_function_118 : decode cX13_function 118 = .ok (.iconst 0, 1) := by decide +kernel
theorem dX13_function_119 : decode cX13_function 119 = .ok (.putfield 386, 3) := by decide +kernel
theorem dX13_function_122 : decode cX13_function 122 = .ok (.aload_n 0, 1) := by decide +kernel
theorem dX13_function_123 : decode cX13_function 123 = .ok (.iconst 0, 1) := by decide +kernel
theorem dX13_function_124 : decode cX13_function 124 = .ok (.putfield 389, 3) := by decide +kernel
theorem dX13_function_127 : decode cX13_function 127 = .ok (.aload_n 0, 1) := by decide +kernel
theorem dX13_function_128 : decode cX13_function 128 = .ok (.invokevirtual 392, 3) := by decide +kernel
theorem dX13_function_131 : decode cX13_function 131 = .ok (.aload_n 0, 1) := by decide +kernel
theorem dX13_function_132 : decode cX13_function 132 = .ok (.bipush 22, 2) := by decide +kernel
theorem dX13_function_134 : decode cX13_function 134 = .ok (.invokevirtual 356, 3) := by decide +kernel
theorem dX13_function_137 : decode cX13_function 137 = .ok (.ifCond .ne 5, 3) := by decide +kernel
theorem dX13_function_140 : decode cX13_function 140 = .ok (.iconst 0, 1) := by decide +kernel
theorem dX13_function_141 : decode cX13_function 141 = .ok (.ireturn, 1) := by decide +kernel
theorem dX13_function_142 : decode cX13_function 142 = .ok (.iconst 4, 1) := by decide +kernel
theorem dX13_function_143 : decode cX13_function 143 = .ok (.istore 4, 2) := by decide +kernel
theorem dX13_function_145 : decode cX13_function 145 = .ok (.iconst 0, 1) := by decide +kernel
theorem dX13_function_146 : decode cX13_function 146 = .ok (.istore 5, 2) := by decide +kernel
theorem dX13_function_148 : decode cX13_function 148 = .ok (.aload_n 0, 1) := by decide +kernel
theorem dX13_function_149 : decode cX13_function 149 = .ok (.bipush 23, 2) := by decide +kernel
theorem dX13_function_151 : decode cX13_function 151 = .ok (.invokevirtual 257, 3) := by decide +kernel
theorem dX13_function_154 : decode cX13_function 154 = .ok (.ifCond .ne 128, 3) := by decide +kernel
theorem dX13_function_157 : decode cX13_function 157 = .ok (.aload_n 0, 1) := by decide +kernel
theorem dX13_function_158 : decode cX13_function 158 = .ok (.getfield 245, 3) := by decide +kernel
theorem dX13_function_161 : decode cX13_function 161 = .ok (.ifCond .ne 13, 3) := by decide +kernel
theorem dX13_function_164 : decode cX13_function 164 = .ok (.aload_n 0, 1) := by decide +kernel
theorem dX13_function_165 : decode cX13_function 165 = .ok (.getfield 83, 3) := by decide +kernel
theorem dX13_function_168 : decode cX13_function 168 = .ok (.iload_n 1, 1) := by decide +kernel
theorem dX13_function_169 : decode cX13_function 169 = .ok (.aload_n 0, 1) := by decide +kernel
theorem dX13_function_170 : decode cX13_function 170 = .ok (.getfield 233, 3) := by decide +kernel
theorem dX13_function_173 : decode cX13_function 173 = .ok (.iastore, 1) := by decide +kernel
theorem dX13_function_174 : decode cX13_function 174 = .ok (.iconst 1, 1) := by decide +kernel
theorem dX13_function_175 : decode cX13_function 175 = .ok (.istore 6, 2) := by decide +kernel
theorem dX13_function_177 : decode cX13_function 177 = .ok (.iload 6, 2) := by decide +kernel
theorem dX13_function_179 : decode cX13_function 179 = .ok (.ifCond .eq 103, 3) := by decide +kernel
theorem dX13_function_182 : decode cX13_function 182 = .ok (.aload_n 0, 1) := by decide +kernel
theorem dX13_function_183 : decode cX13_function 183 = .ok (.getfield 230, 3) := by decide +kernel
theorem dX13_function_186 : decode cX13_function 186 = .ok (.ifCond .ne 96, 3) := by decide +kernel
theorem dX13_function_189 : decode cX13_function 189 = .ok (.aload_n 0, 1) := by decide +kernel
theorem dX13_function_190 : decode cX13_function 190 = .ok (.iload 5, 2) := by decide +kernel
theorem dX13_function_192 : decode cX13_function 192 = .ok (.invokevirtual 395, 3) := by decide +kernel
theorem dX13_function_195 : decode cX13_function 195 = .ok (.istore 7, 2) := by decide +kernel
theorem dX13_function_197 : decode cX13_function 197 = .ok (.aload_n 0, 1) := by decide +kernel
theorem dX13_function_198 : decode cX13_function 198 = .ok (.getfield 230, 3) := by decide +kernel
theorem dX13_function_201 : decode cX13_function 201 = .ok (.ifCond .le 5, 3) := by decide +kernel
theorem dX13_function_204 : decode cX13_function 204 = .ok (.iconst 0, 1) := by decide +kernel
theorem dX13_function_205 : decode cX13_function 205 = .ok (.ireturn, 1) := by decide +kernel
theorem dX13_function_206 : decode cX13_function 206 = .ok (.aload_n 0, 1) := by decide +kernel
theorem dX13_function_207 : decode cX13_function 207 = .ok (.getfield 245, 3) := by decide +kernel
theorem dX13_function_210 : decode cX13_function 210 = .ok (.ifCond .ne 24, 3) := by decide +kernel
theorem dX13_function_213 : decode cX13_function 213 = .ok (.aload_n 0, 1) := by decide +kernel
theorem dX13_function_214 : decode cX13_function 214 = .ok (.getfield 89, 3) := by decide +kernel
theorem dX13_function_217 : decode cX13_function 217 = .ok (.aload_n 0, 1) := by decide +kernel
theorem dX13_function_218 : decode cX13_function 218 = .ok (.getfield 300, 3) := by decide +kernel
theorem dX13_function_221 : decode cX13_function 221 = .ok (.iload 7, 2) := by decide +kernel
theorem dX13_function_223 : decode cX13_function 223 = .ok (.iastore, 1) := by decide +kernel
theorem dX13_function_224 : decode cX13_function 224 = .ok (.aload_n 0, 1) := by decide +kernel
theorem dX13_function_225 : decode cX13_function 225 = .ok (.dup, 1) := by decide +kernel
theorem dX13_function_226 : decode cX13_function 226 = .ok (.getfield 300, 3) := by decide +kernel
theorem dX13_function_229 : decode cX13_function 229 = .ok (.iconst 1, 1) := by decide +kernel
theorem dX13_function_230 : decode cX13_function 230 = .ok (.iadd, 1) := by decide +kernel
theorem dX13_function_231 : decode cX13_function 231 = .ok (.putfield 300, 3) := by decide +kernel
theorem dX13_function_234 : decode cX13_function 234 = .ok (.iload 4, 2) := by decide +kernel
theorem dX13_function_236 : decode cX13_function 236 = .ok (.iload 7, 2) := by decide +kernel
theorem dX13_function_238 : decode cX13_function 238 = .ok (.ifCond .ne 7, 3) := by decide +kernel
theorem dX13_function_241 : decode cX13_function 241 = .ok (.iconst 1, 1) := by decide +kernel
theorem dX13_function_242 : decode cX13_function 242 = .ok (.goto 4, 3) := by decide +kernel
theorem dX13_function_245 : decode cX13_function 245 = .ok (.iconst 2, 1) := by decide +kernel
theorem dX13_function_246 : decode cX13_function 246 = .ok (.iadd, 1) := by decide +kernel
theorem dX13_function_247 : decode cX13_function 247 = .ok (.istore 4, 2) := by decide +kernel
theorem dX13_function_249 : decode cX13_function 249 = .ok (.iinc 5 1, 3) := by decide +kernel
theorem dX13_function_252 : decode cX13_function 252 = .ok (.aload_n 0, 1) := by decide +kernel
theorem dX13_function_253 : decode cX13_function 253 = .ok (.bipush 28, 2) := by decide +kernel
theorem dX13_function_255 : decode cX13_function 255 = .ok (.invokevirtual 257, 3) := by decide +kernel
theorem dX13_function_258 : decode cX13_function 258 = .ok (.istore 6, 2) := by decide +kernel
theorem dX13_function_260 : decode cX13_function 260 = .ok (.aload_n 0, 1) := by decide +kernel
theorem dX13_function_261 : decode cX13_function 261 = .ok (.dup, 1) := by decide +kernel
theorem dX13_function_262 : decode cX13_function 262 = .ok (.getfield 233, 3) := by decide +kernel
theorem dX13_function_265 : decode cX13_function 265 = .ok (.iload 6, 2) := by decide +kernel
theorem dX13_function_267 : decode cX13_function 267 = .ok (.ifCond .eq 7, 3) := by decide +kernel
theorem dX13_function_270 : decode cX13_function 270 = .ok (.iconst 1, 1) := by decide +kernel
theorem dX13_function_271 : decode cX13_function 271 = .ok (.goto 4, 3) := by decide +kernel
theorem dX13_function_274 : decode cX13_function 274 = .ok (.iconst 0, 1) := by decide +kernel
theorem dX13_function_275 : decode cX13_function 275 = .ok (.iadd, 1) := by decide +kernel
theorem dX13_function_276 : decode cX13_function 276 = .ok (.putfield 233, 3) := by decide +kernel
theorem dX13_function_279 : decode cX13_function 279 = .ok (.goto (-102), 3) := by decide +kernel
theorem dX13_function_282 : decode cX13_function 282 = .ok (.aload_n 0, 1) := by decide +kernel
theorem dX13_function_283 : decode cX13_function 283 = .ok (.bipush 23, 2) := by decide +kernel
theorem dX13_function_285 : decode cX13_function 285 = .ok (.invokevirtual 362, 3) := by decide +kernel
theorem dX13_function_288 : decode cX13_function 288 = .ok (.ifCond .ne 5, 3) := by decide +kernel
theorem dX13_function_291 : decode cX13_function 291 = .ok (.iconst 0, 1) := by decide +kernel
theorem dX13_function_292 : decode cX13_function 292 = .ok (.ireturn, 1) := by decide +kernel
theorem dX13_function_293 : decode cX13_function 293 = .ok (.aload_n 0, 1) := by decide +kernel
theorem dX13_function_294 : decode cX13_function 294 = .ok (.getfield 68, 3) := by decide +kernel
theorem dX13_function_297 : decode cX13_function 297 = .ok (.iload_n 1, 1) := by decide +kernel
theorem dX13_function_298 : decode cX13_function 298 = .ok (.iload 5, 2) := by decide +kernel
theorem dX13_function_300 : decode cX13_function 300 = .ok (.iastore, 1) := by decide +kernel
theorem dX13_function_301 : decode cX13_function 301 = .ok (.aload_n 0, 1) := by decide +kernel
theorem dX13_function_302 : decode cX13_function 302 = .ok (.getfield 77, 3) := by decide +kernel
theorem dX13_function_305 : decode cX13_function 305 = .ok (.iload_n 1, 1) := by decide +kernel
theorem dX13_function_306 : decode cX13_function 306 = .ok (.aload_n 0, 1) := by decide +kernel
theorem dX13_function_307 : decode cX13_function 307 = .ok (.getfield 276, 3) := by decide +kernel
theorem dX13_function_310 : decode cX13_function 310 = .ok (.iastore, 1) := by decide +kernel
theorem dX13_function_311 : decode cX13_function 311 = .ok (.aload_n 0, 1) := by decide +kernel
theorem dX13_function_312 : decode cX13_function 312 = .ok (.bipush 26, 2) := by decide +kernel
theorem dX13_function_314 : decode cX13_function 314 = .ok (.invokevirtual 257, 3) := by decide +kernel
theorem dX13_function_317 : decode cX13_function 317 = .ok (.ifCond .ne 9, 3) := by decide +kernel
theorem dX13_function_320 : decode cX13_function 320 = .ok (.aload_n 0, 1) := by decide +kernel
theorem dX13_function_321 : decode cX13_function 321 = .ok (.iconst 2, 1) := by decide +kernel
theorem dX13_function_322 : decode cX13_function 322 = .ok (.invokevirtual 260, 3) := by decide +kernel
theorem dX13_function_325 : decode cX13_function 325 = .ok (.ireturn, 1) := by decide +kernel
theorem dX13_function_326 : decode cX13_function 326 = .ok (.aload_n 0, 1) := by decide +kernel
theorem dX13_function_327 : decode cX13_function 327 = .ok (.invokevirtual 398, 3) := by decide +kernel
theorem dX13_function_330 : decode cX13_function 330 = .ok (.ifCond .ne 5, 3) := by decide +kernel
theorem dX13_function_333 : decode cX13_function 333 = .ok (.iconst 0, 1) := by decide +kernel
theorem dX13_function_334 : decode cX13_function 334 = .ok (.ireturn, 1) := by decide +kernel
theorem dX13_function_335 : decode cX13_function 335 = .ok (.aload_n 0, 1) := by decide +kernel
theorem dX13_function_336 : decode cX13_function 336 = .ok (.iconst 0, 1) := by decide +kernel
theorem dX13_function_337 : decode cX13_function 337 = .ok (.iconst 0, 1) := by decide +kernel
theorem dX13_function_338 : decode cX13_function 338 = .ok (.iconst 0, 1) := by decide +kernel
theorem dX13_function_339 : decode cX13_function 339 = .ok (.invokevirtual 401, 3) := by decide +kernel
theorem dX13_function_342 : decode cX13_function 342 = .ok (.pop, 1) := by decide +kernel
theorem dX13_function_343 : decode cX13_function 343 = .ok (.aload_n 0, 1) := by decide +kernel
theorem dX13_function_344 : decode cX13_function 344 = .ok (.bipush 17, 2) := by decide +kernel
theorem dX13_function_346 : decode cX13_function 346 = .ok (.iconst 0, 1) := by decide +kernel
theorem dX13_function_347 : decode cX13_function 347 = .ok (.iconst 0, 1) := by decide +kernel
theorem dX13_function_348 : decode cX13_function 348 = .ok (.invokevirtual 401, 3) := by decide +kernel
theorem dX13_function_351 : decode cX13_function 351 = .ok (.pop, 1) := by decide +kernel
theorem dX13_function_352 : decode cX13_function 352 = .ok (.aload_n 0, 1) := by decide +kernel
theorem dX13_function_353 : decode cX13_function 353 = .ok (.getfield 71, 3) := by decide +kernel
theorem dX13_function_356 : decode cX13_function 356 = .ok (.iload_n 1, 1) := by decide +kernel
theorem dX13_function_357 : decode cX13_function 357 = .ok (.iload 4, 2) := by decide +kernel
theorem dX13_function_359 : decode cX13_function 359 = .ok (.aload_n 0, 1) := by decide +kernel
theorem dX13_function_360 : decode cX13_function 360 = .ok (.getfield 383, 3) := by decide +kernel
theorem dX13_function_363 : decode cX13_function 363 = .ok (.iadd, 1) := by decide +kernel
theorem dX13_function_364 : decode cX13_function 364 = .ok (.iastore, 1) := by decide +kernel
theorem dX13_function_365 : decode cX13_function 365 = .ok (.aload_n 0, 1) := by decide +kernel
theorem dX13_function_366 : decode cX13_function 366 = .ok (.getfield 74, 3) := by decide +kernel
theorem dX13_function_369 : decode cX13_function 369 = .ok (.iload_n 1, 1) := by decide +kernel
theorem dX13_function_370 : decode cX13_function 370 = .ok (.aload_n 0, 1) := by decide +kernel
theorem dX13_function_371 : decode cX13_function 371 = .ok (.getfield 386, 3) := by decide +kernel
theorem dX13_function_374 : decode cX13_function 374 = .ok (.iastore, 1) := by decide +kernel
theorem dX13_function_375 : decode cX13_function 375 = .ok (.aload_n 0, 1) := by decide +kernel
theorem dX13_function_376 : decode cX13_function 376 = .ok (.iconst 0, 1) := by decide +kernel
theorem dX13_function_377 : decode cX13_function 377 = .ok (.invokevirtual 405, 3) := by decide +kernel
theorem dX13_function_380 : decode cX13_function 380 = .ok (.aload_n 0, 1) := by decide +kernel
theorem dX13_function_381 : decode cX13_function 381 = .ok (.iconst (-1), 1) := by decide +kernel
theorem dX13_function_382 : decode cX13_function 382 = .ok (.putfield 294, 3) := by decide +kernel
theorem dX13_function_385 : decode cX13_function 385 = .ok (.iconst 1, 1) := by decide +kernel
theorem dX13_function_386 : decode cX13_function 386 = .ok (.ireturn, 1) := by decide +kernel
theorem dX13_begins_0 : decode cX13_begins 0 = .ok (.aload_n 0, 1) := by decide +kernel
theorem dX13_begins_1 : decode cX13_begins 1 = .ok (.dup, 1) := by decide +kernel
theorem dX13_begins_2 : decode cX13_begins 2 = .ok (.getfield 282, 3) := by decide +kernel
theorem dX13_begins_5 : decode cX13_begins 5 = .ok (.iconst 1, 1) := by decide +kernel
theorem dX13_begins_6 : decode cX13_begins 6 = .ok (.iadd, 1) := by decide +kernel
theorem dX13_begins_7 : decode cX13_begins 7 = .ok (.putfield 282, 3) := by decide +kernel
theorem dX13_begins_10 : decode cX13_begins 10 = .ok (.return_, 1) := by decide +kernel
theorem dX13_formalHere_0 : decode cX13_formalHere 0 = .ok (.aload_n 0, 1) := by decide +kernel
theorem dX13_formalHere_1 : decode cX13_formalHere 1 = .ok (.iconst 1, 1) := by decide +kernel
theorem dX13_formalHere_2 : decode cX13_formalHere 2 = .ok (.invokevirtual 263, 3) := by decide +kernel
theorem dX13_formalHere_5 : decode cX13_formalHere 5 = .ok (.istore_n 2, 1) := by decide +kernel
theorem dX13_formalHere_6 : decode cX13_formalHere 6 = .ok (.iload_n 2, 1) := by decide +kernel
theorem dX13_formalHere_7 : decode cX13_formalHere 7 = .ok (.ifCond .ne 19, 3) := by decide +kernel
theorem dX13_formalHere_10 : decode cX13_formalHere 10 = .ok (.aload_n 0, 1) := by decide +kernel
theorem dX13_formalHere_11 : decode cX13_formalHere 11 = .ok (.iconst 0, 1) := by decide +kernel
theorem dX13_formalHere_12 : decode cX13_formalHere 12 = .ok (.invokevirtual 263, 3) := by decide +kernel
theorem dX13_formalHere_15 : decode cX13_formalHere 15 = .ok (.ifCond .ne 11, 3) := by decide +kernel
theorem dX13_formalHere_18 : decode cX13_formalHere 18 = .ok (.aload_n 0, 1) := by decide +kernel
theorem dX13_formalHere_19 : decode cX13_formalHere 19 = .ok (.iconst 2, 1) := by decide +kernel
theorem dX13_formalHere_20 : decode cX13_formalHere 20 = .ok (.invokevirtual 260, 3) := by decide +kernel
theorem dX13_formalHere_23 : decode cX13_formalHere 23 = .ok (.pop, 1) := by decide +kernel
theorem dX13_formalHere_24 : decode cX13_formalHere 24 = .ok (.iconst 0, 1) := by decide +kernel
theorem dX13_formalHere_25 : decode cX13_formalHere 25 = .ok (.ireturn, 1) := by decide +kernel
theorem dX13_formalHere_26 : decode cX13_formalHere 26 = .ok (.aload_n 0, 1) := by decide +kernel
theorem dX13_formalHere_27 : decode cX13_formalHere 27 = .ok (.dup, 1) := by decide +kernel
theorem dX13_formalHere_28 : decode cX13_formalHere 28 = .ok (.getfield 233, 3) := by decide +kernel
theorem dX13_formalHere_31 : decode cX13_formalHere 31 = .ok (.iconst 1, 1) := by decide +kernel
theorem dX13_formalHere_32 : decode cX13_formalHere 32 = .ok (.iadd, 1) := by decide +kernel
theorem dX13_formalHere_33 : decode cX13_formalHere 33 = .ok (.putfield 233, 3) := by decide +kernel
theorem dX13_formalHere_36 : decode cX13_formalHere 36 = .ok (.aload_n 0, 1) := by decide +kernel
theorem dX13_formalHere_37 : decode cX13_formalHere 37 = .ok (.invokevirtual 317, 3) := by decide +kernel
theorem dX13_formalHere_40 : decode cX13_formalHere 40 = .ok (.istore_n 3, 1) := by decide +kernel
theorem dX13_formalHere_41 : decode cX13_formalHere 41 = .ok (.aload_n 0, 1) := by decide +kernel
theorem dX13_formalHere_42 : decode cX13_formalHere 42 = .ok (.getfield 230, 3) := by decide +kernel
theorem dX13_formalHere_45 : decode cX13_formalHere 45 = .ok (.ifCond .le 5, 3) := by decide +kernel
theorem dX13_formalHere_48 : decode cX13_formalHere 48 = .ok (.iconst 0, 1) := by decide +kernel
theorem dX13_formalHere_49 : decode cX13_formalHere 49 = .ok (.ireturn, 1) := by decide +kernel
theorem dX13_formalHere_50 : decode cX13_formalHere 50 = .ok (.aload_n 0, 1) := by decide +kernel
theorem dX13_formalHere_51 : decode cX13_formalHere 51 = .ok (.iload_n 3, 1) := by decide +kernel
theorem dX13_formalHere_52 : decode cX13_formalHere 52 = .ok (.invokevirtual 348, 3) := by decide +kernel
theorem dX13_formalHere_55 : decode cX13_formalHere 55 = .ok (.iload_n 1, 1) := by decide +kernel
theorem dX13_formalHere_56 : decode cX13_formalHere 56 = .ok (.iconst 4, 1) := by decide +kernel
theorem dX13_formalHere_57 : decode cX13_formalHere 57 = .ok (.if_icmp .ne 15, 3) := by decide +kernel
theorem dX13_formalHere_60 : decode cX13_formalHere 60 = .ok (.aload_n 0, 1) := by decide +kernel
theorem dX13_formalHere_61 : decode cX13_formalHere 61 = .ok (.bipush 11, 2) := by decide +kernel
theorem dX13_formalHere_63 : decode cX13_formalHere 63 = .ok (.aload_n 0, 1) := by decide +kernel
theorem dX13_formalHere_64 : decode cX13_formalHere 64 = .ok (.getfield 22, 3) := by decide +kernel
theorem dX13_formalHere_67 : decode cX13_formalHere 67 = .ok (.iload_n 3, 1) := by decide +kernel
theorem dX13_formalHere_68 : decode cX13_formalHere 68 = .ok (.iaload, 1) := by decide +kernel
theorem dX13_formalHere_69 : decode cX13_formalHere 69 = .ok (.invokevirtual 352, 3) := by decide +kernel
theorem dX13_formalHere_72 : decode cX13_formalHere 72 = .ok (.iload_n 2, 1) := by decide +kernel
theorem dX13_formalHere_73 : decode cX13_formalHere 73 = .ok (.ifCond .ne 12, 3) := by decide +kernel
theorem dX13_formalHere_76 : decode cX13_formalHere 76 = .ok (.aload_n 0, 1) := by decide +kernel
theorem dX13_formalHere_77 : decode cX13_formalHere 77 = .ok (.bipush 24, 2) := by decide +kernel
theorem dX13_formalHere_79 : decode cX13_formalHere 79 = .ok (.invokevirtual 257, 3) := by decide +kernel
theorem dX13_formalHere_82 : decode cX13_formalHere 82 = .ok (.ifCond .eq 7, 3) := by decide +kernel
theorem dX13_formalHere_85 : decode cX13_formalHere 85 = .ok (.iconst 1, 1) := by decide +kernel
theorem dX13_formalHere_86 : decode cX13_formalHere 86 = .ok (.goto 4, 3) := by decide +kernel
theorem dX13_formalHere_89 : decode cX13_formalHere 89 = .ok (.iconst 0, 1) := by decide +kernel
theorem dX13_formalHere_90 : decode cX13_formalHere 90 = .ok (.istore 4, 2) := by decide +kernel
theorem dX13_formalHere_92 : decode cX13_formalHere 92 = .ok (.iload 4, 2) := by decide +kernel
theorem dX13_formalHere_94 : decode cX13_formalHere 94 = .ok (.ifCond .eq 23, 3) := by decide +kernel
theorem dX13_formalHere_97 : decode cX13_formalHere 97 = .ok (.aload_n 0, 1) := by decide +kernel
theorem dX13_formalHere_98 : decode cX13_formalHere 98 = .ok (.bipush 24, 2) := by decide +kernel
theorem dX13_formalHere_100 : decode cX13_formalHere 100 = .ok (.invokevirtual 356, 3) := by decide +kernel
theorem dX13_formalHere_103 : decode cX13_formalHere 103 = .ok (.ifCond .eq 12, 3) := by decide +kernel
theorem dX13_formalHere_106 : decode cX13_formalHere 106 = .ok (.aload_n 0, 1) := by decide +kernel
theorem dX13_formalHere_107 : decode cX13_formalHere 107 = .ok (.bipush 25, 2) := by decide +kernel
theorem dX13_formalHere_109 : decode cX13_formalHere 109 = .ok (.invokevirtual 362, 3) := by decide +kernel
theorem dX13_formalHere_112 : decode cX13_formalHere 112 = .ok (.ifCond .ne 5, 3) := by decide +kernel
theorem dX13_formalHere_115 : decode cX13_formalHere 115 = .ok (.iconst 0, 1) := by decide +kernel
theorem dX13_formalHere_116 : decode cX13_formalHere 116 = .ok (.ireturn, 1) := by decide +kernel
theorem dX13_formalHere_117 : decode cX13_formalHere 117 = .ok (.aload_n 0, 1) := by decide +kernel
theorem dX13_formalHere_118 : decode cX13_formalHere 118 = .ok (.iload_n 3, 1) := by decide +kernel
theorem dX13_formalHere_119 : decode cX13_formalHere 119 = .ok (.iload 4, 2) := by decide +kernel
theorem dX13_formalHere_121 : decode cX13_formalHere 121 = .ok (.ifCond .eq 7, 3) := by decide +kernel
theorem dX13_formalHere_124 : decode cX13_formalHere 124 = .ok (.iconst 2, 1) := by decide +kernel
theorem dX13_formalHere_125 : decode cX13_formalHere 125 = .ok (.goto 4, 3) := by decide +kernel
theorem dX13_formalHere_128 : decode cX13_formalHere 128 = .ok (.iconst 1, 1) := by decide +kernel
theorem dX13_formalHere_129 : decode cX13_formalHere 129 = .ok (.iload_n 2, 1) := by decide +kernel
theorem dX13_formalHere_130 : decode cX13_formalHere 130 = .ok (.aload_n 0, 1) := by decide +kernel
theorem dX13_formalHere_131 : decode cX13_formalHere 131 = .ok (.getfield 386, 3) := by decide +kernel
theorem dX13_formalHere_134 : decode cX13_formalHere 134 = .ok (.iload 4, 2) := by decide +kernel
theorem dX13_formalHere_136 : decode cX13_formalHere 136 = .ok (.ifCond .eq 7, 3) := by decide +kernel
theorem dX13_formalHere_139 : decode cX13_formalHere 139 = .ok (.iconst (-1), 1) := by decide +kernel
theorem dX13_formalHere_140 : decode cX13_formalHere 140 = .ok (.goto 4, 3) := by decide +kernel
theorem dX13_formalHere_143 : decode cX13_formalHere 143 = .ok (.iconst 1, 1) := by decide +kernel
theorem dX13_formalHere_144 : decode cX13_formalHere 144 = .ok (.iconst 1, 1) := by decide +kernel
theorem dX13_formalHere_145 : decode cX13_formalHere 145 = .ok (.invokevirtual 338, 3) := by decide +kernel
theorem dX13_formalHere_148 : decode cX13_formalHere 148 = .ok (.aload_n 0, 1) := by decide +kernel
theorem dX13_formalHere_149 : decode cX13_formalHere 149 = .ok (.dup, 1) := by decide +kernel
theorem dX13_formalHere_150 : decode cX13_formalHere 150 = .ok (.getfield 386, 3) := by decide +kernel
theorem dX13_formalHere_153 : decode cX13_formalHere 153 = .ok (.iload 4, 2) := by decide +kernel
theorem dX13_formalHere_155 : decode cX13_formalHere 155 = .ok (.ifCond .eq 7, 3) := by decide +kernel
theorem dX13_formalHere_158 : decode cX13_formalHere 158 = .ok (.iconst 2, 1) := by decide +kernel
theorem dX13_formalHere_159 : decode cX13_formalHere 159 = .ok (.goto 4, 3) := by decide +kernel
theorem dX13_formalHere_162 : decode cX13_formalHere 162 = .ok (.iconst 1, 1) := by decide +kernel
theorem dX13_formalHere_163 : decode cX13_formalHere 163 = .ok (.iadd, 1) := by decide +kernel
theorem dX13_formalHere_164 : decode cX13_formalHere 164 = .ok (.putfield 386, 3) := by decide +kernel
theorem dX13_formalHere_167 : decode cX13_formalHere 167 = .ok (.iload 4, 2) := by decide +kernel
theorem dX13_formalHere_169 : decode cX13_formalHere 169 = .ok (.ifCond .ne 7, 3) := by decide +kernel
theorem dX13_formalHere_172 : decode cX13_formalHere 172 = .ok (.iconst 0, 1) := by decide +kernel
theorem dX13_formalHere_173 : decode cX13_formalHere 173 = .ok (.goto 12, 3) := by decide +kernel
theorem dX13_formalHere_176 : decode cX13_formalHere 176 = .ok (.iload_n 2, 1) := by decide +kernel
theorem dX13_formalHere_177 : decode cX13_formalHere 177 = .ok (.ifCond .eq 7, 3) := by decide +kernel
theorem dX13_formalHere_180 : decode cX13_formalHere 180 = .ok (.iconst 2, 1) := by decide +kernel
theorem dX13_formalHere_181 : decode cX13_formalHere 181 = .ok (.goto 4, 3) := by decide +kernel
theorem dX13_formalHere_184 : decode cX13_formalHere 184 = .ok (.iconst 1, 1) := by decide +kernel
theorem dX13_formalHere_185 : decode cX13_formalHere 185 = .ok (.ireturn, 1) := by decide +kernel
theorem dX13_block_0 : decode cX13_block 0 = .ok (.aload_n 0, 1) := by decide +kernel
theorem dX13_block_1 : decode cX13_block 1 = .ok (.bipush 26, 2) := by decide +kernel
theorem dX13_block_3 : decode cX13_block 3 = .ok (.invokevirtual 356, 3) := by decide +kernel
theorem dX13_block_6 : decode cX13_block 6 = .ok (.ifCond .ne 5, 3) := by decide +kernel
theorem dX13_block_9 : decode cX13_block 9 = .ok (.iconst 0, 1) := by decide +kernel
theorem dX13_block_10 : decode cX13_block 10 = .ok (.ireturn, 1) := by decide +kernel
theorem dX13_block_11 : decode cX13_block 11 = .ok (.aload_n 0, 1) := by decide +kernel
theorem dX13_block_12 : decode cX13_block 12 = .ok (.getfield 230, 3) := by decide +kernel
theorem dX13_block_15 : decode cX13_block 15 = .ok (.ifCond .ne 20, 3) := by decide +kernel
theorem dX13_block_18 : decode cX13_block 18 = .ok (.aload_n 0, 1) := by decide +kernel
theorem dX13_block_19 : decode cX13_block 19 = .ok (.bipush 27, 2) := by decide +kernel
theorem dX13_block_21 : decode cX13_block 21 = .ok (.invokevirtual 257, 3) := by decide +kernel
theorem dX13_block_24 : decode cX13_block 24 = .ok (.ifCond .ne 11, 3) := by decide +kernel
theorem dX13_block_27 : decode cX13_block 27 = .ok (.aload_n 0, 1) := by decide +kernel
theorem dX13_block_28 : decode cX13_block 28 = .ok (.invokevirtual 408, 3) := by decide +kernel
theorem dX13_block_31 : decode cX13_block 31 = .ok (.pop, 1) := by decide +kernel
theorem dX13_block_32 : decode cX13_block 32 = .ok (.goto (-21), 3) := by decide +kernel
theorem dX13_block_35 : decode cX13_block 35 = .ok (.aload_n 0, 1) := by decide +kernel
theorem dX13_block_36 : decode cX13_block 36 = .ok (.bipush 27, 2) := by decide +kernel
theorem dX13_block_38 : decode cX13_block 38 = .ok (.invokevirtual 362, 3) := by decide +kernel
theorem dX13_block_41 : decode cX13_block 41 = .ok (.ireturn, 1) := by decide +kernel
theorem dX13_statement_0 : decode cX13_statement 0 = .ok (.aload_n 0, 1) := by decide +kernel
theorem dX13_statement_1 : decode cX13_statement 1 = .ok (.bipush 26, 2) := by decide +kernel
theorem dX13_statement_3 : decode cX13_statement 3 = .ok (.invokevirtual 257, 3) := by decide +kernel
theorem dX13_statement_6 : decode cX13_statement 6 = .ok (.ifCond .eq 24, 3) := by decide +kernel
theorem dX13_statement_9 : decode cX13_statement 9 = .ok (.aload_n 0, 1) := by decide +kernel
theorem dX13_statement_10 : decode cX13_statement 10 = .ok (.getfield 282, 3) := by decide +kernel
theorem dX13_statement_13 : decode cX13_statement 13 = .ok (.istore_n 1, 1) := by decide +kernel
theorem dX13_statement_14 : decode cX13_statement 14 = .ok (.aload_n 0, 1) := by decide +kernel
theorem dX13_statement_15 : decode cX13_statement 15 = .ok (.invokevirtual 392, 3) := by decide +kernel
theorem dX13_statement_18 : decode cX13_statement 18 = .ok (.aload_n 0, 1) := by decide +kernel
theorem dX13_statement_19 : decode cX13_statement 19 = .ok (.invokevirtual 398, 3) := by decide +kernel
theorem dX13_statement_22 : decode cX13_statement 22 = .ok (.istore_n 2, 1) := by decide +kernel
theorem dX13_statement_23 : decode cX13_statement 23 = .ok (.aload_n 0, 1) := by decide +kernel
theorem dX13_statement_24 : decode cX13_statement 24 = .ok (.iload_n 1, 1) := by decide +kernel
theorem dX13_statement_25 : decode cX13_statement 25 = .ok (.invokevirtual 405, 3) := by decide +kernel
theorem dX13_statement_28 : decode cX13_statement 28 = .ok (.iload_n 2, 1) := by decide +kernel
theorem dX13_statement_29 : decode cX13_statement 29 = .ok (.ireturn, 1) := by decide +kernel
theorem dX13_statement_30 : decode cX13_statement 30 = .ok (.aload_n 0, 1) := by decide +kernel
theorem dX13_statement_31 : decode cX13_statement 31 = .ok (.bipush 29, 2) := by decide +kernel
theorem dX13_statement_33 : decode cX13_statement 33 = .ok (.invokevirtual 257, 3) := by decide +kernel
theorem dX13_statement_36 : decode cX13_statement 36 = .ok (.ifCond .eq 10, 3) := by decide +kernel
theorem dX13_statement_39 : decode cX13_statement 39 = .ok (.aload_n 0, 1) := by decide +kernel
theorem dX13_statement_40 : decode cX13_statement 40 = .ok (.bipush 29, 2) := by decide +kernel
theorem dX13_statement_42 : decode cX13_statement 42 = .ok (.invokevirtual 273, 3) := by decide +kernel
theorem dX13_statement_45 : decode cX13_statement 45 = .ok (.ireturn, 1) := by decide +kernel
theorem dX13_statement_46 : decode cX13_statement 46 = .ok (.aload_n 0, 1) := by decide +kernel
theorem dX13_statement_47 : decode cX13_statement 47 = .ok (.getfield 16, 3) := by decide +kernel
theorem dX13_statement_50 : decode cX13_statement 50 = .ok (.aload_n 0, 1) := by decide +kernel
theorem dX13_statement_51 : decode cX13_statement 51 = .ok (.getfield 233, 3) := by decide +kernel
theorem dX13_statement_54 : decode cX13_statement 54 = .ok (.iaload, 1) := by decide +kernel
theorem dX13_statement_55 : decode cX13_statement 55 = .ok (.iconst 1, 1) := by decide +kernel
theorem dX13_statement_56 : decode cX13_statement 56 = .ok (.if_icmp .ne 25, 3) := by decide +kernel
theorem dX13_statement_59 : decode cX13_statement 59 = .ok (.aload_n 0, 1) := by decide +kernel
theorem dX13_statement_60 : decode cX13_statement 60 = .ok (.invokevirtual 411, 3) := by decide +kernel
theorem dX13_statement_63 : decode cX13_statement 63 = .ok (.ifCond .eq 16, 3) := by decide +kernel
theorem dX13_statement_66 : decode cX13_statement 66 = .ok (.aload_n 0, 1) := by decide +kernel
theorem dX13_statement_67 : decode cX13_statement 67 = .ok (.bipush 29, 2) := by decide +kernel
theorem dX13_statement_69 : decode cX13_statement 69 = .ok (.invokevirtual 273, 3) := by decide +kernel
theorem dX13_statement_72 : decode cX13_statement 72 = .ok (.ifCond .eq 7, 3) := by decide +kernel
theorem dX13_statement_75 : decode cX13_statement 75 = .ok (.iconst 1, 1) := by decide +kernel
theorem dX13_statement_76 : decode cX13_statement 76 = .ok (.goto 4, 3) := by decide +kernel
theorem dX13_statement_79 : decode cX13_statement 79 = .ok (.iconst 0, 1) := by decide +kernel
theorem dX13_statement_80 : decode cX13_statement 80 = .ok (.ireturn, 1) := by decide +kernel
theorem dX13_statement_81 : decode cX13_statement 81 = .ok (.aload_n 0, 1) := by decide +kernel
theorem dX13_statement_82 : decode cX13_statement 82 = .ok (.getfield 16, 3) := by decide +kernel
theorem dX13_statement_85 : decode cX13_statement 85 = .ok (.aload_n 0, 1) := by decide +kernel
theorem dX13_statement_86 : decode cX13_statement 86 = .ok (.getfield 233, 3) := by decide +kernel
theorem dX13_statement_89 : decode cX13_statement 89 = .ok (.iaload, 1) := by decide +kernel
theorem dX13_statement_90 : decode cX13_statement 90 = .ok (.iconst 2, 1) := by decide +kernel
theorem dX13_statement_91 : decode cX13_statement 91 = .ok (.if_icmp .eq 9, 3) := by decide +kernel
theorem dX13_statement_94 : decode cX13_statement 94 = .ok (.aload_n 0, 1) := by decide +kernel
theorem dX13_statement_95 : decode cX13_statement 95 = .ok (.iconst 2, 1) := by decide +kernel
theorem dX13_statement_96 : decode cX13_statement 96 = .ok (.invokevirtual 260, 3) := by decide +kernel
theorem dX13_statement_99 : decode cX13_statement 99 = .ok (.ireturn, 1) := by decide +kernel
theorem dX13_statement_100 : decode cX13_statement 100 = .ok (.aload_n 0, 1) := by decide +kernel
theorem dX13_statement_101 : decode cX13_statement 101 = .ok (.getfield 19, 3) := by decide +kernel
theorem dX13_statement_104 : decode cX13_statement 104 = .ok (.aload_n 0, 1) := by decide +kernel
theorem dX13_statement_105 : decode cX13_statement 105 = .ok (.getfield 233, 3) := by decide +kernel
theorem dX13_statement_108 : decode cX13_statement 108 = .ok (.iaload, 1) := by decide +kernel
theorem dX13_statement_109 : decode cX13_statement 109 = .ok (.tableswitch 197 0 14 #[75, 75, 197, 197, 98, 197, 103, 108, 113, 118, 118, 123, 128, 197, 128], 75) := by decide +kernel
theorem dX13_statement_184 : decode cX13_statement 184 = .ok (.aload_n 0, 1) := by decide +kernel
theorem dX13_statement_185 : decode cX13_statement 185 = .ok (.iconst 1, 1) := by decide +kernel
theorem dX13_statement_186 : decode cX13_statement 186 = .ok (.invokevirtual 414, 3) := by decide +kernel
theorem dX13_statement_189 : decode cX13_statement 189 = .ok (.ifCond .eq 16, 3) := by decide +kernel
theorem dX13_statement_192 : decode cX13_statement 192 = .ok (.aload_n 0, 1) := by decide +kernel
theorem dX13_statement_193 : decode cX13_statement 193 = .ok (.bipush 29, 2) := by decide +kernel
theorem dX13_statement_195 : decode cX13_statement 195 = .ok (.invokevirtual 273, 3) := by decide +kernel
theorem dX13_statement_198 : decode cX13_statement 198 = .ok (.ifCond .eq 7, 3) := by decide +kernel
theorem dX13_statement_201 : decode cX13_statement 201 = .ok (.iconst 1, 1) := by decide +kernel
theorem dX13_statement_202 : decode cX13_statement 202 = .ok (.goto 4, 3) := by decide +kernel
theorem dX13_statement_205 : decode cX13_statement 205 = .ok (.iconst 0, 1) := by decide +kernel
theorem dX13_statement_206 : decode cX13_statement 206 = .ok (.ireturn, 1) := by decide +kernel
theorem dX13_statement_207 : decode cX13_statement 207 = .ok (.aload_n 0, 1) := by decide +kernel
theorem dX13_statement_208 : decode cX13_statement 208 = .ok (.invokevirtual 418, 3) := by decide +kernel
theorem dX13_statement_211 : decode cX13_statement 211 = .ok (.ireturn, 1) := by decide +kernel
theorem dX13_statement_212 : decode cX13_statement 212 = .ok (.aload_n 0, 1) := by decide +kernel
theorem dX13_statement_213 : decode cX13_statement 213 = .ok (.invokevirtual 421, 3) := by decide +kernel
theorem dX13_statement_216 : decode cX13_statement 216 = .ok (.ireturn, 1) := by decide +kernel
theorem dX13_statement_217 : decode cX13_statement 217 = .ok (.aload_n 0, 1) := by decide +kernel
theorem dX13_statement_218 : decode cX13_statement 218 = .ok (.invokevirtual 424, 3) := by decide +kernel
theorem dX13_statement_221 : decode cX13_statement 221 = .ok (.ireturn, 1) := by decide +kernel
theorem dX13_statement_222 : decode cX13_statement 222 = .ok (.aload_n 0, 1) := by decide +kernel
theorem dX13_statement_223 : decode cX13_statement 223 = .ok (.invokevirtual 427, 3) := by decide +kernel
theorem dX13_statement_226 : decode cX13_statement 226 = .ok (.ireturn, 1) := by decide +kernel
theorem dX13_statement_227 : decode cX13_statement 227 = .ok (.aload_n 0, 1) := by decide +kernel
theorem dX13_statement_228 : decode cX13_statement 228 = .ok (.invokevirtual 430, 3) := by decide +kernel
theorem dX13_statement_231 : decode cX13_statement 231 = .ok (.ireturn, 1) := by decide +kernel
theorem dX13_statement_232 : decode cX13_statement 232 = .ok (.aload_n 0, 1) := by decide +kernel
theorem dX13_statement_233 : decode cX13_statement 233 = .ok (.invokevirtual 433, 3) := by decide +kernel
theorem dX13_statement_236 : decode cX13_statement 236 = .ok (.ireturn, 1) := by decide +kernel
theorem dX13_statement_237 : decode cX13_statement 237 = .ok (.aload_n 0, 1) := by decide +kernel
theorem dX13_statement_238 : decode cX13_statement 238 = .ok (.bipush 12, 2) := by decide +kernel
theorem dX13_statement_240 : decode cX13_statement 240 = .ok (.invokevirtual 263, 3) := by decide +kernel
theorem dX13_statement_243 : decode cX13_statement 243 = .ok (.ifCond .eq 8, 3) := by decide +kernel
theorem dX13_statement_246 : decode cX13_statement 246 = .ok (.bipush 19, 2) := by decide +kernel
theorem dX13_statement_248 : decode cX13_statement 248 = .ok (.goto 5, 3) := by decide +kernel
theorem dX13_statement_251 : decode cX13_statement 251 = .ok (.bipush 20, 2) := by decide +kernel
theorem dX13_statement_253 : decode cX13_statement 253 = .ok (.istore_n 1, 1) := by decide +kernel
theorem dX13_statement_254 : decode cX13_statement 254 = .ok (.aload_n 0, 1) := by decide +kernel
theorem dX13_statement_255 : decode cX13_statement 255 = .ok (.dup, 1) := by decide +kernel
theorem dX13_statement_256 : decode cX13_statement 256 = .ok (.getfield 233, 3) := by decide +kernel
theorem dX13_statement_259 : decode cX13_statement 259 = .ok (.iconst 1, 1) := by decide +kernel
theorem dX13_statement_260 : decode cX13_statement 260 = .ok (.iadd, 1) := by decide +kernel
theorem dX13_statement_261 : decode cX13_statement 261 = .ok (.putfield 233, 3) := by decide +kernel
theorem dX13_statement_264 : decode cX13_statement 264 = .ok (.aload_n 0, 1) := by decide +kernel
theorem dX13_statement_265 : decode cX13_statement 265 = .ok (.bipush 22, 2) := by decide +kernel
theorem dX13_statement_267 : decode cX13_statement 267 = .ok (.invokevirtual 356, 3) := by decide +kernel
theorem dX13_statement_270 : decode cX13_statement 270 = .ok (.ifCond .eq 19, 3) := by decide +kernel
theorem dX13_statement_273 : decode cX13_statement 273 = .ok (.aload_n 0, 1) := by decide +kernel
theorem dX13_statement_274 : decode cX13_statement 274 = .ok (.invokevirtual 368, 3) := by decide +kernel
theorem dX13_statement_277 : decode cX13_statement 277 = .ok (.ifCond .eq 12, 3) := by decide +kernel
theorem dX13_statement_280 : decode cX13_statement 280 = .ok (.aload_n 0, 1) := by decide +kernel
theorem dX13_statement_281 : decode cX13_statement 281 = .ok (.bipush 23, 2) := by decide +kernel
theorem dX13_statement_283 : decode cX13_statement 283 = .ok (.invokevirtual 362, 3) := by decide +kernel
theorem dX13_statement_286 : decode cX13_statement 286 = .ok (.ifCond .ne 5, 3) := by decide +kernel
theorem dX13_statement_289 : decode cX13_statement 289 = .ok (.iconst 0, 1) := by decide +kernel
theorem dX13_statement_290 : decode cX13_statement 290 = .ok (.ireturn, 1) := by decide +kernel
theorem dX13_statement_291 : decode cX13_statement 291 = .ok (.aload_n 0, 1) := by decide +kernel
theorem dX13_statement_292 : decode cX13_statement 292 = .ok (.iload_n 1, 1) := by decide +kernel
theorem dX13_statement_293 : decode cX13_statement 293 = .ok (.iconst 0, 1) := by decide +kernel
theorem dX13_statement_294 : decode cX13_statement 294 = .ok (.iconst 0, 1) := by decide +kernel
theorem dX13_statement_295 : decode cX13_statement 295 = .ok (.invokevirtual 401, 3) := by decide +kernel
theorem dX13_statement_298 : decode cX13_statement 298 = .ok (.pop, 1) := by decide +kernel
theorem dX13_statement_299 : decode cX13_statement 299 = .ok (.aload_n 0, 1) := by decide +kernel
theorem dX13_statement_300 : decode cX13_statement 300 = .ok (.bipush 29, 2) := by decide +kernel
theorem dX13_statement_302 : decode cX13_statement 302 = .ok (.invokevirtual 273, 3) := by decide +kernel
theorem dX13_statement_305 : decode cX13_statement 305 = .ok (.ireturn, 1) := by decide +kernel
theorem dX13_statement_306 : decode cX13_statement 306 = .ok (.aload_n 0, 1) := by decide +kernel
theorem dX13_statement_307 : decode cX13_statement 307 = .ok (.iconst 2, 1) := by decide +kernel
theorem dX13_statement_308 : decode cX13_statement 308 = .ok (.invokevirtual 260, 3) := by decide +kernel
theorem dX13_statement_311 : decode cX13_statement 311 = .ok (.ireturn, 1) := by decide +kernel
theorem dX13_ends_0 : decode cX13_ends 0 = .ok (.aload_n 0, 1) := by decide +kernel
theorem dX13_ends_1 : decode cX13_ends 1 = .ok (.getfield 279, 3) := by decide +kernel
theorem dX13_ends_4 : decode cX13_ends 4 = .ok (.ifCond .le 31, 3) := by decide +kernel
theorem dX13_ends_7 : decode cX13_ends 7 = .ok (.aload_n 0, 1) := by decide +kernel
theorem dX13_ends_8 : decode cX13_ends 8 = .ok (.getfield 46, 3) := by decide +kernel
theorem dX13_ends_11 : decode cX13_ends 11 = .ok (.aload_n 0, 1) := by decide +kernel
theorem dX13_ends_12 : decode cX13_ends 12 = .ok (.getfield 279, 3) := by decide +kernel
theorem dX13_ends_15 : decode cX13_ends 15 = .ok (.iconst 1, 1) := by decide +kernel
theorem dX13_ends_16 : decode cX13_ends 16 = .ok (.isub, 1) := by decide +kernel
theorem dX13_ends_17 : decode cX13_ends 17 = .ok (.iaload, 1) := by decide +kernel
theorem dX13_ends_18 : decode cX13_ends 18 = .ok (.iload_n 1, 1) := by decide +kernel
theorem dX13_ends_19 : decode cX13_ends 19 = .ok (.if_icmp .le 16, 3) := by decide +kernel
theorem dX13_ends_22 : decode cX13_ends 22 = .ok (.aload_n 0, 1) := by decide +kernel
theorem dX13_ends_23 : decode cX13_ends 23 = .ok (.dup, 1) := by decide +kernel
theorem dX13_ends_24 : decode cX13_ends 24 = .ok (.getfield 279, 3) := by decide +kernel
theorem dX13_ends_27 : decode cX13_ends 27 = .ok (.iconst 1, 1) := by decide +kernel
theorem dX13_ends_28 : decode cX13_ends 28 = .ok (.isub, 1) := by decide +kernel
theorem dX13_ends_29 : decode cX13_ends 29 = .ok (.putfield 279, 3) := by decide +kernel
theorem dX13_ends_32 : decode cX13_ends 32 = .ok (.goto (-32), 3) := by decide +kernel
theorem dX13_ends_35 : decode cX13_ends 35 = .ok (.aload_n 0, 1) := by decide +kernel
theorem dX13_ends_36 : decode cX13_ends 36 = .ok (.iload_n 1, 1) := by decide +kernel
theorem dX13_ends_37 : decode cX13_ends 37 = .ok (.putfield 282, 3) := by decide +kernel
theorem dX13_ends_40 : decode cX13_ends 40 = .ok (.return_, 1) := by decide +kernel
theorem dX13_simple_0 : decode cX13_simple 0 = .ok (.aload_n 0, 1) := by decide +kernel
theorem dX13_simple_1 : decode cX13_simple 1 = .ok (.invokevirtual 317, 3) := by decide +kernel
theorem dX13_simple_4 : decode cX13_simple 4 = .ok (.istore_n 1, 1) := by decide +kernel
theorem dX13_simple_5 : decode cX13_simple 5 = .ok (.aload_n 0, 1) := by decide +kernel
theorem dX13_simple_6 : decode cX13_simple 6 = .ok (.getfield 230, 3) := by decide +kernel
theorem dX13_simple_9 : decode cX13_simple 9 = .ok (.ifCond .le 5, 3) := by decide +kernel
theorem dX13_simple_12 : decode cX13_simple 12 = .ok (.iconst 0, 1) := by decide +kernel
theorem dX13_simple_13 : decode cX13_simple 13 = .ok (.ireturn, 1) := by decide +kernel
theorem dX13_simple_14 : decode cX13_simple 14 = .ok (.aload_n 0, 1) := by decide +kernel
theorem dX13_simple_15 : decode cX13_simple 15 = .ok (.bipush 22, 2) := by decide +kernel
theorem dX13_simple_17 : decode cX13_simple 17 = .ok (.invokevirtual 257, 3) := by decide +kernel
theorem dX13_simple_20 : decode cX13_simple 20 = .ok (.ifCond .eq 25, 3) := by decide +kernel
theorem dX13_simple_23 : decode cX13_simple 23 = .ok (.aload_n 0, 1) := by decide +kernel
theorem dX13_simple_24 : decode cX13_simple 24 = .ok (.iload_n 1, 1) := by decide +kernel
theorem dX13_simple_25 : decode cX13_simple 25 = .ok (.iconst 0, 1) := by decide +kernel
theorem dX13_simple_26 : decode cX13_simple 26 = .ok (.invokevirtual 454, 3) := by decide +kernel
theorem dX13_simple_29 : decode cX13_simple 29 = .ok (.ifCond .ne 5, 3) := by decide +kernel
theorem dX13_simple_32 : decode cX13_simple 32 = .ok (.iconst 0, 1) := by decide +kernel
theorem dX13_simple_33 : decode cX13_simple 33 = .ok (.ireturn, 1) := by decide +kernel
theorem dX13_simple_34 : decode cX13_simple 34 = .ok (.aload_n 0, 1) := by decide +kernel
theorem dX13_simple_35 : decode cX13_simple 35 = .ok (.bipush 18, 2) := by decide +kernel
theorem dX13_simple_37 : decode cX13_simple 37 = .ok (.iconst 0, 1) := by decide +kernel
theorem dX13_simple_38 : decode cX13_simple 38 = .ok (.iconst 0, 1) := by decide +kernel
theorem dX13_simple_39 : decode cX13_simple 39 = .ok (.invokevirtual 401, 3) := by decide +kernel
theorem dX13_simple_42 : decode cX13_simple 42 = .ok (.pop, 1) := by decide +kernel
theorem dX13_simple_43 : decode cX13_simple 43 = .ok (.iconst 1, 1) := by decide +kernel
theorem dX13_simple_44 : decode cX13_simple 44 = .ok (.ireturn, 1) := by decide +kernel
theorem dX13_simple_45 : decode cX13_simple 45 = .ok (.aload_n 0, 1) := by decide +kernel
theorem dX13_simple_46 : decode cX13_simple 46 = .ok (.getfield 245, 3) := by decide +kernel
theorem dX13_simple_49 : decode cX13_simple 49 = .ok (.ifCond .ne 7, 3) := by decide +kernel
theorem dX13_simple_52 : decode cX13_simple 52 = .ok (.iconst (-1), 1) := by decide +kernel
theorem dX13_simple_53 : decode cX13_simple 53 = .ok (.goto 8, 3) := by decide +kernel
theorem dX13_simple_56 : decode cX13_simple 56 = .ok (.aload_n 0, 1) := by decide +kernel
theorem dX13_simple_57 : decode cX13_simple 57 = .ok (.iload_n 1, 1) := by decide +kernel
theorem dX13_simple_58 : decode cX13_simple 58 = .ok (.invokevirtual 457, 3) := by decide +kernel
theorem dX13_simple_61 : decode cX13_simple 61 = .ok (.istore_n 2, 1) := by decide +kernel
theorem dX13_simple_62 : decode cX13_simple 62 = .ok (.aload_n 0, 1) := by decide +kernel
theorem dX13_simple_63 : decode cX13_simple 63 = .ok (.getfield 245, 3) := by decide +kernel
theorem dX13_simple_66 : decode cX13_simple 66 = .ok (.ifCond .le 20, 3) := by decide +kernel
theorem dX13_simple_69 : decode cX13_simple 69 = .ok (.iload_n 2, 1) := by decide +kernel
theorem dX13_simple_70 : decode cX13_simple 70 = .ok (.iconst (-1), 1) := by decide +kernel
theorem dX13_simple_71 : decode cX13_simple 71 = .ok (.if_icmp .ne 15, 3) := by decide +kernel
theorem dX13_simple_74 : decode cX13_simple 74 = .ok (.aload_n 0, 1) := by decide +kernel
theorem dX13_simple_75 : decode cX13_simple 75 = .ok (.getfield 374, 3) := by decide +kernel
theorem dX13_simple_78 : decode cX13_simple 78 = .ok (.iconst (-1), 1) := by decide +kernel
theorem dX13_simple_79 : decode cX13_simple 79 = .ok (.if_icmp .ne 7, 3) := by decide +kernel
theorem dX13_simple_82 : decode cX13_simple 82 = .ok (.iconst 1, 1) := by decide +kernel
theorem dX13_simple_83 : decode cX13_simple 83 = .ok (.goto 4, 3) := by decide +kernel
theorem dX13_simple_86 : decode cX13_simple 86 = .ok (.iconst 0, 1) := by decide +kernel
theorem dX13_simple_87 : decode cX13_simple 87 = .ok (.istore_n 3, 1) := by decide +kernel
theorem dX13_simple_88 : decode cX13_simple 88 = .ok (.aload_n 0, 1) := by decide +kernel
theorem dX13_simple_89 : decode cX13_simple 89 = .ok (.bipush 24, 2) := by decide +kernel
theorem dX13_simple_91 : decode cX13_simple 91 = .ok (.invokevirtual 257, 3) := by decide +kernel
theorem dX13_simple_94 : decode cX13_simple 94 = .ok (.istore 4, 2) := by decide +kernel
theorem dX13_simple_96 : decode cX13_simple 96 = .ok (.iload_n 3, 1) := by decide +kernel
theorem dX13_simple_97 : decode cX13_simple 97 = .ok (.ifCond .eq 14, 3) := by decide +kernel
theorem dX13_simple_100 : decode cX13_simple 100 = .ok (.aload_n 0, 1) := by decide +kernel
theorem dX13_simple_101 : decode cX13_simple 101 = .ok (.iconst 4, 1) := by decide +kernel
theorem dX13_simple_102 : decode cX13_simple 102 = .ok (.aload_n 0, 1) := by decide +kernel
theorem dX13_simple_103 : decode cX13_simple 103 = .ok (.getfield 22, 3) := by decide +kernel
theorem dX13_simple_106 : decode cX13_simple 106 = .ok (.iload_n 1, 1) := by decide +kernel
theorem dX13_simple_107 : decode cX13_simple 107 = .ok (.iaload, 1) := by decide +kernel
theorem dX13_simple_108 : decode cX13_simple 108 = .ok (.invokevirtual 352, 3) := by decide +kernel
theorem dX13_simple_111 : decode cX13_simple 111 = .ok (.iload_n 2, 1) := by decide +kernel
theorem dX13_simple_112 : decode cX13_simple 112 = .ok (.iconst (-1), 1) := by decide +kernel
theorem dX13_simple_113 : decode cX13_simple 113 = .ok (.if_icmp .eq 35, 3) := by decide +kernel
theorem dX13_simple_116 : decode cX13_simple 116 = .ok (.iload 4, 2) := by decide +kernel
theorem dX13_simple_118 : decode cX13_simple 118 = .ok (.ifCond .eq 16, 3) := by decide +kernel
theorem dX13_simple_121 : decode cX13_simple 121 = .ok (.aload_n 0, 1) := by decide +kernel
theorem dX13_simple_122 : decode cX13_simple 122 = .ok (.getfield 40, 3) := by decide +kernel
theorem dX13_simple_125 : decode cX13_simple 125 = .ok (.iload_n 2, 1) := by decide +kernel
theorem dX13_simple_126 : decode cX13_simple 126 = .ok (.iaload, 1) := by decide +kernel
theorem dX13_simple_127 : decode cX13_simple 127 = .ok (.iconst 2, 1) := by decide +kernel
theorem dX13_simple_128 : decode cX13_simple 128 = .ok (.if_icmp .ne 20, 3) := by decide +kernel
theorem dX13_simple_131 : decode cX13_simple 131 = .ok (.goto 13, 3) := by decide +kernel
theorem dX13_simple_134 : decode cX13_simple 134 = .ok (.aload_n 0, 1) := by decide +kernel
theorem dX13_simple_135 : decode cX13_simple 135 = .ok (.getfield 40, 3) := by decide +kernel
theorem dX13_simple_138 : decode cX13_simple 138 = .ok (.iload_n 2, 1) := by decide +kernel
theorem dX13_simple_139 : decode cX13_simple 139 = .ok (.iaload, 1) := by decide +kernel
theorem dX13_simple_140 : decode cX13_simple 140 = .ok (.iconst 1, 1) := by decide +kernel
theorem dX13_simple_141 : decode cX13_simple 141 = .ok (.if_icmp .ne 7, 3) := by decide +kernel
theorem dX13_simple_144 : decode cX13_simple 144 = .ok (.iconst 1, 1) := by decide +kernel
theorem dX13_simple_145 : decode cX13_simple 145 = .ok (.goto 4, 3) := by decide +kernel
theorem dX13_simple_148 : decode cX13_simple 148 = .ok (.iconst 0, 1) := by decide +kernel
theorem dX13_simple_149 : decode cX13_simple 149 = .ok (.istore 5, 2) := by decide +kernel
theorem dX13_simple_151 : decode cX13_simple 151 = .ok (.iload_n 3, 1) := by decide +kernel
theorem dX13_simple_152 : decode cX13_simple 152 = .ok (.ifCond .ne 20, 3) := by decide +kernel
theorem dX13_simple_155 : decode cX13_simple 155 = .ok (.iload 5, 2) := by decide +kernel
theorem dX13_simple_157 : decode cX13_simple 157 = .ok (.ifCond .ne 15, 3) := by decide +kernel
theorem dX13_simple_160 : decode cX13_simple 160 = .ok (.aload_n 0, 1) := by decide +kernel
theorem dX13_simple_161 : decode cX13_simple 161 = .ok (.bipush 6, 2) := by decide +kernel
theorem dX13_simple_163 : decode cX13_simple 163 = .ok (.aload_n 0, 1) := by decide +kernel
theorem dX13_simple_164 : decode cX13_simple 164 = .ok (.getfield 22, 3) := by decide +kernel
theorem dX13_simple_167 : decode cX13_simple 167 = .ok (.iload_n 1, 1) := by decide +kernel
theorem dX13_simple_168 : decode cX13_simple 168 = .ok (.iaload, 1) := by decide +kernel
theorem dX13_simple_169 : decode cX13_simple 169 = .ok (.invokevirtual 352, 3) := by decide +kernel
theorem dX13_simple_172 : decode cX13_simple 172 = .ok (.iload_n 2, 1) := by decide +kernel
theorem dX13_simple_173 : decode cX13_simple 173 = .ok (.iconst (-1), 1) := by decide +kernel
theorem dX13_simple_174 : decode cX13_simple 174 = .ok (.if_icmp .eq 16, 3) := by decide +kernel
theorem dX13_simple_177 : decode cX13_simple 177 = .ok (.aload_n 0, 1) := by decide +kernel
theorem dX13_simple_178 : decode cX13_simple 178 = .ok (.getfield 55, 3) := by decide +kernel
theorem dX13_simple_181 : decode cX13_simple 181 = .ok (.iload_n 2, 1) := by decide +kernel
theorem dX13_simple_182 : decode cX13_simple 182 = .ok (.baload, 1) := by decide +kernel
theorem dX13_simple_183 : decode cX13_simple 183 = .ok (.ifCond .eq 7, 3) := by decide +kernel
theorem dX13_simple_186 : decode cX13_simple 186 = .ok (.iconst 1, 1) := by decide +kernel
theorem dX13_simple_187 : decode cX13_simple 187 = .ok (.goto 4, 3) := by decide +kernel
theorem dX13_simple_190 : decode cX13_simple 190 = .ok (.iconst 0, 1) := by decide +kernel
theorem dX13_simple_191 : decode cX13_simple 191 = .ok (.istore 6, 2) := by decide +kernel
theorem dX13_simple_193 : decode cX13_simple 193 = .ok (.iload_n 2, 1) := by decide +kernel
theorem dX13_simple_194 : decode cX13_simple 194 = .ok (.iconst (-1), 1) := by decide +kernel
theorem dX13_simple_195 : decode cX13_simple 195 = .ok (.if_icmp .eq 16, 3) := by decide +kernel
theorem dX13_simple_198 : decode cX13_simple 198 = .ok (.aload_n 0, 1) := by decide +kernel
theorem dX13_simple_199 : decode cX13_simple 199 = .ok (.getfield 59, 3) := by decide +kernel
theorem dX13_simple_202 : decode cX13_simple 202 = .ok (.iload_n 2, 1) := by decide +kernel
theorem dX13_simple_203 : decode cX13_simple 203 = .ok (.baload, 1) := by decide +kernel
theorem dX13_simple_204 : decode cX13_simple 204 = .ok (.ifCond .eq 7, 3) := by decide +kernel
theorem dX13_simple_207 : decode cX13_simple 207 = .ok (.iconst 1, 1) := by decide +kernel
theorem dX13_simple_208 : decode cX13_simple 208 = .ok (.goto 4, 3) := by decide +kernel
theorem dX13_simple_211 : decode cX13_simple 211 = .ok (.iconst 0, 1) := by decide +kernel
theorem dX13_simple_212 : decode cX13_simple 212 = .ok (.istore 7, 2) := by decide +kernel
theorem dX13_simple_214 : decode cX13_simple 214 = .ok (.iload_n 2, 1) := by decide +kernel
theorem dX13_simple_215 : decode cX13_simple 215 = .ok (.iconst (-1), 1) := by decide +kernel
theorem dX13_simple_216 : decode cX13_simple 216 = .ok (.if_icmp .ne 7, 3) := by decide +kernel
theorem dX13_simple_219 : decode cX13_simple 219 = .ok (.iconst 0, 1) := by decide +kernel
theorem dX13_simple_220 : decode cX13_simple 220 = .ok (.goto 9, 3) := by decide +kernel
theorem dX13_simple_223 : decode cX13_simple 223 = .ok (.aload_n 0, 1) := by decide +kernel
theorem dX13_simple_224 : decode cX13_simple 224 = .ok (.getfield 49, 3) := by decide +kernel
theorem dX13_simple_227 : decode cX13_simple 227 = .ok (.iload_n 2, 1) := by decide +kernel
theorem dX13_simple_228 : decode cX13_simple 228 = .ok (.iaload, 1) := by decide +kernel
theorem dX13_simple_229 : decode cX13_simple 229 = .ok (.istore 8, 2) := by decide +kernel
theorem dX13_simple_231 : decode cX13_simple 231 = .ok (.iload 4, 2) := by decide +kernel
theorem dX13_simple_233 : decode cX13_simple 233 = .ok (.ifCond .eq 13, 3) := by decide +kernel
theorem dX13_simple_236 : decode cX13_simple 236 = .ok (.aload_n 0, 1) := by decide +kernel
theorem dX13_simple_237 : decode cX13_simple 237 = .ok (.iload_n 2, 1) := by decide +kernel
theorem dX13_simple_238 : decode cX13_simple 238 = .ok (.invokevirtual 460, 3) := by decide +kernel
theorem dX13_simple_241 : decode cX13_simple 241 = .ok (.ifCond .ne 5, 3) := by decide +kernel
theorem dX13_simple_244 : decode cX13_simple 244 = .ok (.iconst 0, 1) := by decide +kernel
theorem dX13_simple_245 : decode cX13_simple 245 = .ok (.ireturn, 1) := by decide +kernel
theorem dX13_simple_246 : decode cX13_simple 246 = .ok (.aload_n 0, 1) := by decide +kernel
theorem dX13_simple_247 : decode cX13_simple 247 = .ok (.getfield 16, 3) := by decide +kernel
theorem dX13_simple_250 : decode cX13_simple 250 = .ok (.aload_n 0, 1) := by decide +kernel
theorem dX13_simple_251 : decode cX13_simple 251 = .ok (.getfield 233, 3) := by decide +kernel
theorem dX13_simple_254 : decode cX13_simple 254 = .ok (.iaload, 1) := by decide +kernel
theorem dX13_simple_255 : decode cX13_simple 255 = .ok (.iconst 4, 1) := by decide +kernel
theorem dX13_simple_256 : decode cX13_simple 256 = .ok (.if_icmp .ne 15, 3) := by decide +kernel
theorem dX13_simple_259 : decode cX13_simple 259 = .ok (.aload_n 0, 1) := by decide +kernel
theorem dX13_simple_260 : decode cX13_simple 260 = .ok (.getfield 19, 3) := by decide +kernel
theorem dX13_simple_263 : decode cX13_simple 263 = .ok (.aload_n 0, 1) := by decide +kernel
theorem dX13_simple_264 : decode cX13_simple 264 = .ok (.getfield 233, 3) := by decide +kernel
theorem dX13_simple_267 : decode cX13_simple 267 = .ok (.iaload, 1) := by decide +kernel
theorem dX13_simple_268 : decode cX13_simple 268 = .ok (.goto 4, 3) := by decide +kernel
theorem dX13_simple_271 : decode cX13_simple 271 = .ok (.iconst (-1), 1) := by decide +kernel
theorem dX13_simple_272 : decode cX13_simple 272 = .ok (.istore 9, 2) := by decide +kernel
theorem dX13_simple_274 : decode cX13_simple 274 = .ok (.iload 9, 2) := by decide +kernel
theorem dX13_simple_276 : decode cX13_simple 276 = .ok (.bipush 32, 2) := by decide +kernel
theorem dX13_simple_278 : decode cX13_simple 278 = .ok (.if_icmp .eq 47, 3) := by decide +kernel
theorem dX13_simple_281 : decode cX13_simple 281 = .ok (.iload 9, 2) := by decide +kernel
theorem dX13_simple_283 : decode cX13_simple 283 = .ok (.bipush 12, 2) := by decide +kernel
theorem dX13_simple_285 : decode cX13_simple 285 = .ok (.if_icmp .eq 40, 3) := by decide +kernel
theorem dX13_simple_288 : decode cX13_simple 288 = .ok (.iload 9, 2) := by decide +kernel
theorem dX13_simple_290 : decode cX13_simple 290 = .ok (.bipush 13, 2) := by decide +kernel
theorem dX13_simple_292 : decode cX13_simple 292 = .ok (.if_icmp .eq 33, 3) := by decide +kernel
theorem dX13_simple_295 : decode cX13_simple 295 = .ok (.iload 9, 2) := by decide +kernel
theorem dX13_simple_297 : decode cX13_simple 297 = .ok (.ifCond .eq 28, 3) := by decide +kernel
theorem dX13_simple_300 : decode cX13_simple 300 = .ok (.iload 9, 2) := by decide +kernel
theorem dX13_simple_302 : decode cX13_simple 302 = .ok (.iconst 2, 1) := by decide +kernel
theorem dX13_simple_303 : decode cX13_simple 303 = .ok (.if_icmp .eq 22, 3) := by decide +kernel
theorem dX13_simple_306 : decode cX13_simple 306 = .ok (.iload 9, 2) := by decide +kernel
theorem dX13_simple_308 : decode cX13_simple 308 = .ok (.iconst 3, 1) := by decide +kernel
theorem dX13_simple_309 : decode cX13_simple 309 = .ok (.if_icmp .eq 16, 3) := by decide +kernel
theorem dX13_simple_312 : decode cX13_simple 312 = .ok (.iload 9, 2) := by decide +kernel
theorem dX13_simple_314 : decode cX13_simple 314 = .ok (.iconst 4, 1) := by decide +kernel
theorem dX13_simple_315 : decode cX13_simple 315 = .ok (.if_icmp .lt 14, 3) := by decide +kernel
theorem dX13_simple_318 : decode cX13_simple 318 = .ok (.iload 9, 2) := by decide +kernel
theorem dX13_simple_320 : decode cX13_simple 320 = .ok (.bipush 12, 2) := by decide +kernel
theorem dX13_simple_322 : decode cX13_simple 322 = .ok (.if_icmp .ge 7, 3) := by decide +kernel
theorem dX13_simple_325 : decode cX13_simple 325 = .ok (.iconst 1, 1) := by decide +kernel
theorem dX13_simple_326 : decode cX13_simple 326 = .ok (.goto 4, 3) := by decide +kernel
theorem dX13_simple_329 : decode cX13_simple 329 = .ok (.iconst 0, 1) := by decide +kernel
theorem dX13_simple_330 : decode cX13_simple 330 = .ok (.istore 10, 2) := by decide +kernel
theorem dX13_simple_332 : decode cX13_simple 332 = .ok (.iload 10, 2) := by decide +kernel
theorem dX13_simple_334 : decode cX13_simple 334 = .ok (.ifCond .ne 9, 3) := by decide +kernel
theorem dX13_simple_337 : decode cX13_simple 337 = .ok (.aload_n 0, 1) := by decide +kernel
theorem dX13_simple_338 : decode cX13_simple 338 = .ok (.iconst 2, 1) := by decide +kernel
theorem dX13_simple_339 : decode cX13_simple 339 = .ok (.invokevirtual 260, 3) := by decide +kernel
theorem dX13_simple_342 : decode cX13_simple 342 = .ok (.ireturn, 1) := by decide +kernel
theorem dX13_simple_343 : decode cX13_simple 343 = .ok (.aload_n 0, 1) := by decide +kernel
theorem dX13_simple_344 : decode cX13_simple 344 = .ok (.dup, 1) := by decide +kernel
theorem dX13_simple_345 : decode cX13_simple 345 = .ok (.getfield 233, 3) := by decide +kernel
theorem dX13_simple_348 : decode cX13_simple 348 = .ok (.iconst 1, 1) := by decide +kernel
theorem dX13_simple_349 : decode cX13_simple 349 = .ok (.iadd, 1) := by decide +kernel
theorem dX13_simple_350 : decode cX13_simple 350 = .ok (.putfield 233, 3) := by decide +kernel
theorem dX13_simple_353 : decode cX13_simple 353 = .ok (.iload 9, 2) := by decide +kernel
theorem dX13_simple_355 : decode cX13_simple 355 = .ok (.bipush 32, 2) := by decide +kernel
theorem dX13_simple_357 : decode cX13_simple 357 = .ok (.if_icmp .eq 47, 3) := by decide +kernel
theorem dX13_simple_360 : decode cX13_simple 360 = .ok (.iload 4, 2) := by decide +kernel
theorem dX13_simple_362 : decode cX13_simple 362 = .ok (.ifCond .eq 24, 3) := by decide +kernel
theorem dX13_simple_365 : decode cX13_simple 365 = .ok (.aload_n 0, 1) := by decide +kernel
theorem dX13_simple_366 : decode cX13_simple 366 = .ok (.bipush 9, 2) := by decide +kernel
theorem dX13_simple_368 : decode cX13_simple 368 = .ok (.iconst 0, 1) := by decide +kernel
theorem dX13_simple_369 : decode cX13_simple 369 = .ok (.iconst 0, 1) := by decide +kernel
theorem dX13_simple_370 : decode cX13_simple 370 = .ok (.invokevirtual 401, 3) := by decide +kernel
theorem dX13_simple_373 : decode cX13_simple 373 = .ok (.pop, 1) := by decide +kernel
theorem dX13_simple_374 : decode cX13_simple 374 = .ok (.aload_n 0, 1) := by decide +kernel
theorem dX13_simple_375 : decode cX13_simple 375 = .ok (.bipush 7, 2) := by decide +kernel
theorem dX13_simple_377 : decode cX13_simple 377 = .ok (.iconst 0, 1) := by decide +kernel
theorem dX13_simple_378 : decode cX13_simple 378 = .ok (.iconst 0, 1) := by decide +kernel
theorem dX13_simple_379 : decode cX13_simple 379 = .ok (.invokevirtual 401, 3) := by decide +kernel
theorem dX13_simple_382 : decode cX13_simple 382 = .ok (.pop, 1) := by decide +kernel
theorem dX13_simple_383 : decode cX13_simple 383 = .ok (.goto 21, 3) := by decide +kernel
theorem dX13_simple_386 : decode cX13_simple 386 = .ok (.aload_n 0, 1) := by decide +kernel
theorem dX13_simple_387 : decode cX13_simple 387 = .ok (.iload 7, 2) := by decide +kernel
theorem dX13_simple_389 : decode cX13_simple 389 = .ok (.ifCond .eq 7, 3) := by decide +kernel
theorem dX13_simple_392 : decode cX13_simple 392 = .ok (.iconst 1, 1) := by decide +kernel
theorem dX13_simple_393 : decode cX13_simple 393 = .ok (.goto 4, 3) := by decide +kernel
theorem dX13_simple_396 : decode cX13_simple 396 = .ok (.iconst 3, 1) := by decide +kernel
theorem dX13_simple_397 : decode cX13_simple 397 = .ok (.iload 8, 2) := by decide +kernel
theorem dX13_simple_399 : decode cX13_simple 399 = .ok (.iconst 0, 1) := by decide +kernel
theorem dX13_simple_400 : decode cX13_simple 400 = .ok (.invokevirtual 401, 3) := by decide +kernel
theorem dX13_simple_403 : decode cX13_simple 403 = .ok (.pop, 1) := by decide +kernel
theorem dX13_simple_404 : decode cX13_simple 404 = .ok (.iload 9, 2) := by decide +kernel
theorem dX13_simple_406 : decode cX13_simple 406 = .ok (.bipush 12, 2) := by decide +kernel
theorem dX13_simple_408 : decode cX13_simple 408 = .ok (.if_icmp .eq 10, 3) := by decide +kernel
theorem dX13_simple_411 : decode cX13_simple 411 = .ok (.iload 9, 2) := by decide +kernel
theorem dX13_simple_413 : decode cX13_simple 413 = .ok (.bipush 13, 2) := by decide +kernel
theorem dX13_simple_415 : decode cX13_simple 415 = .ok (.if_icmp .ne 14, 3) := by decide +kernel
theorem dX13_simple_418 : decode cX13_simple 418 = .ok (.aload_n 0, 1) := by decide +kernel
theorem dX13_simple_419 : decode cX13_simple 419 = .ok (.iconst 0, 1) := by decide +kernel
theorem dX13_simple_420 : decode cX13_simple 420 = .ok (.iconst 1, 1) := by decide +kernel
theorem dX13_simple_421 : decode cX13_simple 421 = .ok (.iconst 0, 1) := by decide +kernel
theorem dX13_simple_422 : decode cX13_simple 422 = .ok (.invokevirtual 401, 3) := by decide +kernel
theorem dX13_simple_425 : decode cX13_simple 425 = .ok (.pop, 1) := by decide +kernel
theorem dX13_simple_426 : decode cX13_simple 426 = .ok (.goto 12, 3) := by decide +kernel
theorem dX13_simple_429 : decode cX13_simple 429 = .ok (.aload_n 0, 1) := by decide +kernel
theorem dX13_simple_430 : decode cX13_simple 430 = .ok (.invokevirtual 368, 3) := by decide +kernel
theorem dX13_simple_433 : decode cX13_simple 433 = .ok (.ifCond .ne 5, 3) := by decide +kernel
theorem dX13_simple_436 : decode cX13_simple 436 = .ok (.iconst 0, 1) := by decide +kernel
theorem dX13_simple_437 : decode cX13_simple 437 = .ok (.ireturn, 1) := by decide +kernel
theorem dX13_simple_438 : decode cX13_simple 438 = .ok (.iload 9, 2) := by decide +kernel
theorem dX13_simple_440 : decode cX13_simple 440 = .ok (.bipush 32, 2) := by decide +kernel
theorem dX13_simple_442 : decode cX13_simple 442 = .ok (.if_icmp .eq 142, 3) := by decide +kernel
theorem dX13_simple_445 : decode cX13_simple 445 = .ok (.aload_n 0, 1) := by decide +kernel
theorem dX13_simple_446 : decode cX13_simple 446 = .ok (.bipush 10, 2) := by decide +kernel
theorem dX13_simple_448 : decode cX13_simple 448 = .ok (.iload 9, 2) := by decide +kernel
theorem dX13_simple_450 : decode cX13_simple 450 = .ok (.bipush 12, 2) := by decide +kernel
theorem dX13_simple_452 : decode cX13_simple 452 = .ok (.if_icmp .eq 9, 3) := by decide +kernel
theorem dX13_simple_455 : decode cX13_simple 455 = .ok (.iload 9, 2) := by decide +kernel
theorem dX13_simple_457 : decode cX13_simple 457 = .ok (.iconst 4, 1) := by decide +kernel
theorem dX13_simple_458 : decode cX13_simple 458 = .ok (.if_icmp .ne 8, 3) := by decide +kernel
theorem dX13_simple_461 : decode cX13_simple 461 = .ok (.bipush 38, 2) := by decide +kernel
theorem dX13_simple_463 : decode cX13_simple 463 = .ok (.goto 116, 3) := by decide +kernel
theorem dX13_simple_466 : decode cX13_simple 466 = .ok (.iload 9, 2) := by decide +kernel
theorem dX13_simple_468 : decode cX13_simple 468 = .ok (.bipush 13, 2) := by decide +kernel
theorem dX13_simple_470 : decode cX13_simple 470 = .ok (.if_icmp .eq 9, 3) := by decide +kernel
theorem dX13_simple_473 : decode cX13_simple 473 = .ok (.iload 9, 2) := by decide +kernel
theorem dX13_simple_475 : decode cX13_simple 475 = .ok (.iconst 5, 1) := by decide +kernel
theorem dX13_simple_476 : decode cX13_simple 476 = .ok (.if_icmp .ne 8, 3) := by decide +kernel
theorem dX13_simple_479 : decode cX13_simple 479 = .ok (.bipush 39, 2) := by decide +kernel
theorem dX13_simple_481 : decode cX13_simple 481 = .ok (.goto 98, 3) := by decide +kernel
theorem dX13_simple_484 : decode cX13_simple 484 = .ok (.iload 9, 2) := by decide +kernel
theorem dX13_simple_486 : decode cX13_simple 486 = .ok (.bipush 6, 2) := by decide +kernel
theorem dX13_simple_488 : decode cX13_simple 488 = .ok (.if_icmp .ne 8, 3) := by decide +kernel
theorem dX13_simple_491 : decode cX13_simple 491 = .ok (.bipush 40, 2) := by decide +kernel
theorem dX13_simple_493 : decode cX13_simple 493 = .ok (.goto 86, 3) := by decide +kernel
theorem dX13_simple_496 : decode cX13_simple 496 = .ok (.iload 9, 2) := by decide +kernel
theorem dX13_simple_498 : decode cX13_simple 498 = .ok (.bipush 7, 2) := by decide +kernel
theorem dX13_simple_500 : decode cX13_simple 500 = .ok (.if_icmp .ne 8, 3) := by decide +kernel
theorem dX13_simple_503 : decode cX13_simple 503 = .ok (.bipush 41, 2) := by decide +kernel
theorem dX13_simple_505 : decode cX13_simple 505 = .ok (.goto 74, 3) := by decide +kernel
theorem dX13_simple_508 : decode cX13_simple 508 = .ok (.iload 9, 2) := by decide +kernel
theorem dX13_simple_510 : decode cX13_simple 510 = .ok (.bipush 8, 2) := by decide +kernel
theorem dX13_simple_512 : decode cX13_simple 512 = .ok (.if_icmp .ne 8, 3) := by decide +kernel
theorem dX13_simple_515 : decode cX13_simple 515 = .ok (.bipush 42, 2) := by decide +kernel
theorem dX13_simple_517 : decode cX13_simple 517 = .ok (.goto 62, 3) := by decide +kernel
theorem dX13_simple_520 : decode cX13_simple 520 = .ok (.iload 9, 2) := by decide +kernel
theorem dX13_simple_522 : decode cX13_simple 522 = .ok (.bipush 9, 2) := by decide +kernel
theorem dX13_simple_524 : decode cX13_simple 524 = .ok (.if_icmp .ne 8, 3) := by decide +kernel
theorem dX13_simple_527 : decode cX13_simple 527 = .ok (.bipush 35, 2) := by decide +kernel
theorem dX13_simple_529 : decode cX13_simple 529 = .ok (.goto 50, 3) := by decide +kernel
theorem dX13_simple_532 : decode cX13_simple 532 = .ok (.iload 9, 2) := by decide +kernel
theorem dX13_simple_534 : decode cX13_simple 534 = .ok (.bipush 10, 2) := by decide +kernel
theorem dX13_simple_536 : decode cX13_simple 536 = .ok (.if_icmp .ne 8, 3) := by decide +kernel
theorem dX13_simple_539 : decode cX13_simple 539 = .ok (.bipush 33, 2) := by decide +kernel
theorem dX13_simple_541 : decode cX13_simple 541 = .ok (.goto 38, 3) := by decide +kernel
theorem dX13_simple_544 : decode cX13_simple 544 = .ok (.iload 9, 2) := by decide +kernel
theorem dX13_simple_546 : decode cX13_simple 546 = .ok (.bipush 11, 2) := by decide +kernel
theorem dX13_simple_548 : decode cX13_simple 548 = .ok (.if_icmp .ne 8, 3) := by decide +kernel
theorem dX13_simple_551 : decode cX13_simple 551 = .ok (.bipush 34, 2) := by decide +kernel
theorem dX13_simple_553 : decode cX13_simple 553 = .ok (.goto 26, 3) := by decide +kernel
theorem dX13_simple_556 : decode cX13_simple 556 = .ok (.iload 9, 2) := by decide +kernel
theorem dX13_simple_558 : decode cX13_simple 558 = .ok (.iconst 2, 1) := by decide +kernel
theorem dX13_simple_559 : decode cX13_simple 559 = .ok (.if_icmp .ne 8, 3) := by decide +kernel
theorem dX13_simple_562 : decode cX13_simple 562 = .ok (.bipush 20, 2) := by decide +kernel
theorem dX13_simple_564 : decode cX13_simple 564 = .ok (.goto 15, 3) := by decide +kernel
theorem dX13_simple_567 : decode cX13_simple 567 = .ok (.iload 9, 2) := by decide +kernel
theorem dX13_simple_569 : decode cX13_simple 569 = .ok (.iconst 3, 1) := by decide +kernel
theorem dX13_simple_570 : decode cX13_simple 570 = .ok (.if_icmp .ne 8, 3) := by decide +kernel
theorem dX13_simple_573 : decode cX13_simple 573 = .ok (.bipush 21, 2) := by decide +kernel
theorem dX13_simple_575 : decode cX13_simple 575 = .ok (.goto 4, 3) := by decide +kernel
theorem dX13_simple_578 : decode cX13_simple 578 = .ok (.iconst 1, 1) := by decide +kernel
theorem dX13_simple_579 : decode cX13_simple 579 = .ok (.iconst 0, 1) := by decide +kernel
theorem dX13_simple_580 : decode cX13_simple 580 = .ok (.invokevirtual 401, 3) := by decide +kernel
theorem dX13_simple_583 : decode cX13_simple 583 = .ok (.pop, 1) := by decide +kernel
theorem dX13_simple_584 : decode cX13_simple 584 = .ok (.iload 4, 2) := by decide +kernel
theorem dX13_simple_586 : decode cX13_simple 586 = .ok (.ifCond .eq 24, 3) := by decide +kernel
theorem dX13_simple_589 : decode cX13_simple 589 = .ok (.aload_n 0, 1) := by decide +kernel
theorem dX13_simple_590 : decode cX13_simple 590 = .ok (.bipush 8, 2) := by decide +kernel
theorem dX13_simple_592 : decode cX13_simple 592 = .ok (.iload 6, 2) := by decide +kernel
theorem dX13_simple_594 : decode cX13_simple 594 = .ok (.ifCond .eq 7, 3) := by decide +kernel
theorem dX13_simple_597 : decode cX13_simple 597 = .ok (.iconst 1, 1) := by decide +kernel
theorem dX13_simple_598 : decode cX13_simple 598 = .ok (.goto 4, 3) := by decide +kernel
theorem dX13_simple_601 : decode cX13_simple 601 = .ok (.iconst 0, 1) := by decide +kernel
theorem dX13_simple_602 : decode cX13_simple 602 = .ok (.iconst 0, 1) := by decide +kernel
theorem dX13_simple_603 : decode cX13_simple 603 = .ok (.invokevirtual 401, 3) := by decide +kernel
theorem dX13_simple_606 : decode cX13_simple 606 = .ok (.pop, 1) := by decide +kernel
theorem dX13_simple_607 : decode cX13_simple 607 = .ok (.goto 21, 3) := by decide +kernel
theorem dX13_simple_610 : decode cX13_simple 610 = .ok (.aload_n 0, 1) := by decide +kernel
theorem dX13_simple_611 : decode cX13_simple 611 = .ok (.iload 7, 2) := by decide +kernel
theorem dX13_simple_613 : decode cX13_simple 613 = .ok (.ifCond .eq 7, 3) := by decide +kernel
theorem dX13_simple_616 : decode cX13_simple 616 = .ok (.iconst 2, 1) := by decide +kernel
theorem dX13_simple_617 : decode cX13_simple 617 = .ok (.goto 4, 3) := by decide +kernel
theorem dX13_simple_620 : decode cX13_simple 620 = .ok (.iconst 4, 1) := by decide +kernel
theorem dX13_simple_621 : decode cX13_simple 621 = .ok (.iload 8, 2) := by decide +kernel
theorem dX13_simple_623 : decode cX13_simple 623 = .ok (.iconst 0, 1) := by decide +kernel
theorem dX13_simple_624 : decode cX13_simple 624 = .ok (.invokevirtual 401, 3) := by decide +kernel
theorem dX13_simple_627 : decode cX13_simple 627 = .ok (.pop, 1) := by decide +kernel
theorem dX13_simple_628 : decode cX13_simple 628 = .ok (.iconst 1, 1) := by decide +kernel
theorem dX13_simple_629 : decode cX13_simple 629 = .ok (.ireturn, 1) := by decide +kernel
