/-! names: X13_operand X13_plain X13_step X13_opens X13_closeSign X13_note X13_rank X13_noteAs X13_openSign X13_inConstant X13_meaning X13_call X13_argument (tools/names.py) -/
set_option maxRecDepth 100000
theorem q3410 : (Jvm.Cond.methodLink "CompiledHouseModel" (475 : Nat) ({ cls := "CompiledHouseModel", name := "plain", desc := "()Z" } : Jvm.MethodName)) ∈ lw_all := lw_g (lw_at lw_m14 94 rfl) rfl
abbrev cX13_plain : ByteArray := prog_39_method_65_code
def yX13_plain : MethodName := ⟨RX13, "plain", "()Z"⟩
theorem q3413 : (Jvm.Cond.code ({ cls := "CompiledHouseModel", name := "plain", desc := "()Z" } : Jvm.MethodName) prog_39_method_65_code (2 : Nat) (Option.some Jvm.ClassFile.FieldType.boolean)) ∈ lw_all := lw_g (lw_at lw_m14 97 rfl) rfl
def kX13_plain : xK := (yX13_plain, cX13_plain, 2, some .boolean, [])
theorem me_X13_plain : xMe kX13_plain 0 := ⟨q3413, q216, by decide, by decide, by decide +kernel⟩
theorem q3412 : (Jvm.Cond.instanceMethod ({ cls := "CompiledHouseModel", name := "plain", desc := "()Z" } : Jvm.MethodName)) ∈ lw_all := lw_g (lw_at lw_m14 96 rfl) rfl
theorem is_X13_plain : Cond.instanceMethod kX13_plain.y ∈ lw_all := q3412
theorem se_X13_plain : Cond.selects RX13 kX13_plain.y kX13_plain.y ∈ lw_all := qs141
theorem lk_X13_475 : xLk RX13 475 yX13_plain := Or.inl q3410
theorem q3422 : (Jvm.Cond.methodLink "CompiledHouseModel" (362 : Nat) ({ cls := "CompiledHouseModel", name := "closeSign", desc := "(I)Z" } : Jvm.MethodName)) ∈ lw_all := lw_g (lw_at lw_m14 106 rfl) rfl
abbrev cX13_closeSign : ByteArray := prog_39_method_28_code
def yX13_closeSign : MethodName := ⟨RX13, "closeSign", "(I)Z"⟩
theorem q3425 : (Jvm.Cond.code ({ cls := "CompiledHouseModel", name := "closeSign", desc := "(I)Z" } : Jvm.MethodName) prog_39_method_28_code (2 : Nat) (Option.some Jvm.ClassFile.FieldType.boolean)) ∈ lw_all := lw_g (lw_at lw_m14 109 rfl) rfl
def kX13_closeSign : xK := (yX13_closeSign, cX13_closeSign, 2, some .boolean, [])
theorem me_X13_closeSign : xMe kX13_closeSign 1 := ⟨q3425, q216, by decide, by decide, by decide +kernel⟩
theorem q3424 : (Jvm.Cond.instanceMethod ({ cls := "CompiledHouseModel", name := "closeSign", desc := "(I)Z" } : Jvm.MethodName)) ∈ lw_all := lw_g (lw_at lw_m14 108 rfl) rfl
theorem is_X13_closeSign : Cond.instanceMethod kX13_closeSign.y ∈ lw_all := q3424
theorem se_X13_closeSign : Cond.selects RX13 kX13_closeSign.y kX13_closeSign.y ∈ lw_all := qs144
theorem lk_X13_362 : xLk RX13 362 yX13_closeSign := Or.inl q3422
theorem q3437 : (Jvm.Cond.methodLink "CompiledHouseModel" (356 : Nat) ({ cls := "CompiledHouseModel", name := "openSign", desc := "(I)Z" } : Jvm.MethodName)) ∈ lw_all := lw_g (lw_at lw_m14 121 rfl) rfl
abbrev cX13_openSign : ByteArray := prog_39_method_27_code
def yX13_openSign : MethodName := ⟨RX13, "openSign", "(I)Z"⟩
theorem q3440 : (Jvm.Cond.code ({ cls := "CompiledHouseModel", name := "openSign", desc := "(I)Z" } : Jvm.MethodName) prog_39_method_27_code (2 : Nat) (Option.some Jvm.ClassFile.FieldType.boolean)) ∈ lw_all := lw_g (lw_at lw_m14 124 rfl) rfl
def kX13_openSign : xK := (yX13_openSign, cX13_openSign, 2, some .boolean, [])
theorem me_X13_openSign : xMe kX13_openSign 1 := ⟨q3440, q216, by decide, by decide, by decide +kernel⟩
theorem q3439 : (Jvm.Cond.instanceMethod ({ cls := "CompiledHouseModel", name := "openSign", desc := "(I)Z" } : Jvm.MethodName)) ∈ lw_all := lw_g (lw_at lw_m14 123 rfl) rfl
theorem is_X13_openSign : Cond.instanceMethod kX13_openSign.y ∈ lw_all := q3439
theorem se_X13_openSign : Cond.selects RX13 kX13_openSign.y kX13_openSign.y ∈ lw_all := qs147
theorem lk_X13_356 : xLk RX13 356 yX13_openSign := Or.inl q3437
theorem q3441 : (Jvm.Cond.methodLink "CompiledHouseModel" (478 : Nat) ({ cls := "CompiledHouseModel", name := "inConstant", desc := "(I)Z" } : Jvm.MethodName)) ∈ lw_all := lw_g (lw_at lw_m14 125 rfl) rfl
abbrev cX13_inConstant : ByteArray := prog_39_method_66_code
def yX13_inConstant : MethodName := ⟨RX13, "inConstant", "(I)Z"⟩
theorem q3444 : (Jvm.Cond.code ({ cls := "CompiledHouseModel", name := "inConstant", desc := "(I)Z" } : Jvm.MethodName) prog_39_method_66_code (6 : Nat) (Option.some Jvm.ClassFile.FieldType.boolean)) ∈ lw_all := lw_g (lw_at lw_m14 128 rfl) rfl
def kX13_inConstant : xK := (yX13_inConstant, cX13_inConstant, 6, some .boolean, [])
theorem me_X13_inConstant : xMe kX13_inConstant 1 := ⟨q3444, q216, by decide, by decide, by decide +kernel⟩
theorem q3443 : (Jvm.Cond.instanceMethod ({ cls := "CompiledHouseModel", name := "inConstant", desc := "(I)Z" } : Jvm.MethodName)) ∈ lw_all := lw_g (lw_at lw_m14 127 rfl) rfl
theorem is_X13_inConstant : Cond.instanceMethod kX13_inConstant.y ∈ lw_all := q3443
theorem se_X13_inConstant : Cond.selects RX13 kX13_inConstant.y kX13_inConstant.y ∈ lw_all := qs148
theorem lk_X13_478 : xLk RX13 478 yX13_inConstant := Or.inl q3441
theorem q3461 : (Jvm.Cond.methodLink "CompiledHouseModel" (481 : Nat) ({ cls := "CompiledHouseModel", name := "named", desc := "(I)Z" } : Jvm.MethodName)) ∈ lw_all := lw_g (lw_at lw_m14 145 rfl) rfl
abbrev cX13_named : ByteArray := prog_39_method_67_code
def yX13_named : MethodName := ⟨RX13, "named", "(I)Z"⟩
theorem q3464 : (Jvm.Cond.code ({ cls := "CompiledHouseModel", name := "named", desc := "(I)Z" } : Jvm.MethodName) prog_39_method_67_code (5 : Nat) (Option.some Jvm.ClassFile.FieldType.boolean)) ∈ lw_all := lw_g (lw_at lw_m14 148 rfl) rfl
def kX13_named : xK := (yX13_named, cX13_named, 5, some .boolean, [])
theorem me_X13_named : xMe kX13_named 1 := ⟨q3464, q216, by decide, by decide, by decide +kernel⟩
theorem q3463 : (Jvm.Cond.instanceMethod ({ cls := "CompiledHouseModel", name := "named", desc := "(I)Z" } : Jvm.MethodName)) ∈ lw_all := lw_g (lw_at lw_m14 147 rfl) rfl
theorem is_X13_named : Cond.instanceMethod kX13_named.y ∈ lw_all := q3463
theorem se_X13_named : Cond.selects RX13 kX13_named.y kX13_named.y ∈ lw_all := qs153
theorem lk_X13_481 : xLk RX13 481 yX13_named := Or.inl q3461
theorem q3430 : (Jvm.Cond.methodLink "CompiledHouseModel" (239 : Nat) ({ cls := "CompiledHouseModel", name := "rank", desc := "(I)I" } : Jvm.MethodName)) ∈ lw_all := lw_g (lw_at lw_m14 114 rfl) rfl
abbrev cX13_rank : ByteArray := prog_39_method_18_code
def yX13_rank : MethodName := ⟨RX13, "rank", "(I)I"⟩
theorem q3432 : (Jvm.Cond.code ({ cls := "CompiledHouseModel", name := "rank", desc := "(I)I" } : Jvm.MethodName) prog_39_method_18_code (1 : Nat) (Option.some Jvm.ClassFile.FieldType.int)) ∈ lw_all := lw_g (lw_at lw_m14 116 rfl) rfl
def kX13_rank : xK := (yX13_rank, cX13_rank, 1, some .int, [])
theorem me_X13_rank : xMe kX13_rank 1 := ⟨q3432, q216, by decide, by decide, by decide +kernel⟩
theorem q3431 : (Jvm.Cond.static ({ cls := "CompiledHouseModel", name := "rank", desc := "(I)I" } : Jvm.MethodName)) ∈ lw_all := lw_g (lw_at lw_m14 115 rfl) rfl
theorem st_X13_rank : Cond.static kX13_rank.y ∈ lw_all := q3431
theorem lk_X13_239 : xLk RX13 239 yX13_rank := Or.inl q3430
theorem q3433 : (Jvm.Cond.methodLink "CompiledHouseModel" (242 : Nat) ({ cls := "CompiledHouseModel", name := "noteAs", desc := "(III)V" } : Jvm.MethodName)) ∈ lw_all := lw_g (lw_at lw_m14 117 rfl) rfl
abbrev cX13_noteAs : ByteArray := prog_39_method_20_code
def yX13_noteAs : MethodName := ⟨RX13, "noteAs", "(III)V"⟩
theorem q3436 : (Jvm.Cond.code ({ cls := "CompiledHouseModel", name := "noteAs", desc := "(III)V" } : Jvm.MethodName) prog_39_method_20_code (4 : Nat) (Option.none : Option Jvm.ClassFile.FieldType)) ∈ lw_all := lw_g (lw_at lw_m14 120 rfl) rfl
def kX13_noteAs : xK := (yX13_noteAs, cX13_noteAs, 4, none, [])
theorem me_X13_noteAs : xMe kX13_noteAs 3 := ⟨q3436, q216, by decide, by decide, by decide +kernel⟩
theorem q3435 : (Jvm.Cond.instanceMethod ({ cls := "CompiledHouseModel", name := "noteAs", desc := "(III)V" } : Jvm.MethodName)) ∈ lw_all := lw_g (lw_at lw_m14 119 rfl) rfl
theorem is_X13_noteAs : Cond.instanceMethod kX13_noteAs.y ∈ lw_all := q3435
theorem se_X13_noteAs : Cond.selects RX13 kX13_noteAs.y kX13_noteAs.y ∈ lw_all := qs146
theorem lk_X13_242 : xLk RX13 242 yX13_noteAs := Or.inl q3433
theorem q3048 : (Jvm.Cond.fieldLink "CompiledHouseModel" (254 : Nat) "CompiledHouseModel" "foundRank" "I") ∈ lw_all := lw_g (lw_at lw_m12 212 rfl) rfl
theorem f_X13_254_12 : xF RX13 254 12 49 := ⟨_, "CompiledHouseModel", rfl, by decide, Or.inl q3048, Or.inl rfl⟩
theorem q3445 : (Jvm.Cond.methodLink "CompiledHouseModel" (457 : Nat) ({ cls := "CompiledHouseModel", name := "meaning", desc := "(I)I" } : Jvm.MethodName)) ∈ lw_all := lw_g (lw_at lw_m14 129 rfl) rfl
abbrev cX13_meaning : ByteArray := prog_39_method_40_code
def yX13_meaning : MethodName := ⟨RX13, "meaning", "(I)I"⟩
theorem q3448 : (Jvm.Cond.code ({ cls := "CompiledHouseModel", name := "meaning", desc := "(I)I" } : Jvm.MethodName) prog_39_method_40_code (5 : Nat) (Option.some Jvm.ClassFile.FieldType.int)) ∈ lw_all := lw_g (lw_at lw_m14 132 rfl) rfl
def kX13_meaning : xK := (yX13_meaning, cX13_meaning, 5, some .int, [])
theorem me_X13_meaning : xMe kX13_meaning 1 := ⟨q3448, q216, by decide, by decide, by decide +kernel⟩
theorem q3447 : (Jvm.Cond.instanceMethod ({ cls := "CompiledHouseModel", name := "meaning", desc := "(I)I" } : Jvm.MethodName)) ∈ lw_all := lw_g (lw_at lw_m14 131 rfl) rfl
theorem is_X13_meaning : Cond.instanceMethod kX13_meaning.y ∈ lw_all := q3447
theorem se_X13_meaning : Cond.selects RX13 kX13_meaning.y kX13_meaning.y ∈ lw_all := qs149
theorem lk_X13_457 : xLk RX13 457 yX13_meaning := Or.inl q3445
theorem q3061 : (Jvm.Cond.fieldLink "CompiledHouseModel" (374 : Nat) "CompiledHouseModel" "meantFunction" "I") ∈ lw_all := lw_g (lw_at lw_m12 225 rfl) rfl
theorem f_X13_374_12 : xF RX13 374 12 62 := ⟨_, "CompiledHouseModel", rfl, by decide, Or.inl q3061, Or.inl rfl⟩
theorem q3449 : (Jvm.Cond.methodLink "CompiledHouseModel" (454 : Nat) ({ cls := "CompiledHouseModel", name := "call", desc := "(IZ)Z" } : Jvm.MethodName)) ∈ lw_all := lw_g (lw_at lw_m14 133 rfl) rfl
abbrev cX13_call : ByteArray := prog_39_method_68_code
def yX13_call : MethodName := ⟨RX13, "call", "(IZ)Z"⟩
theorem q3452 : (Jvm.Cond.code ({ cls := "CompiledHouseModel", name := "call", desc := "(IZ)Z" } : Jvm.MethodName) prog_39_method_68_code (7 : Nat) (Option.some Jvm.ClassFile.FieldType.boolean)) ∈ lw_all := lw_g (lw_at lw_m14 136 rfl) rfl
def kX13_call : xK := (yX13_call, cX13_call, 7, some .boolean, [])
theorem me_X13_call : xMe kX13_call 2 := ⟨q3452, q216, by decide, by decide, by decide +kernel⟩
theorem q3451 : (Jvm.Cond.instanceMethod ({ cls := "CompiledHouseModel", name := "call", desc := "(IZ)Z" } : Jvm.MethodName)) ∈ lw_all := lw_g (lw_at lw_m14 135 rfl) rfl
theorem is_X13_call : Cond.instanceMethod kX13_call.y ∈ lw_all := q3451
theorem se_X13_call : Cond.selects RX13 kX13_call.y kX13_call.y ∈ lw_all := qs150
theorem lk_X13_454 : xLk RX13 454 yX13_call := Or.inl q3449
theorem q3457 : (Jvm.Cond.methodLink "CompiledHouseModel" (460 : Nat) ({ cls := "CompiledHouseModel", name := "element", desc := "(I)Z" } : Jvm.MethodName)) ∈ lw_all := lw_g (lw_at lw_m14 141 rfl) rfl
abbrev cX13_element : ByteArray := prog_39_method_59_code
def yX13_element : MethodName := ⟨RX13, "element", "(I)Z"⟩
theorem q3460 : (Jvm.Cond.code ({ cls := "CompiledHouseModel", name := "element", desc := "(I)Z" } : Jvm.MethodName) prog_39_method_59_code (7 : Nat) (Option.some Jvm.ClassFile.FieldType.boolean)) ∈ lw_all := lw_g (lw_at lw_m14 144 rfl) rfl
def kX13_element : xK := (yX13_element, cX13_element, 7, some .boolean, [])
theorem me_X13_element : xMe kX13_element 1 := ⟨q3460, q216, by decide, by decide, by decide +kernel⟩
theorem q3459 : (Jvm.Cond.instanceMethod ({ cls := "CompiledHouseModel", name := "element", desc := "(I)Z" } : Jvm.MethodName)) ∈ lw_all := lw_g (lw_at lw_m14 143 rfl) rfl
theorem is_X13_element : Cond.instanceMethod kX13_element.y ∈ lw_all := q3459
theorem se_X13_element : Cond.selects RX13 kX13_element.y kX13_element.y ∈ lw_all := qs152
theorem lk_X13_460 : xLk RX13 460 yX13_element := Or.inl q3457
theorem q3453 : (Jvm.Cond.methodLink "CompiledHouseModel" (484 : Nat) ({ cls := "CompiledHouseModel", name := "argument", desc := "(II)Z" } : Jvm.MethodName)) ∈ lw_all := lw_g (lw_at lw_m14 137 rfl) rfl
abbrev cX13_argument : ByteArray := prog_39_method_69_code
def yX13_argument : MethodName := ⟨RX13, "argument", "(II)Z"⟩
theorem q3456 : (Jvm.Cond.code ({ cls := "CompiledHouseModel", name := "argument", desc := "(II)Z" } : Jvm.MethodName) prog_39_method_69_code (8 : Nat) (Option.some Jvm.ClassFile.FieldType.boolean)) ∈ lw_all := lw_g (lw_at lw_m14 140 rfl) rfl
def kX13_argument : xK := (yX13_argument, cX13_argument, 8, some .boolean, [])
theorem me_X13_argument : xMe kX13_argument 2 := ⟨q3456, q216, by decide, by decide, by decide +kernel⟩
theorem q3455 : (Jvm.Cond.instanceMethod ({ cls := "CompiledHouseModel", name := "argument", desc := "(II)Z" } : Jvm.MethodName)) ∈ lw_all := lw_g (lw_at lw_m14 139 rfl) rfl
theorem is_X13_argument : Cond.instanceMethod kX13_argument.y ∈ lw_all := q3455
theorem se_X13_argument : Cond.selects RX13 kX13_argument.y kX13_argument.y ∈ lw_all := qs151
theorem lk_X13_484 : xLk RX13 484 yX13_argument := Or.inl q3453
theorem dX13_operand_0 : decode cX13_operand 0 = .ok (.aload_n 0, 1) := by decide +kernel
theorem dX13_operand_1 : decode cX13_operand 1 = .ok (.getfield 233, 3) := by decide +kernel
theorem dX13_operand_4 : decode cX13_operand 4 = .ok (.istore_n 1, 1) := by decide +kernel
theorem dX13_operand_5 : decode cX13_operand 5 = .ok (.aload_n 0, 1) := by decide +kernel
theorem dX13_operand_6 : decode cX13_operand 6 = .ok (.bipush 39, 2) := by decide +kernel
theorem dX13_operand_8 : decode cX13_operand 8 = .ok (.invokevirtual 257, 3) := by decide +kernel
theorem dX13_operand_11 : decode cX13_operand 11 = .ok (.ifCond .ne 21, 3) := by decide +kernel
theorem dX13_operand_14 : decode cX13_operand 14 = .ok (.aload_n 0, 1) := by decide +kernel
theorem dX13_operand_15 : decode cX13_operand 15 = .ok (.bipush 43, 2) := by decide +kernel
theorem dX13_operand_17 : decode cX13_operand 17 = .ok (.invokevirtual 257, 3) := by decide +kernel
theorem dX13_operand_20 : decode cX13_operand 20 = .ok (.ifCond .ne 12, 3) := by decide +kernel
theorem dX13_operand_23 : decode cX13_operand 23 = .ok (.aload_n 0, 1) := by decide +kernel
theorem dX13_operand_24 : decode cX13_operand 24 = .ok (.bipush 44, 2) := by decide +kernel
theorem dX13_operand_26 : decode cX13_operand 26 = .ok (.invokevirtual 257, 3) := by decide +kernel
theorem dX13_operand_29 : decode cX13_operand 29 = .ok (.ifCond .eq 16, 3) := by decide +kernel
theorem dX13_operand_32 : decode cX13_operand 32 = .ok (.aload_n 0, 1) := by decide +kernel
theorem dX13_operand_33 : decode cX13_operand 33 = .ok (.dup, 1) := by decide +kernel
theorem dX13_operand_34 : decode cX13_operand 34 = .ok (.getfield 233, 3) := by decide +kernel
theorem dX13_operand_37 : decode cX13_operand 37 = .ok (.iconst 1, 1) := by decide +kernel
theorem dX13_operand_38 : decode cX13_operand 38 = .ok (.iadd, 1) := by decide +kernel
theorem dX13_operand_39 : decode cX13_operand 39 = .ok (.putfield 233, 3) := by decide +kernel
theorem dX13_operand_42 : decode cX13_operand 42 = .ok (.goto (-37), 3) := by decide +kernel
theorem dX13_operand_45 : decode cX13_operand 45 = .ok (.aload_n 0, 1) := by decide +kernel
theorem dX13_operand_46 : decode cX13_operand 46 = .ok (.getfield 233, 3) := by decide +kernel
theorem dX13_operand_49 : decode cX13_operand 49 = .ok (.istore_n 2, 1) := by decide +kernel
theorem dX13_operand_50 : decode cX13_operand 50 = .ok (.aload_n 0, 1) := by decide +kernel
theorem dX13_operand_51 : decode cX13_operand 51 = .ok (.invokevirtual 475, 3) := by decide +kernel
theorem dX13_operand_54 : decode cX13_operand 54 = .ok (.ifCond .ne 5, 3) := by decide +kernel
theorem dX13_operand_57 : decode cX13_operand 57 = .ok (.iconst 0, 1) := by decide +kernel
theorem dX13_operand_58 : decode cX13_operand 58 = .ok (.ireturn, 1) := by decide +kernel
theorem dX13_operand_59 : decode cX13_operand 59 = .ok (.iload_n 2, 1) := by decide +kernel
theorem dX13_operand_60 : decode cX13_operand 60 = .ok (.iconst 1, 1) := by decide +kernel
theorem dX13_operand_61 : decode cX13_operand 61 = .ok (.isub, 1) := by decide +kernel
theorem dX13_operand_62 : decode cX13_operand 62 = .ok (.istore_n 3, 1) := by decide +kernel
theorem dX13_operand_63 : decode cX13_operand 63 = .ok (.iload_n 3, 1) := by decide +kernel
theorem dX13_operand_64 : decode cX13_operand 64 = .ok (.iload_n 1, 1) := by decide +kernel
theorem dX13_operand_65 : decode cX13_operand 65 = .ok (.if_icmp .lt 23, 3) := by decide +kernel
theorem dX13_operand_68 : decode cX13_operand 68 = .ok (.aload_n 0, 1) := by decide +kernel
theorem dX13_operand_69 : decode cX13_operand 69 = .ok (.bipush 11, 2) := by decide +kernel
theorem dX13_operand_71 : decode cX13_operand 71 = .ok (.aload_n 0, 1) := by decide +kernel
theorem dX13_operand_72 : decode cX13_operand 72 = .ok (.getfield 19, 3) := by decide +kernel
theorem dX13_operand_75 : decode cX13_operand 75 = .ok (.iload_n 3, 1) := by decide +kernel
theorem dX13_operand_76 : decode cX13_operand 76 = .ok (.iaload, 1) := by decide +kernel
theorem dX13_operand_77 : decode cX13_operand 77 = .ok (.iconst 0, 1) := by decide +kernel
theorem dX13_operand_78 : decode cX13_operand 78 = .ok (.invokevirtual 401, 3) := by decide +kernel
theorem dX13_operand_81 : decode cX13_operand 81 = .ok (.pop, 1) := by decide +kernel
theorem dX13_operand_82 : decode cX13_operand 82 = .ok (.iinc 3 (-1), 3) := by decide +kernel
theorem dX13_operand_85 : decode cX13_operand 85 = .ok (.goto (-22), 3) := by decide +kernel
theorem dX13_operand_88 : decode cX13_operand 88 = .ok (.iconst 1, 1) := by decide +kernel
theorem dX13_operand_89 : decode cX13_operand 89 = .ok (.ireturn, 1) := by decide +kernel
theorem dX13_plain_0 : decode cX13_plain 0 = .ok (.aload_n 0, 1) := by decide +kernel
theorem dX13_plain_1 : decode cX13_plain 1 = .ok (.getfield 16, 3) := by decide +kernel
theorem dX13_plain_4 : decode cX13_plain 4 = .ok (.aload_n 0, 1) := by decide +kernel
theorem dX13_plain_5 : decode cX13_plain 5 = .ok (.getfield 233, 3) := by decide +kernel
theorem dX13_plain_8 : decode cX13_plain 8 = .ok (.iaload, 1) := by decide +kernel
theorem dX13_plain_9 : decode cX13_plain 9 = .ok (.iconst 3, 1) := by decide +kernel
theorem dX13_plain_10 : decode cX13_plain 10 = .ok (.if_icmp .ne 31, 3) := by decide +kernel
theorem dX13_plain_13 : decode cX13_plain 13 = .ok (.aload_n 0, 1) := by decide +kernel
theorem dX13_plain_14 : decode cX13_plain 14 = .ok (.iconst 0, 1) := by decide +kernel
theorem dX13_plain_15 : decode cX13_plain 15 = .ok (.aload_n 0, 1) := by decide +kernel
theorem dX13_plain_16 : decode cX13_plain 16 = .ok (.getfield 19, 3) := by decide +kernel
theorem dX13_plain_19 : decode cX13_plain 19 = .ok (.aload_n 0, 1) := by decide +kernel
theorem dX13_plain_20 : decode cX13_plain 20 = .ok (.getfield 233, 3) := by decide +kernel
theorem dX13_plain_23 : decode cX13_plain 23 = .ok (.iaload, 1) := by decide +kernel
theorem dX13_plain_24 : decode cX13_plain 24 = .ok (.iconst 0, 1) := by decide +kernel
theorem dX13_plain_25 : decode cX13_plain 25 = .ok (.invokevirtual 401, 3) := by decide +kernel
theorem dX13_plain_28 : decode cX13_plain 28 = .ok (.pop, 1) := by decide +kernel
theorem dX13_plain_29 : decode cX13_plain 29 = .ok (.aload_n 0, 1) := by decide +kernel
theorem dX13_plain_30 : decode cX13_plain 30 = .ok (.dup, 1) := by decide +kernel
theorem dX13_plain_31 : decode cX13_plain 31 = .ok (.getfield 233, 3) := by decide +kernel
theorem dX13_plain_34 : decode cX13_plain 34 = .ok (.iconst 1, 1) := by decide +kernel
theorem dX13_plain_35 : decode cX13_plain 35 = .ok (.iadd, 1) := by decide +kernel
theorem dX13_plain_36 : decode cX13_plain 36 = .ok (.putfield 233, 3) := by decide +kernel
theorem dX13_plain_39 : decode cX13_plain 39 = .ok (.iconst 1, 1) := by decide +kernel
theorem dX13_plain_40 : decode cX13_plain 40 = .ok (.ireturn, 1) := by decide +kernel
theorem dX13_plain_41 : decode cX13_plain 41 = .ok (.aload_n 0, 1) := by decide +kernel
theorem dX13_plain_42 : decode cX13_plain 42 = .ok (.bipush 22, 2) := by decide +kernel
theorem dX13_plain_44 : decode cX13_plain 44 = .ok (.invokevirtual 257, 3) := by decide +kernel
theorem dX13_plain_47 : decode cX13_plain 47 = .ok (.ifCond .eq 32, 3) := by decide +kernel
theorem dX13_plain_50 : decode cX13_plain 50 = .ok (.aload_n 0, 1) := by decide +kernel
theorem dX13_plain_51 : decode cX13_plain 51 = .ok (.invokevirtual 269, 3) := by decide +kernel
theorem dX13_plain_54 : decode cX13_plain 54 = .ok (.ifCond .eq 23, 3) := by decide +kernel
theorem dX13_plain_57 : decode cX13_plain 57 = .ok (.aload_n 0, 1) := by decide +kernel
theorem dX13_plain_58 : decode cX13_plain 58 = .ok (.invokevirtual 368, 3) := by decide +kernel
theorem dX13_plain_61 : decode cX13_plain 61 = .ok (.ifCond .eq 16, 3) := by decide +kernel
theorem dX13_plain_64 : decode cX13_plain 64 = .ok (.aload_n 0, 1) := by decide +kernel
theorem dX13_plain_65 : decode cX13_plain 65 = .ok (.bipush 23, 2) := by decide +kernel
theorem dX13_plain_67 : decode cX13_plain 67 = .ok (.invokevirtual 362, 3) := by decide +kernel
theorem dX13_plain_70 : decode cX13_plain 70 = .ok (.ifCond .eq 7, 3) := by decide +kernel
theorem dX13_plain_73 : decode cX13_plain 73 = .ok (.iconst 1, 1) := by decide +kernel
theorem dX13_plain_74 : decode cX13_plain 74 = .ok (.goto 4, 3) := by decide +kernel
theorem dX13_plain_77 : decode cX13_plain 77 = .ok (.iconst 0, 1) := by decide +kernel
theorem dX13_plain_78 : decode cX13_plain 78 = .ok (.ireturn, 1) := by decide +kernel
theorem dX13_plain_79 : decode cX13_plain 79 = .ok (.aload_n 0, 1) := by decide +kernel
theorem dX13_plain_80 : decode cX13_plain 80 = .ok (.bipush 13, 2) := by decide +kernel
theorem dX13_plain_82 : decode cX13_plain 82 = .ok (.invokevirtual 263, 3) := by decide +kernel
theorem dX13_plain_85 : decode cX13_plain 85 = .ok (.ifCond .eq 71, 3) := by decide +kernel
theorem dX13_plain_88 : decode cX13_plain 88 = .ok (.aload_n 0, 1) := by decide +kernel
theorem dX13_plain_89 : decode cX13_plain 89 = .ok (.getfield 365, 3) := by decide +kernel
theorem dX13_plain_92 : decode cX13_plain 92 = .ok (.ifCond .eq 23, 3) := by decide +kernel
theorem dX13_plain_95 : decode cX13_plain 95 = .ok (.aload_n 0, 1) := by decide +kernel
theorem dX13_plain_96 : decode cX13_plain 96 = .ok (.bipush 10, 2) := by decide +kernel
theorem dX13_plain_98 : decode cX13_plain 98 = .ok (.aload_n 0, 1) := by decide +kernel
theorem dX13_plain_99 : decode cX13_plain 99 = .ok (.getfield 22, 3) := by decide +kernel
theorem dX13_plain_102 : decode cX13_plain 102 = .ok (.aload_n 0, 1) := by decide +kernel
theorem dX13_plain_103 : decode cX13_plain 103 = .ok (.getfield 233, 3) := by decide +kernel
theorem dX13_plain_106 : decode cX13_plain 106 = .ok (.iaload, 1) := by decide +kernel
theorem dX13_plain_107 : decode cX13_plain 107 = .ok (.invokevirtual 352, 3) := by decide +kernel
theorem dX13_plain_110 : decode cX13_plain 110 = .ok (.aload_n 0, 1) := by decide +kernel
theorem dX13_plain_111 : decode cX13_plain 111 = .ok (.iconst 1, 1) := by decide +kernel
theorem dX13_plain_112 : decode cX13_plain 112 = .ok (.putfield 345, 3) := by decide +kernel
theorem dX13_plain_115 : decode cX13_plain 115 = .ok (.aload_n 0, 1) := by decide +kernel
theorem dX13_plain_116 : decode cX13_plain 116 = .ok (.dup, 1) := by decide +kernel
theorem dX13_plain_117 : decode cX13_plain 117 = .ok (.getfield 233, 3) := by decide +kernel
theorem dX13_plain_120 : decode cX13_plain 120 = .ok (.iconst 1, 1) := by decide +kernel
theorem dX13_plain_121 : decode cX13_plain 121 = .ok (.iadd, 1) := by decide +kernel
theorem dX13_plain_122 : decode cX13_plain 122 = .ok (.putfield 233, 3) := by decide +kernel
theorem dX13_plain_125 : decode cX13_plain 125 = .ok (.aload_n 0, 1) := by decide +kernel
theorem dX13_plain_126 : decode cX13_plain 126 = .ok (.bipush 22, 2) := by decide +kernel
theorem dX13_plain_128 : decode cX13_plain 128 = .ok (.invokevirtual 356, 3) := by decide +kernel
theorem dX13_plain_131 : decode cX13_plain 131 = .ok (.ifCond .eq 12, 3) := by decide +kernel
theorem dX13_plain_134 : decode cX13_plain 134 = .ok (.aload_n 0, 1) := by decide +kernel
theorem dX13_plain_135 : decode cX13_plain 135 = .ok (.bipush 23, 2) := by decide +kernel
theorem dX13_plain_137 : decode cX13_plain 137 = .ok (.invokevirtual 362, 3) := by decide +kernel
theorem dX13_plain_140 : decode cX13_plain 140 = .ok (.ifCond .ne 5, 3) := by decide +kernel
theorem dX13_plain_143 : decode cX13_plain 143 = .ok (.iconst 0, 1) := by decide +kernel
theorem dX13_plain_144 : decode cX13_plain 144 = .ok (.ireturn, 1) := by decide +kernel
theorem dX13_plain_145 : decode cX13_plain 145 = .ok (.aload_n 0, 1) := by decide +kernel
theorem dX13_plain_146 : decode cX13_plain 146 = .ok (.bipush 21, 2) := by decide +kernel
theorem dX13_plain_148 : decode cX13_plain 148 = .ok (.iconst 0, 1) := by decide +kernel
theorem dX13_plain_149 : decode cX13_plain 149 = .ok (.iconst 0, 1) := by decide +kernel
theorem dX13_plain_150 : decode cX13_plain 150 = .ok (.invokevirtual 401, 3) := by decide +kernel
theorem dX13_plain_153 : decode cX13_plain 153 = .ok (.pop, 1) := by decide +kernel
theorem dX13_plain_154 : decode cX13_plain 154 = .ok (.iconst 1, 1) := by decide +kernel
theorem dX13_plain_155 : decode cX13_plain 155 = .ok (.ireturn, 1) := by decide +kernel
theorem dX13_plain_156 : decode cX13_plain 156 = .ok (.aload_n 0, 1) := by decide +kernel
theorem dX13_plain_157 : decode cX13_plain 157 = .ok (.getfield 16, 3) := by decide +kernel
theorem dX13_plain_160 : decode cX13_plain 160 = .ok (.aload_n 0, 1) := by decide +kernel
theorem dX13_plain_161 : decode cX13_plain 161 = .ok (.getfield 233, 3) := by decide +kernel
theorem dX13_plain_164 : decode cX13_plain 164 = .ok (.iaload, 1) := by decide +kernel
theorem dX13_plain_165 : decode cX13_plain 165 = .ok (.iconst 1, 1) := by decide +kernel
theorem dX13_plain_166 : decode cX13_plain 166 = .ok (.if_icmp .eq 9, 3) := by decide +kernel
theorem dX13_plain_169 : decode cX13_plain 169 = .ok (.aload_n 0, 1) := by decide +kernel
theorem dX13_plain_170 : decode cX13_plain 170 = .ok (.iconst 2, 1) := by decide +kernel
theorem dX13_plain_171 : decode cX13_plain 171 = .ok (.invokevirtual 260, 3) := by decide +kernel
theorem dX13_plain_174 : decode cX13_plain 174 = .ok (.ireturn, 1) := by decide +kernel
theorem dX13_plain_175 : decode cX13_plain 175 = .ok (.aload_n 0, 1) := by decide +kernel
theorem dX13_plain_176 : decode cX13_plain 176 = .ok (.getfield 233, 3) := by decide +kernel
theorem dX13_plain_179 : decode cX13_plain 179 = .ok (.istore_n 1, 1) := by decide +kernel
theorem dX13_plain_180 : decode cX13_plain 180 = .ok (.aload_n 0, 1) := by decide +kernel
theorem dX13_plain_181 : decode cX13_plain 181 = .ok (.dup, 1) := by decide +kernel
theorem dX13_plain_182 : decode cX13_plain 182 = .ok (.getfield 233, 3) := by decide +kernel
theorem dX13_plain_185 : decode cX13_plain 185 = .ok (.iconst 1, 1) := by decide +kernel
theorem dX13_plain_186 : decode cX13_plain 186 = .ok (.iadd, 1) := by decide +kernel
theorem dX13_plain_187 : decode cX13_plain 187 = .ok (.putfield 233, 3) := by decide +kernel
theorem dX13_plain_190 : decode cX13_plain 190 = .ok (.aload_n 0, 1) := by decide +kernel
theorem dX13_plain_191 : decode cX13_plain 191 = .ok (.getfield 365, 3) := by decide +kernel
theorem dX13_plain_194 : decode cX13_plain 194 = .ok (.ifCond .eq 11, 3) := by decide +kernel
theorem dX13_plain_197 : decode cX13_plain 197 = .ok (.aload_n 0, 1) := by decide +kernel
theorem dX13_plain_198 : decode cX13_plain 198 = .ok (.iload_n 1, 1) := by decide +kernel
theorem dX13_plain_199 : decode cX13_plain 199 = .ok (.invokevirtual 478, 3) := by decide +kernel
theorem dX13_plain_202 : decode cX13_plain 202 = .ok (.goto 8, 3) := by decide +kernel
theorem dX13_plain_205 : decode cX13_plain 205 = .ok (.aload_n 0, 1) := by decide +kernel
theorem dX13_plain_206 : decode cX13_plain 206 = .ok (.iload_n 1, 1) := by decide +kernel
theorem dX13_plain_207 : decode cX13_plain 207 = .ok (.invokevirtual 481, 3) := by decide +kernel
theorem dX13_plain_210 : decode cX13_plain 210 = .ok (.ireturn, 1) := by decide +kernel
theorem dX13_step_0 : decode cX13_step 0 = .ok (.aload_n 0, 1) := by decide +kernel
theorem dX13_step_1 : decode cX13_step 1 = .ok (.getfield 104, 3) := by decide +kernel
theorem dX13_step_4 : decode cX13_step 4 = .ok (.aload_n 0, 1) := by decide +kernel
theorem dX13_step_5 : decode cX13_step 5 = .ok (.getfield 276, 3) := by decide +kernel
theorem dX13_step_8 : decode cX13_step 8 = .ok (.iload_n 1, 1) := by decide +kernel
theorem dX13_step_9 : decode cX13_step 9 = .ok (.iastore, 1) := by decide +kernel
theorem dX13_step_10 : decode cX13_step 10 = .ok (.aload_n 0, 1) := by decide +kernel
theorem dX13_step_11 : decode cX13_step 11 = .ok (.getfield 107, 3) := by decide +kernel
theorem dX13_step_14 : decode cX13_step 14 = .ok (.aload_n 0, 1) := by decide +kernel
theorem dX13_step_15 : decode cX13_step 15 = .ok (.getfield 276, 3) := by decide +kernel
theorem dX13_step_18 : decode cX13_step 18 = .ok (.iload_n 2, 1) := by decide +kernel
theorem dX13_step_19 : decode cX13_step 19 = .ok (.iastore, 1) := by decide +kernel
theorem dX13_step_20 : decode cX13_step 20 = .ok (.aload_n 0, 1) := by decide +kernel
theorem dX13_step_21 : decode cX13_step 21 = .ok (.getfield 110, 3) := by decide +kernel
theorem dX13_step_24 : decode cX13_step 24 = .ok (.aload_n 0, 1) := by decide +kernel
theorem dX13_step_25 : decode cX13_step 25 = .ok (.getfield 276, 3) := by decide +kernel
theorem dX13_step_28 : decode cX13_step 28 = .ok (.iload_n 3, 1) := by decide +kernel
theorem dX13_step_29 : decode cX13_step 29 = .ok (.iastore, 1) := by decide +kernel
theorem dX13_step_30 : decode cX13_step 30 = .ok (.aload_n 0, 1) := by decide +kernel
theorem dX13_step_31 : decode cX13_step 31 = .ok (.dup, 1) := by decide +kernel
theorem dX13_step_32 : decode cX13_step 32 = .ok (.getfield 276, 3) := by decide +kernel
theorem dX13_step_35 : decode cX13_step 35 = .ok (.iconst 1, 1) := by decide +kernel
theorem dX13_step_36 : decode cX13_step 36 = .ok (.iadd, 1) := by decide +kernel
theorem dX13_step_37 : decode cX13_step 37 = .ok (.putfield 276, 3) := by decide +kernel
theorem dX13_step_40 : decode cX13_step 40 = .ok (.aload_n 0, 1) := by decide +kernel
theorem dX13_step_41 : decode cX13_step 41 = .ok (.getfield 276, 3) := by decide +kernel
theorem dX13_step_44 : decode cX13_step 44 = .ok (.iconst 1, 1) := by decide +kernel
theorem dX13_step_45 : decode cX13_step 45 = .ok (.isub, 1) := by decide +kernel
theorem dX13_step_46 : decode cX13_step 46 = .ok (.ireturn, 1) := by decide +kernel
theorem dX13_opens_0 : decode cX13_opens 0 = .ok (.aload_n 0, 1) := by decide +kernel
theorem dX13_opens_1 : decode cX13_opens 1 = .ok (.getfield 266, 3) := by decide +kernel
theorem dX13_opens_4 : decode cX13_opens 4 = .ok (.bipush 40, 2) := by decide +kernel
theorem dX13_opens_6 : decode cX13_opens 6 = .ok (.if_icmp .ne 9, 3) := by decide +kernel
theorem dX13_opens_9 : decode cX13_opens 9 = .ok (.aload_n 0, 1) := by decide +kernel
theorem dX13_opens_10 : decode cX13_opens 10 = .ok (.iconst 3, 1) := by decide +kernel
theorem dX13_opens_11 : decode cX13_opens 11 = .ok (.invokevirtual 260, 3) := by decide +kernel
theorem dX13_opens_14 : decode cX13_opens 14 = .ok (.ireturn, 1) := by decide +kernel
theorem dX13_opens_15 : decode cX13_opens 15 = .ok (.aload_n 0, 1) := by decide +kernel
theorem dX13_opens_16 : decode cX13_opens 16 = .ok (.dup, 1) := by decide +kernel
theorem dX13_opens_17 : decode cX13_opens 17 = .ok (.getfield 266, 3) := by decide +kernel
theorem dX13_opens_20 : decode cX13_opens 20 = .ok (.iconst 1, 1) := by decide +kernel
theorem dX13_opens_21 : decode cX13_opens 21 = .ok (.iadd, 1) := by decide +kernel
theorem dX13_opens_22 : decode cX13_opens 22 = .ok (.putfield 266, 3) := by decide +kernel
theorem dX13_opens_25 : decode cX13_opens 25 = .ok (.aload_n 0, 1) := by decide +kernel
theorem dX13_opens_26 : decode cX13_opens 26 = .ok (.dup, 1) := by decide +kernel
theorem dX13_opens_27 : decode cX13_opens 27 = .ok (.getfield 233, 3) := by decide +kernel
theorem dX13_opens_30 : decode cX13_opens 30 = .ok (.iconst 1, 1) := by decide +kernel
theorem dX13_opens_31 : decode cX13_opens 31 = .ok (.iadd, 1) := by decide +kernel
theorem dX13_opens_32 : decode cX13_opens 32 = .ok (.putfield 233, 3) := by decide +kernel
theorem dX13_opens_35 : decode cX13_opens 35 = .ok (.iconst 1, 1) := by decide +kernel
theorem dX13_opens_36 : decode cX13_opens 36 = .ok (.ireturn, 1) := by decide +kernel
theorem dX13_closeSign_0 : decode cX13_closeSign 0 = .ok (.aload_n 0, 1) := by decide +kernel
theorem dX13_closeSign_1 : decode cX13_closeSign 1 = .ok (.iload_n 1, 1) := by decide +kernel
theorem dX13_closeSign_2 : decode cX13_closeSign 2 = .ok (.invokevirtual 273, 3) := by decide +kernel
theorem dX13_closeSign_5 : decode cX13_closeSign 5 = .ok (.ifCond .ne 5, 3) := by decide +kernel
theorem dX13_closeSign_8 : decode cX13_closeSign 8 = .ok (.iconst 0, 1) := by decide +kernel
theorem dX13_closeSign_9 : decode cX13_closeSign 9 = .ok (.ireturn, 1) := by decide +kernel
theorem dX13_closeSign_10 : decode cX13_closeSign 10 = .ok (.aload_n 0, 1) := by decide +kernel
theorem dX13_closeSign_11 : decode cX13_closeSign 11 = .ok (.dup, 1) := by decide +kernel
theorem dX13_closeSign_12 : decode cX13_closeSign 12 = .ok (.getfield 266, 3) := by decide +kernel
theorem dX13_closeSign_15 : decode cX13_closeSign 15 = .ok (.iconst 1, 1) := by decide +kernel
theorem dX13_closeSign_16 : decode cX13_closeSign 16 = .ok (.isub, 1) := by decide +kernel
theorem dX13_closeSign_17 : decode cX13_closeSign 17 = .ok (.putfield 266, 3) := by decide +kernel
theorem dX13_closeSign_20 : decode cX13_closeSign 20 = .ok (.iconst 1, 1) := by decide +kernel
theorem dX13_closeSign_21 : decode cX13_closeSign 21 = .ok (.ireturn, 1) := by decide +kernel
theorem dX13_note_0 : decode cX13_note 0 = .ok (.aload_n 0, 1) := by decide +kernel
theorem dX13_note_1 : decode cX13_note 1 = .ok (.iload_n 1, 1) := by decide +kernel
theorem dX13_note_2 : decode cX13_note 2 = .ok (.iload_n 2, 1) := by decide +kernel
theorem dX13_note_3 : decode cX13_note 3 = .ok (.iload_n 1, 1) := by decide +kernel
theorem dX13_note_4 : decode cX13_note 4 = .ok (.invokestatic 239, 3) := by decide +kernel
theorem dX13_note_7 : decode cX13_note 7 = .ok (.invokevirtual 242, 3) := by decide +kernel
theorem dX13_note_10 : decode cX13_note 10 = .ok (.return_, 1) := by decide +kernel
theorem dX13_rank_0 : decode cX13_rank 0 = .ok (.iload_n 0, 1) := by decide +kernel
theorem dX13_rank_1 : decode cX13_rank 1 = .ok (.bipush 7, 2) := by decide +kernel
theorem dX13_rank_3 : decode cX13_rank 3 = .ok (.if_icmp .ne 8, 3) := by decide +kernel
theorem dX13_rank_6 : decode cX13_rank 6 = .ok (.bipush 11, 2) := by decide +kernel
theorem dX13_rank_8 : decode cX13_rank 8 = .ok (.goto 6, 3) := by decide +kernel
theorem dX13_rank_11 : decode cX13_rank 11 = .ok (.iconst 2, 1) := by decide +kernel
theorem dX13_rank_12 : decode cX13_rank 12 = .ok (.iload_n 0, 1) := by decide +kernel
theorem dX13_rank_13 : decode cX13_rank 13 = .ok (.imul, 1) := by decide +kernel
theorem dX13_rank_14 : decode cX13_rank 14 = .ok (.ireturn, 1) := by decide +kernel
theorem dX13_noteAs_0 : decode cX13_noteAs 0 = .ok (.aload_n 0, 1) := by decide +kernel
theorem dX13_noteAs_1 : decode cX13_noteAs 1 = .ok (.getfield 245, 3) := by decide +kernel
theorem dX13_noteAs_4 : decode cX13_noteAs 4 = .ok (.ifCond .eq 34, 3) := by decide +kernel
theorem dX13_noteAs_7 : decode cX13_noteAs 7 = .ok (.aload_n 0, 1) := by decide +kernel
theorem dX13_noteAs_8 : decode cX13_noteAs 8 = .ok (.getfield 248, 3) := by decide +kernel
theorem dX13_noteAs_11 : decode cX13_noteAs 11 = .ok (.ifCond .le 28, 3) := by decide +kernel
theorem dX13_noteAs_14 : decode cX13_noteAs 14 = .ok (.aload_n 0, 1) := by decide +kernel
theorem dX13_noteAs_15 : decode cX13_noteAs 15 = .ok (.getfield 251, 3) := by decide +kernel
theorem dX13_noteAs_18 : decode cX13_noteAs 18 = .ok (.iload_n 2, 1) := by decide +kernel
theorem dX13_noteAs_19 : decode cX13_noteAs 19 = .ok (.if_icmp .lt 19, 3) := by decide +kernel
theorem dX13_noteAs_22 : decode cX13_noteAs 22 = .ok (.aload_n 0, 1) := by decide +kernel
theorem dX13_noteAs_23 : decode cX13_noteAs 23 = .ok (.getfield 251, 3) := by decide +kernel
theorem dX13_noteAs_26 : decode cX13_noteAs 26 = .ok (.iload_n 2, 1) := by decide +kernel
theorem dX13_noteAs_27 : decode cX13_noteAs 27 = .ok (.if_icmp .ne 12, 3) := by decide +kernel
theorem dX13_noteAs_30 : decode cX13_noteAs 30 = .ok (.aload_n 0, 1) := by decide +kernel
theorem dX13_noteAs_31 : decode cX13_noteAs 31 = .ok (.getfield 254, 3) := by decide +kernel
theorem dX13_noteAs_34 : decode cX13_noteAs 34 = .ok (.iload_n 3, 1) := by decide +kernel
theorem dX13_noteAs_35 : decode cX13_noteAs 35 = .ok (.if_icmp .gt 4, 3) := by decide +kernel
theorem dX13_noteAs_38 : decode cX13_noteAs 38 = .ok (.return_, 1) := by decide +kernel
theorem dX13_noteAs_39 : decode cX13_noteAs 39 = .ok (.aload_n 0, 1) := by decide +kernel
theorem dX13_noteAs_40 : decode cX13_noteAs 40 = .ok (.iload_n 1, 1) := by decide +kernel
theorem dX13_noteAs_41 : decode cX13_noteAs 41 = .ok (.putfield 248, 3) := by decide +kernel
theorem dX13_noteAs_44 : decode cX13_noteAs 44 = .ok (.aload_n 0, 1) := by decide +kernel
theorem dX13_noteAs_45 : decode cX13_noteAs 45 = .ok (.iload_n 2, 1) := by decide +kernel
theorem dX13_noteAs_46 : decode cX13_noteAs 46 = .ok (.putfield 251, 3) := by decide +kernel
theorem dX13_noteAs_49 : decode cX13_noteAs 49 = .ok (.aload_n 0, 1) := by decide +kernel
theorem dX13_noteAs_50 : decode cX13_noteAs 50 = .ok (.iload_n 3, 1) := by decide +kernel
theorem dX13_noteAs_51 : decode cX13_noteAs 51 = .ok (.putfield 254, 3) := by decide +kernel
theorem dX13_noteAs_54 : decode cX13_noteAs 54 = .ok (.return_, 1) := by decide +kernel
theorem dX13_openSign_0 : decode cX13_openSign 0 = .ok (.aload_n 0, 1) := by decide +kernel
theorem dX13_openSign_1 : decode cX13_openSign 1 = .ok (.getfield 230, 3) := by decide +kernel
theorem dX13_openSign_4 : decode cX13_openSign 4 = .ok (.ifCond .gt 11, 3) := by decide +kernel
theorem dX13_openSign_7 : decode cX13_openSign 7 = .ok (.aload_n 0, 1) := by decide +kernel
theorem dX13_openSign_8 : decode cX13_openSign 8 = .ok (.iload_n 1, 1) := by decide +kernel
theorem dX13_openSign_9 : decode cX13_openSign 9 = .ok (.invokevirtual 257, 3) := by decide +kernel
theorem dX13_openSign_12 : decode cX13_openSign 12 = .ok (.ifCond .ne 11, 3) := by decide +kernel
theorem dX13_openSign_15 : decode cX13_openSign 15 = .ok (.aload_n 0, 1) := by decide +kernel
theorem dX13_openSign_16 : decode cX13_openSign 16 = .ok (.iconst 2, 1) := by decide +kernel
theorem dX13_openSign_17 : decode cX13_openSign 17 = .ok (.invokevirtual 260, 3) := by decide +kernel
theorem dX13_openSign_20 : decode cX13_openSign 20 = .ok (.goto 7, 3) := by decide +kernel
theorem dX13_openSign_23 : decode cX13_openSign 23 = .ok (.aload_n 0, 1) := by decide +kernel
theorem dX13_openSign_24 : decode cX13_openSign 24 = .ok (.invokevirtual 269, 3) := by decide +kernel
theorem dX13_openSign_27 : decode cX13_openSign 27 = .ok (.ireturn, 1) := by decide +kernel
theorem dX13_inConstant_0 : decode cX13_inConstant 0 = .ok (.aload_n 0, 1) := by decide +kernel
theorem dX13_inConstant_1 : decode cX13_inConstant 1 = .ok (.getfield 245, 3) := by decide +kernel
theorem dX13_inConstant_4 : decode cX13_inConstant 4 = .ok (.ifCond .ne 7, 3) := by decide +kernel
theorem dX13_inConstant_7 : decode cX13_inConstant 7 = .ok (.iconst (-1), 1) := by decide +kernel
theorem dX13_inConstant_8 : decode cX13_inConstant 8 = .ok (.goto 8, 3) := by decide +kernel
theorem dX13_inConstant_11 : decode cX13_inConstant 11 = .ok (.aload_n 0, 1) := by decide +kernel
theorem dX13_inConstant_12 : decode cX13_inConstant 12 = .ok (.iload_n 1, 1) := by decide +kernel
theorem dX13_inConstant_13 : decode cX13_inConstant 13 = .ok (.invokevirtual 457, 3) := by decide +kernel
theorem dX13_inConstant_16 : decode cX13_inConstant 16 = .ok (.istore_n 2, 1) := by decide +kernel
theorem dX13_inConstant_17 : decode cX13_inConstant 17 = .ok (.iload_n 2, 1) := by decide +kernel
theorem dX13_inConstant_18 : decode cX13_inConstant 18 = .ok (.iconst (-1), 1) := by decide +kernel
theorem dX13_inConstant_19 : decode cX13_inConstant 19 = .ok (.if_icmp .ne 15, 3) := by decide +kernel
theorem dX13_inConstant_22 : decode cX13_inConstant 22 = .ok (.aload_n 0, 1) := by decide +kernel
theorem dX13_inConstant_23 : decode cX13_inConstant 23 = .ok (.getfield 374, 3) := by decide +kernel
theorem dX13_inConstant_26 : decode cX13_inConstant 26 = .ok (.iconst (-1), 1) := by decide +kernel
theorem dX13_inConstant_27 : decode cX13_inConstant 27 = .ok (.if_icmp .ne 7, 3) := by decide +kernel
theorem dX13_inConstant_30 : decode cX13_inConstant 30 = .ok (.iconst 1, 1) := by decide +kernel
theorem dX13_inConstant_31 : decode cX13_inConstant 31 = .ok (.goto 4, 3) := by decide +kernel
theorem dX13_inConstant_34 : decode cX13_inConstant 34 = .ok (.iconst 0, 1) := by decide +kernel
theorem dX13_inConstant_35 : decode cX13_inConstant 35 = .ok (.istore_n 3, 1) := by decide +kernel
theorem dX13_inConstant_36 : decode cX13_inConstant 36 = .ok (.aload_n 0, 1) := by decide +kernel
theorem dX13_inConstant_37 : decode cX13_inConstant 37 = .ok (.bipush 24, 2) := by decide +kernel
theorem dX13_inConstant_39 : decode cX13_inConstant 39 = .ok (.invokevirtual 257, 3) := by decide +kernel
theorem dX13_inConstant_42 : decode cX13_inConstant 42 = .ok (.ifCond .ne 12, 3) := by decide +kernel
theorem dX13_inConstant_45 : decode cX13_inConstant 45 = .ok (.aload_n 0, 1) := by decide +kernel
theorem dX13_inConstant_46 : decode cX13_inConstant 46 = .ok (.bipush 22, 2) := by decide +kernel
theorem dX13_inConstant_48 : decode cX13_inConstant 48 = .ok (.invokevirtual 257, 3) := by decide +kernel
theorem dX13_inConstant_51 : decode cX13_inConstant 51 = .ok (.ifCond .eq 7, 3) := by decide +kernel
theorem dX13_inConstant_54 : decode cX13_inConstant 54 = .ok (.iconst 1, 1) := by decide +kernel
theorem dX13_inConstant_55 : decode cX13_inConstant 55 = .ok (.goto 4, 3) := by decide +kernel
theorem dX13_inConstant_58 : decode cX13_inConstant 58 = .ok (.iconst 0, 1) := by decide +kernel
theorem dX13_inConstant_59 : decode cX13_inConstant 59 = .ok (.istore 4, 2) := by decide +kernel
theorem dX13_inConstant_61 : decode cX13_inConstant 61 = .ok (.iload_n 2, 1) := by decide +kernel
theorem dX13_inConstant_62 : decode cX13_inConstant 62 = .ok (.iconst (-1), 1) := by decide +kernel
theorem dX13_inConstant_63 : decode cX13_inConstant 63 = .ok (.if_icmp .eq 16, 3) := by decide +kernel
theorem dX13_inConstant_66 : decode cX13_inConstant 66 = .ok (.aload_n 0, 1) := by decide +kernel
theorem dX13_inConstant_67 : decode cX13_inConstant 67 = .ok (.getfield 40, 3) := by decide +kernel
theorem dX13_inConstant_70 : decode cX13_inConstant 70 = .ok (.iload_n 2, 1) := by decide +kernel
theorem dX13_inConstant_71 : decode cX13_inConstant 71 = .ok (.iaload, 1) := by decide +kernel
theorem dX13_inConstant_72 : decode cX13_inConstant 72 = .ok (.ifCond .ne 7, 3) := by decide +kernel
theorem dX13_inConstant_75 : decode cX13_inConstant 75 = .ok (.iconst 1, 1) := by decide +kernel
theorem dX13_inConstant_76 : decode cX13_inConstant 76 = .ok (.goto 4, 3) := by decide +kernel
theorem dX13_inConstant_79 : decode cX13_inConstant 79 = .ok (.iconst 0, 1) := by decide +kernel
theorem dX13_inConstant_80 : decode cX13_inConstant 80 = .ok (.istore 5, 2) := by decide +kernel
theorem dX13_inConstant_82 : decode cX13_inConstant 82 = .ok (.aload_n 0, 1) := by decide +kernel
theorem dX13_inConstant_83 : decode cX13_inConstant 83 = .ok (.getfield 245, 3) := by decide +kernel
theorem dX13_inConstant_86 : decode cX13_inConstant 86 = .ok (.ifCond .le 18, 3) := by decide +kernel
theorem dX13_inConstant_89 : decode cX13_inConstant 89 = .ok (.iload_n 3, 1) := by decide +kernel
theorem dX13_inConstant_90 : decode cX13_inConstant 90 = .ok (.ifCond .eq 14, 3) := by decide +kernel
theorem dX13_inConstant_93 : decode cX13_inConstant 93 = .ok (.aload_n 0, 1) := by decide +kernel
theorem dX13_inConstant_94 : decode cX13_inConstant 94 = .ok (.iconst 4, 1) := by decide +kernel
theorem dX13_inConstant_95 : decode cX13_inConstant 95 = .ok (.aload_n 0, 1) := by decide +kernel
theorem dX13_inConstant_96 : decode cX13_inConstant 96 = .ok (.getfield 22, 3) := by decide +kernel
theorem dX13_inConstant_99 : decode cX13_inConstant 99 = .ok (.iload_n 1, 1) := by decide +kernel
theorem dX13_inConstant_100 : decode cX13_inConstant 100 = .ok (.iaload, 1) := by decide +kernel
theorem dX13_inConstant_101 : decode cX13_inConstant 101 = .ok (.invokevirtual 352, 3) := by decide +kernel
theorem dX13_inConstant_104 : decode cX13_inConstant 104 = .ok (.aload_n 0, 1) := by decide +kernel
theorem dX13_inConstant_105 : decode cX13_inConstant 105 = .ok (.getfield 245, 3) := by decide +kernel
theorem dX13_inConstant_108 : decode cX13_inConstant 108 = .ok (.ifCond .le 29, 3) := by decide +kernel
theorem dX13_inConstant_111 : decode cX13_inConstant 111 = .ok (.iload_n 3, 1) := by decide +kernel
theorem dX13_inConstant_112 : decode cX13_inConstant 112 = .ok (.ifCond .ne 25, 3) := by decide +kernel
theorem dX13_inConstant_115 : decode cX13_inConstant 115 = .ok (.iload 5, 2) := by decide +kernel
theorem dX13_inConstant_117 : decode cX13_inConstant 117 = .ok (.ifCond .eq 8, 3) := by decide +kernel
theorem dX13_inConstant_120 : decode cX13_inConstant 120 = .ok (.iload 4, 2) := by decide +kernel
theorem dX13_inConstant_122 : decode cX13_inConstant 122 = .ok (.ifCond .eq 15, 3) := by decide +kernel
theorem dX13_inConstant_125 : decode cX13_inConstant 125 = .ok (.aload_n 0, 1) := by decide +kernel
theorem dX13_inConstant_126 : decode cX13_inConstant 126 = .ok (.bipush 10, 2) := by decide +kernel
theorem dX13_inConstant_128 : decode cX13_inConstant 128 = .ok (.aload_n 0, 1) := by decide +kernel
theorem dX13_inConstant_129 : decode cX13_inConstant 129 = .ok (.getfield 22, 3) := by decide +kernel
theorem dX13_inConstant_132 : decode cX13_inConstant 132 = .ok (.iload_n 1, 1) := by decide +kernel
theorem dX13_inConstant_133 : decode cX13_inConstant 133 = .ok (.iaload, 1) := by decide +kernel
theorem dX13_inConstant_134 : decode cX13_inConstant 134 = .ok (.invokevirtual 352, 3) := by decide +kernel
theorem dX13_inConstant_137 : decode cX13_inConstant 137 = .ok (.iload 5, 2) := by decide +kernel
theorem dX13_inConstant_139 : decode cX13_inConstant 139 = .ok (.ifCond .eq 18, 3) := by decide +kernel
theorem dX13_inConstant_142 : decode cX13_inConstant 142 = .ok (.iload 4, 2) := by decide +kernel
theorem dX13_inConstant_144 : decode cX13_inConstant 144 = .ok (.ifCond .ne 13, 3) := by decide +kernel
theorem dX13_inConstant_147 : decode cX13_inConstant 147 = .ok (.aload_n 0, 1) := by decide +kernel
theorem dX13_inConstant_148 : decode cX13_inConstant 148 = .ok (.getfield 52, 3) := by decide +kernel
theorem dX13_inConstant_151 : decode cX13_inConstant 151 = .ok (.iload_n 2, 1) := by decide +kernel
theorem dX13_inConstant_152 : decode cX13_inConstant 152 = .ok (.iaload, 1) := by decide +kernel
theorem dX13_inConstant_153 : decode cX13_inConstant 153 = .ok (.iconst (-1), 1) := by decide +kernel
theorem dX13_inConstant_154 : decode cX13_inConstant 154 = .ok (.if_icmp .ne 8, 3) := by decide +kernel
theorem dX13_inConstant_157 : decode cX13_inConstant 157 = .ok (.aload_n 0, 1) := by decide +kernel
theorem dX13_inConstant_158 : decode cX13_inConstant 158 = .ok (.iconst 1, 1) := by decide +kernel
theorem dX13_inConstant_159 : decode cX13_inConstant 159 = .ok (.putfield 345, 3) := by decide +kernel
theorem dX13_inConstant_162 : decode cX13_inConstant 162 = .ok (.aload_n 0, 1) := by decide +kernel
theorem dX13_inConstant_163 : decode cX13_inConstant 163 = .ok (.bipush 22, 2) := by decide +kernel
theorem dX13_inConstant_165 : decode cX13_inConstant 165 = .ok (.invokevirtual 257, 3) := by decide +kernel
theorem dX13_inConstant_168 : decode cX13_inConstant 168 = .ok (.ifCond .eq 14, 3) := by decide +kernel
theorem dX13_inConstant_171 : decode cX13_inConstant 171 = .ok (.aload_n 0, 1) := by decide +kernel
theorem dX13_inConstant_172 : decode cX13_inConstant 172 = .ok (.iload_n 1, 1) := by decide +kernel
theorem dX13_inConstant_173 : decode cX13_inConstant 173 = .ok (.iconst 0, 1) := by decide +kernel
theorem dX13_inConstant_174 : decode cX13_inConstant 174 = .ok (.invokevirtual 454, 3) := by decide +kernel
theorem dX13_inConstant_177 : decode cX13_inConstant 177 = .ok (.ifCond .ne 5, 3) := by decide +kernel
theorem dX13_inConstant_180 : decode cX13_inConstant 180 = .ok (.iconst 0, 1) := by decide +kernel
theorem dX13_inConstant_181 : decode cX13_inConstant 181 = .ok (.ireturn, 1) := by decide +kernel
theorem dX13_inConstant_182 : decode cX13_inConstant 182 = .ok (.aload_n 0, 1) := by decide +kernel
theorem dX13_inConstant_183 : decode cX13_inConstant 183 = .ok (.bipush 24, 2) := by decide +kernel
theorem dX13_inConstant_185 : decode cX13_inConstant 185 = .ok (.invokevirtual 257, 3) := by decide +kernel
theorem dX13_inConstant_188 : decode cX13_inConstant 188 = .ok (.ifCond .eq 33, 3) := by decide +kernel
theorem dX13_inConstant_191 : decode cX13_inConstant 191 = .ok (.iload 4, 2) := by decide +kernel
theorem dX13_inConstant_193 : decode cX13_inConstant 193 = .ok (.ifCond .eq 28, 3) := by decide +kernel
theorem dX13_inConstant_196 : decode cX13_inConstant 196 = .ok (.aload_n 0, 1) := by decide +kernel
theorem dX13_inConstant_197 : decode cX13_inConstant 197 = .ok (.getfield 16, 3) := by decide +kernel
theorem dX13_inConstant_200 : decode cX13_inConstant 200 = .ok (.aload_n 0, 1) := by decide +kernel
theorem dX13_inConstant_201 : decode cX13_inConstant 201 = .ok (.getfield 233, 3) := by decide +kernel
theorem dX13_inConstant_204 : decode cX13_inConstant 204 = .ok (.iconst 1, 1) := by decide +kernel
theorem dX13_inConstant_205 : decode cX13_inConstant 205 = .ok (.isub, 1) := by decide +kernel
theorem dX13_inConstant_206 : decode cX13_inConstant 206 = .ok (.iaload, 1) := by decide +kernel
theorem dX13_inConstant_207 : decode cX13_inConstant 207 = .ok (.iconst 1, 1) := by decide +kernel
theorem dX13_inConstant_208 : decode cX13_inConstant 208 = .ok (.if_icmp .ne 13, 3) := by decide +kernel
theorem dX13_inConstant_211 : decode cX13_inConstant 211 = .ok (.aload_n 0, 1) := by decide +kernel
theorem dX13_inConstant_212 : decode cX13_inConstant 212 = .ok (.iconst (-1), 1) := by decide +kernel
theorem dX13_inConstant_213 : decode cX13_inConstant 213 = .ok (.invokevirtual 460, 3) := by decide +kernel
theorem dX13_inConstant_216 : decode cX13_inConstant 216 = .ok (.ifCond .ne 5, 3) := by decide +kernel
theorem dX13_inConstant_219 : decode cX13_inConstant 219 = .ok (.iconst 0, 1) := by decide +kernel
theorem dX13_inConstant_220 : decode cX13_inConstant 220 = .ok (.ireturn, 1) := by decide +kernel
theorem dX13_inConstant_221 : decode cX13_inConstant 221 = .ok (.iload 4, 2) := by decide +kernel
theorem dX13_inConstant_223 : decode cX13_inConstant 223 = .ok (.ifCond .ne 25, 3) := by decide +kernel
theorem dX13_inConstant_226 : decode cX13_inConstant 226 = .ok (.aload_n 0, 1) := by decide +kernel
theorem dX13_inConstant_227 : decode cX13_inConstant 227 = .ok (.iconst 0, 1) := by decide +kernel
theorem dX13_inConstant_228 : decode cX13_inConstant 228 = .ok (.iload 5, 2) := by decide +kernel
theorem dX13_inConstant_230 : decode cX13_inConstant 230 = .ok (.ifCond .eq 12, 3) := by decide +kernel
theorem dX13_inConstant_233 : decode cX13_inConstant 233 = .ok (.aload_n 0, 1) := by decide +kernel
theorem dX13_inConstant_234 : decode cX13_inConstant 234 = .ok (.getfield 49, 3) := by decide +kernel
theorem dX13_inConstant_237 : decode cX13_inConstant 237 = .ok (.iload_n 2, 1) := by decide +kernel
theorem dX13_inConstant_238 : decode cX13_inConstant 238 = .ok (.iaload, 1) := by decide +kernel
theorem dX13_inConstant_239 : decode cX13_inConstant 239 = .ok (.goto 4, 3) := by decide +kernel
theorem dX13_inConstant_242 : decode cX13_inConstant 242 = .ok (.iconst 0, 1) := by decide +kernel
theorem dX13_inConstant_243 : decode cX13_inConstant 243 = .ok (.iconst 0, 1) := by decide +kernel
theorem dX13_inConstant_244 : decode cX13_inConstant 244 = .ok (.invokevirtual 401, 3) := by decide +kernel
theorem dX13_inConstant_247 : decode cX13_inConstant 247 = .ok (.pop, 1) := by decide +kernel
theorem dX13_inConstant_248 : decode cX13_inConstant 248 = .ok (.iconst 1, 1) := by decide +kernel
theorem dX13_inConstant_249 : decode cX13_inConstant 249 = .ok (.ireturn, 1) := by decide +kernel
theorem dX13_meaning_0 : decode cX13_meaning 0 = .ok (.aload_n 0, 1) := by decide +kernel
theorem dX13_meaning_1 : decode cX13_meaning 1 = .ok (.iconst (-1), 1) := by decide +kernel
theorem dX13_meaning_2 : decode cX13_meaning 2 = .ok (.putfield 374, 3) := by decide +kernel
theorem dX13_meaning_5 : decode cX13_meaning 5 = .ok (.aload_n 0, 1) := by decide +kernel
theorem dX13_meaning_6 : decode cX13_meaning 6 = .ok (.getfield 279, 3) := by decide +kernel
theorem dX13_meaning_9 : decode cX13_meaning 9 = .ok (.iconst 1, 1) := by decide +kernel
theorem dX13_meaning_10 : decode cX13_meaning 10 = .ok (.isub, 1) := by decide +kernel
theorem dX13_meaning_11 : decode cX13_meaning 11 = .ok (.istore_n 2, 1) := by decide +kernel
theorem dX13_meaning_12 : decode cX13_meaning 12 = .ok (.iconst (-1), 1) := by decide +kernel
theorem dX13_meaning_13 : decode cX13_meaning 13 = .ok (.istore_n 3, 1) := by decide +kernel
theorem dX13_meaning_14 : decode cX13_meaning 14 = .ok (.iload_n 2, 1) := by decide +kernel
theorem dX13_meaning_15 : decode cX13_meaning 15 = .ok (.ifCond .lt 46, 3) := by decide +kernel
theorem dX13_meaning_18 : decode cX13_meaning 18 = .ok (.iload_n 3, 1) := by decide +kernel
theorem dX13_meaning_19 : decode cX13_meaning 19 = .ok (.iconst (-1), 1) := by decide +kernel
theorem dX13_meaning_20 : decode cX13_meaning 20 = .ok (.if_icmp .eq 18, 3) := by decide +kernel
theorem dX13_meaning_23 : decode cX13_meaning 23 = .ok (.aload_n 0, 1) := by decide +kernel
theorem dX13_meaning_24 : decode cX13_meaning 24 = .ok (.getfield 46, 3) := by decide +kernel
theorem dX13_meaning_27 : decode cX13_meaning 27 = .ok (.iload_n 2, 1) := by decide +kernel
theorem dX13_meaning_28 : decode cX13_meaning 28 = .ok (.iaload, 1) := by decide +kernel
theorem dX13_meaning_29 : decode cX13_meaning 29 = .ok (.aload_n 0, 1) := by decide +kernel
theorem dX13_meaning_30 : decode cX13_meaning 30 = .ok (.getfield 46, 3) := by decide +kernel
theorem dX13_meaning_33 : decode cX13_meaning 33 = .ok (.iload_n 3, 1) := by decide +kernel
theorem dX13_meaning_34 : decode cX13_meaning 34 = .ok (.iaload, 1) := by decide +kernel
theorem dX13_meaning_35 : decode cX13_meaning 35 = .ok (.if_icmp .ne 26, 3) := by decide +kernel
theorem dX13_meaning_38 : decode cX13_meaning 38 = .ok (.aload_n 0, 1) := by decide +kernel
theorem dX13_meaning_39 : decode cX13_meaning 39 = .ok (.getfield 37, 3) := by decide +kernel
theorem dX13_meaning_42 : decode cX13_meaning 42 = .ok (.iload_n 2, 1) := by decide +kernel
theorem dX13_meaning_43 : decode cX13_meaning 43 = .ok (.iaload, 1) := by decide +kernel
theorem dX13_meaning_44 : decode cX13_meaning 44 = .ok (.aload_n 0, 1) := by decide +kernel
theorem dX13_meaning_45 : decode cX13_meaning 45 = .ok (.getfield 19, 3) := by decide +kernel
theorem dX13_meaning_48 : decode cX13_meaning 48 = .ok (.iload_n 1, 1) := by decide +kernel
theorem dX13_meaning_49 : decode cX13_meaning 49 = .ok (.iaload, 1) := by decide +kernel
theorem dX13_meaning_50 : decode cX13_meaning 50 = .ok (.if_icmp .ne 5, 3) := by decide +kernel
theorem dX13_meaning_53 : decode cX13_meaning 53 = .ok (.iload_n 2, 1) := by decide +kernel
theorem dX13_meaning_54 : decode cX13_meaning 54 = .ok (.istore_n 3, 1) := by decide +kernel
theorem dX13_meaning_55 : decode cX13_meaning 55 = .ok (.iinc 2 (-1), 3) := by decide +kernel
theorem dX13_meaning_58 : decode cX13_meaning 58 = .ok (.goto (-44), 3) := by decide +kernel
theorem dX13_meaning_61 : decode cX13_meaning 61 = .ok (.iload_n 3, 1) := by decide +kernel
theorem dX13_meaning_62 : decode cX13_meaning 62 = .ok (.iconst (-1), 1) := by decide +kernel
theorem dX13_meaning_63 : decode cX13_meaning 63 = .ok (.if_icmp .eq 14, 3) := by decide +kernel
theorem dX13_meaning_66 : decode cX13_meaning 66 = .ok (.aload_n 0, 1) := by decide +kernel
theorem dX13_meaning_67 : decode cX13_meaning 67 = .ok (.getfield 46, 3) := by decide +kernel
theorem dX13_meaning_70 : decode cX13_meaning 70 = .ok (.iload_n 3, 1) := by decide +kernel
theorem dX13_meaning_71 : decode cX13_meaning 71 = .ok (.iaload, 1) := by decide +kernel
theorem dX13_meaning_72 : decode cX13_meaning 72 = .ok (.ifCond .eq 5, 3) := by decide +kernel
theorem dX13_meaning_75 : decode cX13_meaning 75 = .ok (.iload_n 3, 1) := by decide +kernel
theorem dX13_meaning_76 : decode cX13_meaning 76 = .ok (.ireturn, 1) := by decide +kernel
theorem dX13_meaning_77 : decode cX13_meaning 77 = .ok (.aload_n 0, 1) := by decide +kernel
theorem dX13_meaning_78 : decode cX13_meaning 78 = .ok (.getfield 297, 3) := by decide +kernel
theorem dX13_meaning_81 : decode cX13_meaning 81 = .ok (.iconst 1, 1) := by decide +kernel
theorem dX13_meaning_82 : decode cX13_meaning 82 = .ok (.isub, 1) := by decide +kernel
theorem dX13_meaning_83 : decode cX13_meaning 83 = .ok (.istore 4, 2) := by decide +kernel
theorem dX13_meaning_85 : decode cX13_meaning 85 = .ok (.iload 4, 2) := by decide +kernel
theorem dX13_meaning_87 : decode cX13_meaning 87 = .ok (.ifCond .lt 31, 3) := by decide +kernel
theorem dX13_meaning_90 : decode cX13_meaning 90 = .ok (.aload_n 0, 1) := by decide +kernel
theorem dX13_meaning_91 : decode cX13_meaning 91 = .ok (.getfield 62, 3) := by decide +kernel
theorem dX13_meaning_94 : decode cX13_meaning 94 = .ok (.iload 4, 2) := by decide +kernel
theorem dX13_meaning_96 : decode cX13_meaning 96 = .ok (.iaload, 1) := by decide +kernel
theorem dX13_meaning_97 : decode cX13_meaning 97 = .ok (.aload_n 0, 1) := by decide +kernel
theorem dX13_meaning_98 : decode cX13_meaning 98 = .ok (.getfield 19, 3) := by decide +kernel
theorem dX13_meaning_101 : decode cX13_meaning 101 = .ok (.iload_n 1, 1) := by decide +kernel
theorem dX13_meaning_102 : decode cX13_meaning 102 = .ok (.iaload, 1) := by decide +kernel
theorem dX13_meaning_103 : decode cX13_meaning 103 = .ok (.if_icmp .ne 9, 3) := by decide +kernel
theorem dX13_meaning_106 : decode cX13_meaning 106 = .ok (.aload_n 0, 1) := by decide +kernel
theorem dX13_meaning_107 : decode cX13_meaning 107 = .ok (.iload 4, 2) := by decide +kernel
theorem dX13_meaning_109 : decode cX13_meaning 109 = .ok (.putfield 374, 3) := by decide +kernel
theorem dX13_meaning_112 : decode cX13_meaning 112 = .ok (.iinc 4 (-1), 3) := by decide +kernel
theorem dX13_meaning_115 : decode cX13_meaning 115 = .ok (.goto (-30), 3) := by decide +kernel
theorem dX13_meaning_118 : decode cX13_meaning 118 = .ok (.iload_n 3, 1) := by decide +kernel
theorem dX13_meaning_119 : decode cX13_meaning 119 = .ok (.iconst (-1), 1) := by decide +kernel
theorem dX13_meaning_120 : decode cX13_meaning 120 = .ok (.if_icmp .eq 34, 3) := by decide +kernel
theorem dX13_meaning_123 : decode cX13_meaning 123 = .ok (.aload_n 0, 1) := by decide +kernel
theorem dX13_meaning_124 : decode cX13_meaning 124 = .ok (.getfield 374, 3) := by decide +kernel
theorem dX13_meaning_127 : decode cX13_meaning 127 = .ok (.iconst (-1), 1) := by decide +kernel
theorem dX13_meaning_128 : decode cX13_meaning 128 = .ok (.if_icmp .eq 26, 3) := by decide +kernel
theorem dX13_meaning_131 : decode cX13_meaning 131 = .ok (.aload_n 0, 1) := by decide +kernel
theorem dX13_meaning_132 : decode cX13_meaning 132 = .ok (.getfield 65, 3) := by decide +kernel
theorem dX13_meaning_135 : decode cX13_meaning 135 = .ok (.aload_n 0, 1) := by decide +kernel
theorem dX13_meaning_136 : decode cX13_meaning 136 = .ok (.getfield 374, 3) := by decide +kernel
theorem dX13_meaning_139 : decode cX13_meaning 139 = .ok (.iaload, 1) := by decide +kernel
theorem dX13_meaning_140 : decode cX13_meaning 140 = .ok (.aload_n 0, 1) := by decide +kernel
theorem dX13_meaning_141 : decode cX13_meaning 141 = .ok (.getfield 43, 3) := by decide +kernel
theorem dX13_meaning_144 : decode cX13_meaning 144 = .ok (.iload_n 3, 1) := by decide +kernel
theorem dX13_meaning_145 : decode cX13_meaning 145 = .ok (.iaload, 1) := by decide +kernel
theorem dX13_meaning_146 : decode cX13_meaning 146 = .ok (.if_icmp .le 8, 3) := by decide +kernel
theorem dX13_meaning_149 : decode cX13_meaning 149 = .ok (.aload_n 0, 1) := by decide +kernel
theorem dX13_meaning_150 : decode cX13_meaning 150 = .ok (.iconst (-1), 1) := by decide +kernel
theorem dX13_meaning_151 : decode cX13_meaning 151 = .ok (.putfield 374, 3) := by decide +kernel
theorem dX13_meaning_154 : decode cX13_meaning 154 = .ok (.aload_n 0, 1) := by decide +kernel
theorem dX13_meaning_155 : decode cX13_meaning 155 = .ok (.getfield 374, 3) := by decide +kernel
theorem dX13_meaning_158 : decode cX13_meaning 158 = .ok (.iconst (-1), 1) := by decide +kernel
theorem dX13_meaning_159 : decode cX13_meaning 159 = .ok (.if_icmp .eq 7, 3) := by decide +kernel
theorem dX13_meaning_162 : decode cX13_meaning 162 = .ok (.iconst (-1), 1) := by decide +kernel
theorem dX13_meaning_163 : decode cX13_meaning 163 = .ok (.goto 4, 3) := by decide +kernel
theorem dX13_meaning_166 : decode cX13_meaning 166 = .ok (.iload_n 3, 1) := by decide +kernel
theorem dX13_meaning_167 : decode cX13_meaning 167 = .ok (.ireturn, 1) := by decide +kernel
theorem dX13_call_0 : decode cX13_call 0 = .ok (.aload_n 0, 1) := by decide +kernel
theorem dX13_call_1 : decode cX13_call 1 = .ok (.getfield 245, 3) := by decide +kernel
theorem dX13_call_4 : decode cX13_call 4 = .ok (.ifCond .ne 7, 3) := by decide +kernel
theorem dX13_call_7 : decode cX13_call 7 = .ok (.iconst (-1), 1) := by decide +kernel
theorem dX13_call_8 : decode cX13_call 8 = .ok (.goto 8, 3) := by decide +kernel
theorem dX13_call_11 : decode cX13_call 11 = .ok (.aload_n 0, 1) := by decide +kernel
theorem dX13_call_12 : decode cX13_call 12 = .ok (.iload_n 1, 1) := by decide +kernel
theorem dX13_call_13 : decode cX13_call 13 = .ok (.invokevirtual 457, 3) := by decide +kernel
theorem dX13_call_16 : decode cX13_call 16 = .ok (.istore_n 3, 1) := by decide +kernel
theorem dX13_call_17 : decode cX13_call 17 = .ok (.aload_n 0, 1) := by decide +kernel
theorem dX13_call_18 : decode cX13_call 18 = .ok (.getfield 245, 3) := by decide +kernel
theorem dX13_call_21 : decode cX13_call 21 = .ok (.ifCond .ne 7, 3) := by decide +kernel
theorem dX13_call_24 : decode cX13_call 24 = .ok (.iconst (-1), 1) := by decide +kernel
theorem dX13_call_25 : decode cX13_call 25 = .ok (.goto 7, 3) := by decide +kernel
theorem dX13_call_28 : decode cX13_call 28 = .ok (.aload_n 0, 1) := by decide +kernel
theorem dX13_call_29 : decode cX13_call 29 = .ok (.getfield 374, 3) := by decide +kernel
theorem dX13_call_32 : decode cX13_call 32 = .ok (.istore 4, 2) := by decide +kernel
theorem dX13_call_34 : decode cX13_call 34 = .ok (.aload_n 0, 1) := by decide +kernel
theorem dX13_call_35 : decode cX13_call 35 = .ok (.getfield 365, 3) := by decide +kernel
theorem dX13_call_38 : decode cX13_call 38 = .ok (.ifCond .ne 25, 3) := by decide +kernel
theorem dX13_call_41 : decode cX13_call 41 = .ok (.iload_n 3, 1) := by decide +kernel
theorem dX13_call_42 : decode cX13_call 42 = .ok (.iconst (-1), 1) := by decide +kernel
theorem dX13_call_43 : decode cX13_call 43 = .ok (.if_icmp .ne 20, 3) := by decide +kernel
theorem dX13_call_46 : decode cX13_call 46 = .ok (.iload 4, 2) := by decide +kernel
theorem dX13_call_48 : decode cX13_call 48 = .ok (.iconst (-1), 1) := by decide +kernel
theorem dX13_call_49 : decode cX13_call 49 = .ok (.if_icmp .ne 14, 3) := by decide +kernel
theorem dX13_call_52 : decode cX13_call 52 = .ok (.aload_n 0, 1) := by decide +kernel
theorem dX13_call_53 : decode cX13_call 53 = .ok (.iconst 4, 1) := by decide +kernel
theorem dX13_call_54 : decode cX13_call 54 = .ok (.aload_n 0, 1) := by decide +kernel
theorem dX13_call_55 : decode cX13_call 55 = .ok (.getfield 22, 3) := by decide +kernel
theorem dX13_call_58 : decode cX13_call 58 = .ok (.iload_n 1, 1) := by decide +kernel
theorem dX13_call_59 : decode cX13_call 59 = .ok (.iaload, 1) := by decide +kernel
theorem dX13_call_60 : decode cX13_call 60 = .ok (.invokevirtual 352, 3) := by decide +kernel
theorem dX13_call_63 : decode cX13_call 63 = .ok (.aload_n 0, 1) := by decide +kernel
theorem dX13_call_64 : decode cX13_call 64 = .ok (.getfield 365, 3) := by decide +kernel
theorem dX13_call_67 : decode cX13_call 67 = .ok (.ifCond .ne 20, 3) := by decide +kernel
theorem dX13_call_70 : decode cX13_call 70 = .ok (.iload_n 3, 1) := by decide +kernel
theorem dX13_call_71 : decode cX13_call 71 = .ok (.iconst (-1), 1) := by decide +kernel
theorem dX13_call_72 : decode cX13_call 72 = .ok (.if_icmp .eq 15, 3) := by decide +kernel
theorem dX13_call_75 : decode cX13_call 75 = .ok (.aload_n 0, 1) := by decide +kernel
theorem dX13_call_76 : decode cX13_call 76 = .ok (.bipush 6, 2) := by decide +kernel
theorem dX13_call_78 : decode cX13_call 78 = .ok (.aload_n 0, 1) := by decide +kernel
theorem dX13_call_79 : decode cX13_call 79 = .ok (.getfield 22, 3) := by decide +kernel
theorem dX13_call_82 : decode cX13_call 82 = .ok (.iload_n 1, 1) := by decide +kernel
theorem dX13_call_83 : decode cX13_call 83 = .ok (.iaload, 1) := by decide +kernel
theorem dX13_call_84 : decode cX13_call 84 = .ok (.invokevirtual 352, 3) := by decide +kernel
theorem dX13_call_87 : decode cX13_call 87 = .ok (.aload_n 0, 1) := by decide +kernel
theorem dX13_call_88 : decode cX13_call 88 = .ok (.getfield 365, 3) := by decide +kernel
theorem dX13_call_91 : decode cX13_call 91 = .ok (.ifCond .ne 35, 3) := by decide +kernel
theorem dX13_call_94 : decode cX13_call 94 = .ok (.iload 4, 2) := by decide +kernel
theorem dX13_call_96 : decode cX13_call 96 = .ok (.iconst (-1), 1) := by decide +kernel
theorem dX13_call_97 : decode cX13_call 97 = .ok (.if_icmp .eq 29, 3) := by decide +kernel
theorem dX13_call_100 : decode cX13_call 100 = .ok (.iload_n 2, 1) := by decide +kernel
theorem dX13_call_101 : decode cX13_call 101 = .ok (.ifCond .eq 25, 3) := by decide +kernel
theorem dX13_call_104 : decode cX13_call 104 = .ok (.aload_n 0, 1) := by decide +kernel
theorem dX13_call_105 : decode cX13_call 105 = .ok (.getfield 86, 3) := by decide +kernel
theorem dX13_call_108 : decode cX13_call 108 = .ok (.iload 4, 2) := by decide +kernel
theorem dX13_call_110 : decode cX13_call 110 = .ok (.baload, 1) := by decide +kernel
theorem dX13_call_111 : decode cX13_call 111 = .ok (.ifCond .eq 15, 3) := by decide +kernel
theorem dX13_call_114 : decode cX13_call 114 = .ok (.aload_n 0, 1) := by decide +kernel
theorem dX13_call_115 : decode cX13_call 115 = .ok (.bipush 8, 2) := by decide +kernel
theorem dX13_call_117 : decode cX13_call 117 = .ok (.aload_n 0, 1) := by decide +kernel
theorem dX13_call_118 : decode cX13_call 118 = .ok (.getfield 22, 3) := by decide +kernel
theorem dX13_call_121 : decode cX13_call 121 = .ok (.iload_n 1, 1) := by decide +kernel
theorem dX13_call_122 : decode cX13_call 122 = .ok (.iaload, 1) := by decide +kernel
theorem dX13_call_123 : decode cX13_call 123 = .ok (.invokevirtual 352, 3) := by decide +kernel
theorem dX13_call_126 : decode cX13_call 126 = .ok (.aload_n 0, 1) := by decide +kernel
theorem dX13_call_127 : decode cX13_call 127 = .ok (.bipush 22, 2) := by decide +kernel
theorem dX13_call_129 : decode cX13_call 129 = .ok (.invokevirtual 356, 3) := by decide +kernel
theorem dX13_call_132 : decode cX13_call 132 = .ok (.ifCond .ne 5, 3) := by decide +kernel
theorem dX13_call_135 : decode cX13_call 135 = .ok (.iconst 0, 1) := by decide +kernel
theorem dX13_call_136 : decode cX13_call 136 = .ok (.ireturn, 1) := by decide +kernel
theorem dX13_call_137 : decode cX13_call 137 = .ok (.iconst 0, 1) := by decide +kernel
theorem dX13_call_138 : decode cX13_call 138 = .ok (.istore 5, 2) := by decide +kernel
theorem dX13_call_140 : decode cX13_call 140 = .ok (.aload_n 0, 1) := by decide +kernel
theorem dX13_call_141 : decode cX13_call 141 = .ok (.bipush 23, 2) := by decide +kernel
theorem dX13_call_143 : decode cX13_call 143 = .ok (.invokevirtual 257, 3) := by decide +kernel
theorem dX13_call_146 : decode cX13_call 146 = .ok (.ifCond .ne 7, 3) := by decide +kernel
theorem dX13_call_149 : decode cX13_call 149 = .ok (.iconst 1, 1) := by decide +kernel
theorem dX13_call_150 : decode cX13_call 150 = .ok (.goto 4, 3) := by decide +kernel
theorem dX13_call_153 : decode cX13_call 153 = .ok (.iconst 0, 1) := by decide +kernel
theorem dX13_call_154 : decode cX13_call 154 = .ok (.istore 6, 2) := by decide +kernel
theorem dX13_call_156 : decode cX13_call 156 = .ok (.iload 6, 2) := by decide +kernel
theorem dX13_call_158 : decode cX13_call 158 = .ok (.ifCond .eq 49, 3) := by decide +kernel
theorem dX13_call_161 : decode cX13_call 161 = .ok (.aload_n 0, 1) := by decide +kernel
theorem dX13_call_162 : decode cX13_call 162 = .ok (.iload 4, 2) := by decide +kernel
theorem dX13_call_164 : decode cX13_call 164 = .ok (.iload 5, 2) := by decide +kernel
theorem dX13_call_166 : decode cX13_call 166 = .ok (.invokevirtual 484, 3) := by decide +kernel
theorem dX13_call_169 : decode cX13_call 169 = .ok (.ifCond .ne 5, 3) := by decide +kernel
theorem dX13_call_172 : decode cX13_call 172 = .ok (.iconst 0, 1) := by decide +kernel
theorem dX13_call_173 : decode cX13_call 173 = .ok (.ireturn, 1) := by decide +kernel
theorem dX13_call_174 : decode cX13_call 174 = .ok (.iinc 5 1, 3) := by decide +kernel
theorem dX13_call_177 : decode cX13_call 177 = .ok (.aload_n 0, 1) := by decide +kernel
theorem dX13_call_178 : decode cX13_call 178 = .ok (.bipush 28, 2) := by decide +kernel
theorem dX13_call_180 : decode cX13_call 180 = .ok (.invokevirtual 257, 3) := by decide +kernel
theorem dX13_call_183 : decode cX13_call 183 = .ok (.istore 6, 2) := by decide +kernel
theorem dX13_call_185 : decode cX13_call 185 = .ok (.aload_n 0, 1) := by decide +kernel
theorem dX13_call_186 : decode cX13_call 186 = .ok (.dup, 1) := by decide +kernel
theorem dX13_call_187 : decode cX13_call 187 = .ok (.getfield 233, 3) := by decide +kernel
theorem dX13_call_190 : decode cX13_call 190 = .ok (.iload 6, 2) := by decide +kernel
theorem dX13_call_192 : decode cX13_call 192 = .ok (.ifCond .eq 7, 3) := by decide +kernel
theorem dX13_call_195 : decode cX13_call 195 = .ok (.iconst 1, 1) := by decide +kernel
theorem dX13_call_196 : decode cX13_call 196 = .ok (.goto 4, 3) := by decide +kernel
theorem dX13_call_199 : decode cX13_call 199 = .ok (.iconst 0, 1) := by decide +kernel
theorem dX13_call_200 : decode cX13_call 200 = .ok (.iadd, 1) := by decide +kernel
theorem dX13_call_201 : decode cX13_call 201 = .ok (.putfield 233, 3) := by decide +kernel
theorem dX13_call_204 : decode cX13_call 204 = .ok (.goto (-48), 3) := by decide +kernel
theorem dX13_call_207 : decode cX13_call 207 = .ok (.aload_n 0, 1) := by decide +kernel
theorem dX13_call_208 : decode cX13_call 208 = .ok (.getfield 365, 3) := by decide +kernel
theorem dX13_call_211 : decode cX13_call 211 = .ok (.ifCond .ne 45, 3) := by decide +kernel
theorem dX13_call_214 : decode cX13_call 214 = .ok (.iload 4, 2) := by decide +kernel
theorem dX13_call_216 : decode cX13_call 216 = .ok (.iconst (-1), 1) := by decide +kernel
theorem dX13_call_217 : decode cX13_call 217 = .ok (.if_icmp .eq 39, 3) := by decide +kernel
theorem dX13_call_220 : decode cX13_call 220 = .ok (.iload 5, 2) := by decide +kernel
theorem dX13_call_222 : decode cX13_call 222 = .ok (.aload_n 0, 1) := by decide +kernel
theorem dX13_call_223 : decode cX13_call 223 = .ok (.getfield 68, 3) := by decide +kernel
theorem dX13_call_226 : decode cX13_call 226 = .ok (.iload 4, 2) := by decide +kernel
theorem dX13_call_228 : decode cX13_call 228 = .ok (.iaload, 1) := by decide +kernel
theorem dX13_call_229 : decode cX13_call 229 = .ok (.if_icmp .ge 27, 3) := by decide +kernel
theorem dX13_call_232 : decode cX13_call 232 = .ok (.aload_n 0, 1) := by decide +kernel
theorem dX13_call_233 : decode cX13_call 233 = .ok (.bipush 23, 2) := by decide +kernel
theorem dX13_call_235 : decode cX13_call 235 = .ok (.invokevirtual 257, 3) := by decide +kernel
theorem dX13_call_238 : decode cX13_call 238 = .ok (.ifCond .eq 18, 3) := by decide +kernel
theorem dX13_call_241 : decode cX13_call 241 = .ok (.aload_n 0, 1) := by decide +kernel
theorem dX13_call_242 : decode cX13_call 242 = .ok (.bipush 7, 2) := by decide +kernel
theorem dX13_call_244 : decode cX13_call 244 = .ok (.aload_n 0, 1) := by decide +kernel
theorem dX13_call_245 : decode cX13_call 245 = .ok (.getfield 22, 3) := by decide +kernel
theorem dX13_call_248 : decode cX13_call 248 = .ok (.aload_n 0, 1) := by decide +kernel
theorem dX13_call_249 : decode cX13_call 249 = .ok (.getfield 233, 3) := by decide +kernel
theorem dX13_call_252 : decode cX13_call 252 = .ok (.iaload, 1) := by decide +kernel
theorem dX13_call_253 : decode cX13_call 253 = .ok (.invokevirtual 352, 3) := by decide +kernel
theorem dX13_call_256 : decode cX13_call 256 = .ok (.aload_n 0, 1) := by decide +kernel
theorem dX13_call_257 : decode cX13_call 257 = .ok (.bipush 23, 2) := by decide +kernel
theorem dX13_call_259 : decode cX13_call 259 = .ok (.invokevirtual 362, 3) := by decide +kernel
theorem dX13_call_262 : decode cX13_call 262 = .ok (.ifCond .ne 5, 3) := by decide +kernel
theorem dX13_call_265 : decode cX13_call 265 = .ok (.iconst 0, 1) := by decide +kernel
theorem dX13_call_266 : decode cX13_call 266 = .ok (.ireturn, 1) := by decide +kernel
theorem dX13_call_267 : decode cX13_call 267 = .ok (.aload_n 0, 1) := by decide +kernel
theorem dX13_call_268 : decode cX13_call 268 = .ok (.bipush 15, 2) := by decide +kernel
theorem dX13_call_270 : decode cX13_call 270 = .ok (.iconst 0, 1) := by decide +kernel
theorem dX13_call_271 : decode cX13_call 271 = .ok (.iconst 0, 1) := by decide +kernel
theorem dX13_call_272 : decode cX13_call 272 = .ok (.invokevirtual 401, 3) := by decide +kernel
theorem dX13_call_275 : decode cX13_call 275 = .ok (.pop, 1) := by decide +kernel
theorem dX13_call_276 : decode cX13_call 276 = .ok (.aload_n 0, 1) := by decide +kernel
theorem dX13_call_277 : decode cX13_call 277 = .ok (.bipush 16, 2) := by decide +kernel
theorem dX13_call_279 : decode cX13_call 279 = .ok (.iload 4, 2) := by decide +kernel
theorem dX13_call_281 : decode cX13_call 281 = .ok (.aload_n 0, 1) := by decide +kernel
theorem dX13_call_282 : decode cX13_call 282 = .ok (.getfield 22, 3) := by decide +kernel
theorem dX13_call_285 : decode cX13_call 285 = .ok (.iload_n 1, 1) := by decide +kernel
theorem dX13_call_286 : decode cX13_call 286 = .ok (.iaload, 1) := by decide +kernel
theorem dX13_call_287 : decode cX13_call 287 = .ok (.invokevirtual 401, 3) := by decide +kernel
theorem dX13_call_290 : decode cX13_call 290 = .ok (.pop, 1) := by decide +kernel
theorem dX13_call_291 : decode cX13_call 291 = .ok (.iconst 1, 1) := by decide +kernel
theorem dX13_call_292 : decode cX13_call 292 = .ok (.ireturn, 1) := by decide +kernel
theorem dX13_argument_0 : decode cX13_argument 0 = .ok (.aload_n 0, 1) := by decide +kernel
theorem dX13_argument_1 : decode cX13_argument 1 = .ok (.getfield 365, 3) := by decide +kernel
theorem dX13_argument_4 : decode cX13_argument 4 = .ok (.ifCond .ne 8, 3) := by decide +kernel
theorem dX13_argument_7 : decode cX13_argument 7 = .ok (.iload_n 1, 1) := by decide +kernel
theorem dX13_argument_8 : decode cX13_argument 8 = .ok (.iconst (-1), 1) := by decide +kernel
theorem dX13_argument_9 : decode cX13_argument 9 = .ok (.if_icmp .ne 8, 3) := by decide +kernel
theorem dX13_argument_12 : decode cX13_argument 12 = .ok (.aload_n 0, 1) := by decide +kernel
theorem dX13_argument_13 : decode cX13_argument 13 = .ok (.invokevirtual 368, 3) := by decide +kernel
theorem dX13_argument_16 : decode cX13_argument 16 = .ok (.ireturn, 1) := by decide +kernel
theorem dX13_argument_17 : decode cX13_argument 17 = .ok (.aload_n 0, 1) := by decide +kernel
theorem dX13_argument_18 : decode cX13_argument 18 = .ok (.getfield 22, 3) := by decide +kernel
theorem dX13_argument_21 : decode cX13_argument 21 = .ok (.aload_n 0, 1) := by decide +kernel
theorem dX13_argument_22 : decode cX13_argument 22 = .ok (.getfield 233, 3) := by decide +kernel
theorem dX13_argument_25 : decode cX13_argument 25 = .ok (.iaload, 1) := by decide +kernel
theorem dX13_argument_26 : decode cX13_argument 26 = .ok (.istore_n 3, 1) := by decide +kernel
theorem dX13_argument_27 : decode cX13_argument 27 = .ok (.iload_n 2, 1) := by decide +kernel
theorem dX13_argument_28 : decode cX13_argument 28 = .ok (.aload_n 0, 1) := by decide +kernel
theorem dX13_argument_29 : decode cX13_argument 29 = .ok (.getfield 68, 3) := by decide +kernel
theorem dX13_argument_32 : decode cX13_argument 32 = .ok (.iload_n 1, 1) := by decide +kernel
theorem dX13_argument_33 : decode cX13_argument 33 = .ok (.iaload, 1) := by decide +kernel
theorem dX13_argument_34 : decode cX13_argument 34 = .ok (.if_icmp .lt 15, 3) := by decide +kernel
theorem dX13_argument_37 : decode cX13_argument 37 = .ok (.aload_n 0, 1) := by decide +kernel
theorem dX13_argument_38 : decode cX13_argument 38 = .ok (.bipush 7, 2) := by decide +kernel
theorem dX13_argument_40 : decode cX13_argument 40 = .ok (.iload_n 3, 1) := by decide +kernel
theorem dX13_argument_41 : decode cX13_argument 41 = .ok (.invokevirtual 352, 3) := by decide +kernel
theorem dX13_argument_44 : decode cX13_argument 44 = .ok (.aload_n 0, 1) := by decide +kernel
theorem dX13_argument_45 : decode cX13_argument 45 = .ok (.invokevirtual 368, 3) := by decide +kernel
theorem dX13_argument_48 : decode cX13_argument 48 = .ok (.ireturn, 1) := by decide +kernel
theorem dX13_argument_49 : decode cX13_argument 49 = .ok (.aload_n 0, 1) := by decide +kernel
theorem dX13_argument_50 : decode cX13_argument 50 = .ok (.getfield 89, 3) := by decide +kernel
theorem dX13_argument_53 : decode cX13_argument 53 = .ok (.aload_n 0, 1) := by decide +kernel
theorem dX13_argument_54 : decode cX13_argument 54 = .ok (.getfield 80, 3) := by decide +kernel
theorem dX13_argument_57 : decode cX13_argument 57 = .ok (.iload_n 1, 1) := by decide +kernel
theorem dX13_argument_58 : decode cX13_argument 58 = .ok (.iaload, 1) := by decide +kernel
theorem dX13_argument_59 : decode cX13_argument 59 = .ok (.iload_n 2, 1) := by decide +kernel
theorem dX13_argument_60 : decode cX13_argument 60 = .ok (.iadd, 1) := by decide +kernel
theorem dX13_argument_61 : decode cX13_argument 61 = .ok (.iaload, 1) := by decide +kernel
theorem dX13_argument_62 : decode cX13_argument 62 = .ok (.istore 4, 2) := by decide +kernel
theorem dX13_argument_64 : decode cX13_argument 64 = .ok (.iload 4, 2) := by decide +kernel
theorem dX13_argument_66 : decode cX13_argument 66 = .ok (.ifCond .ne 8, 3) := by decide +kernel
theorem dX13_argument_69 : decode cX13_argument 69 = .ok (.aload_n 0, 1) := by decide +kernel
theorem dX13_argument_70 : decode cX13_argument 70 = .ok (.invokevirtual 368, 3) := by decide +kernel
theorem dX13_argument_73 : decode cX13_argument 73 = .ok (.ireturn, 1) := by decide +kernel
theorem dX13_argument_74 : decode cX13_argument 74 = .ok (.aload_n 0, 1) := by decide +kernel
theorem dX13_argument_75 : decode cX13_argument 75 = .ok (.getfield 16, 3) := by decide +kernel
theorem dX13_argument_78 : decode cX13_argument 78 = .ok (.aload_n 0, 1) := by decide +kernel
theorem dX13_argument_79 : decode cX13_argument 79 = .ok (.getfield 233, 3) := by decide +kernel
theorem dX13_argument_82 : decode cX13_argument 82 = .ok (.iaload, 1) := by decide +kernel
theorem dX13_argument_83 : decode cX13_argument 83 = .ok (.iconst 1, 1) := by decide +kernel
theorem dX13_argument_84 : decode cX13_argument 84 = .ok (.if_icmp .ne 54, 3) := by decide +kernel
theorem dX13_argument_87 : decode cX13_argument 87 = .ok (.aload_n 0, 1) := by decide +kernel
theorem dX13_argument_88 : decode cX13_argument 88 = .ok (.getfield 16, 3) := by decide +kernel
theorem dX13_argument_91 : decode cX13_argument 91 = .ok (.aload_n 0, 1) := by decide +kernel
theorem dX13_argument_92 : decode cX13_argument 92 = .ok (.getfield 233, 3) := by decide +kernel
theorem dX13_argument_95 : decode cX13_argument 95 = .ok (.iconst 1, 1) := by decide +kernel
theorem dX13_argument_96 : decode cX13_argument 96 = .ok (.iadd, 1) := by decide +kernel
theorem dX13_argument_97 : decode cX13_argument 97 = .ok (.iaload, 1) := by decide +kernel
theorem dX13_argument_98 : decode cX13_argument 98 = .ok (.iconst 4, 1) := by decide +kernel
theorem dX13_argument_99 : decode cX13_argument 99 = .ok (.if_icmp .ne 39, 3) := by decide +kernel
theorem dX13_argument_102 : decode cX13_argument 102 = .ok (.aload_n 0, 1) := by decide +kernel
theorem dX13_argument_103 : decode cX13_argument 103 = .ok (.getfield 19, 3) := by decide +kernel
theorem dX13_argument_106 : decode cX13_argument 106 = .ok (.aload_n 0, 1) := by decide +kernel
theorem dX13_argument_107 : decode cX13_argument 107 = .ok (.getfield 233, 3) := by decide +kernel
theorem dX13_argument_110 : decode cX13_argument 110 = .ok (.iconst 1, 1) := by decide +kernel
theorem dX13_argument_111 : decode cX13_argument 111 = .ok (.iadd, 1) := by decide +kernel
theorem dX13_argument_112 : decode cX13_argument 112 = .ok (.iaload, 1) := by decide +kernel
theorem dX13_argument_113 : decode cX13_argument 113 = .ok (.bipush 28, 2) := by decide +kernel
theorem dX13_argument_115 : decode cX13_argument 115 = .ok (.if_icmp .eq 19, 3) := by decide +kernel
theorem dX13_argument_118 : decode cX13_argument 118 = .ok (.aload_n 0, 1) := by decide +kernel
theorem dX13_argument_119 : decode cX13_argument 119 = .ok (.getfield 19, 3) := by decide +kernel
theorem dX13_argument_122 : decode cX13_argument 122 = .ok (.aload_n 0, 1) := by decide +kernel
theorem dX13_argument_123 : decode cX13_argument 123 = .ok (.getfield 233, 3) := by decide +kernel
theorem dX13_argument_126 : decode cX13_argument 126 = .ok (.iconst 1, 1) := by decide +kernel
theorem dX13_argument_127 : decode cX13_argument 127 = .ok (.iadd, 1) := by decide +kernel
theorem dX13_argument_128 : decode cX13_argument 128 = .ok (.iaload, 1) := by decide +kernel
theorem dX13_argument_129 : decode cX13_argument 129 = .ok (.bipush 23, 2) := by decide +kernel
theorem dX13_argument_131 : decode cX13_argument 131 = .ok (.if_icmp .ne 7, 3) := by decide +kernel
theorem dX13_argument_134 : decode cX13_argument 134 = .ok (.iconst 1, 1) := by decide +kernel
theorem dX13_argument_135 : decode cX13_argument 135 = .ok (.goto 4, 3) := by decide +kernel
theorem dX13_argument_138 : decode cX13_argument 138 = .ok (.iconst 0, 1) := by decide +kernel
theorem dX13_argument_139 : decode cX13_argument 139 = .ok (.istore 5, 2) := by decide +kernel
theorem dX13_argument_141 : decode cX13_argument 141 = .ok (.iload 5, 2) := by decide +kernel
theorem dX13_argument_143 : decode cX13_argument 143 = .ok (.ifCond .ne 15, 3) := by decide +kernel
theorem dX13_argument_146 : decode cX13_argument 146 = .ok (.aload_n 0, 1) := by decide +kernel
theorem dX13_argument_147 : decode cX13_argument 147 = .ok (.bipush 7, 2) := by decide +kernel
theorem dX13_argument_149 : decode cX13_argument 149 = .ok (.iload_n 3, 1) := by decide +kernel
theorem dX13_argument_150 : decode cX13_argument 150 = .ok (.invokevirtual 352, 3) := by decide +kernel
theorem dX13_argument_153 : decode cX13_argument 153 = .ok (.aload_n 0, 1) := by decide +kernel
theorem dX13_argument_154 : decode cX13_argument 154 = .ok (.invokevirtual 368, 3) := by decide +kernel
theorem dX13_argument_157 : decode cX13_argument 157 = .ok (.ireturn, 1) := by decide +kernel
theorem dX13_argument_158 : decode cX13_argument 158 = .ok (.aload_n 0, 1) := by decide +kernel
theorem dX13_argument_159 : decode cX13_argument 159 = .ok (.aload_n 0, 1) := by decide +kernel
theorem dX13_argument_160 : decode cX13_argument 160 = .ok (.getfield 233, 3) := by decide +kernel
theorem dX13_argument_163 : decode cX13_argument 163 = .ok (.invokevirtual 457, 3) := by decide +kernel
theorem dX13_argument_166 : decode cX13_argument 166 = .ok (.istore 6, 2) := by decide +kernel
theorem dX13_argument_168 : decode cX13_argument 168 = .ok (.iload 6, 2) := by decide +kernel
theorem dX13_argument_170 : decode cX13_argument 170 = .ok (.iconst (-1), 1) := by decide +kernel
theorem dX13_argument_171 : decode cX13_argument 171 = .ok (.if_icmp .ne 20, 3) := by decide +kernel
theorem dX13_argument_174 : decode cX13_argument 174 = .ok (.aload_n 0, 1) := by decide +kernel
theorem dX13_argument_175 : decode cX13_argument 175 = .ok (.getfield 374, 3) := by decide +kernel
theorem dX13_argument_178 : decode cX13_argument 178 = .ok (.iconst (-1), 1) := by decide +kernel
theorem dX13_argument_179 : decode cX13_argument 179 = .ok (.if_icmp .ne 12, 3) := by decide +kernel
theorem dX13_argument_182 : decode cX13_argument 182 = .ok (.aload_n 0, 1) := by decide +kernel
theorem dX13_argument_183 : decode cX13_argument 183 = .ok (.iconst 4, 1) := by decide +kernel
theorem dX13_argument_184 : decode cX13_argument 184 = .ok (.iload_n 3, 1) := by decide +kernel
theorem dX13_argument_185 : decode cX13_argument 185 = .ok (.invokevirtual 352, 3) := by decide +kernel
theorem dX13_argument_188 : decode cX13_argument 188 = .ok (.goto 48, 3) := by decide +kernel
theorem dX13_argument_191 : decode cX13_argument 191 = .ok (.iload 6, 2) := by decide +kernel
theorem dX13_argument_193 : decode cX13_argument 193 = .ok (.iconst (-1), 1) := by decide +kernel
theorem dX13_argument_194 : decode cX13_argument 194 = .ok (.if_icmp .eq 35, 3) := by decide +kernel
theorem dX13_argument_197 : decode cX13_argument 197 = .ok (.aload_n 0, 1) := by decide +kernel
theorem dX13_argument_198 : decode cX13_argument 198 = .ok (.getfield 40, 3) := by decide +kernel
theorem dX13_argument_201 : decode cX13_argument 201 = .ok (.iload 6, 2) := by decide +kernel
theorem dX13_argument_203 : decode cX13_argument 203 = .ok (.iaload, 1) := by decide +kernel
theorem dX13_argument_204 : decode cX13_argument 204 = .ok (.iconst 2, 1) := by decide +kernel
theorem dX13_argument_205 : decode cX13_argument 205 = .ok (.if_icmp .ne 24, 3) := by decide +kernel
theorem dX13_argument_208 : decode cX13_argument 208 = .ok (.aload_n 0, 1) := by decide +kernel
theorem dX13_argument_209 : decode cX13_argument 209 = .ok (.getfield 55, 3) := by decide +kernel
theorem dX13_argument_212 : decode cX13_argument 212 = .ok (.iload 6, 2) := by decide +kernel
theorem dX13_argument_214 : decode cX13_argument 214 = .ok (.baload, 1) := by decide +kernel
theorem dX13_argument_215 : decode cX13_argument 215 = .ok (.iload 4, 2) := by decide +kernel
theorem dX13_argument_217 : decode cX13_argument 217 = .ok (.iconst 2, 1) := by decide +kernel
theorem dX13_argument_218 : decode cX13_argument 218 = .ok (.if_icmp .ne 7, 3) := by decide +kernel
theorem dX13_argument_221 : decode cX13_argument 221 = .ok (.iconst 1, 1) := by decide +kernel
theorem dX13_argument_222 : decode cX13_argument 222 = .ok (.goto 4, 3) := by decide +kernel
theorem dX13_argument_225 : decode cX13_argument 225 = .ok (.iconst 0, 1) := by decide +kernel
theorem dX13_argument_226 : decode cX13_argument 226 = .ok (.if_icmp .eq 10, 3) := by decide +kernel
theorem dX13_argument_229 : decode cX13_argument 229 = .ok (.aload_n 0, 1) := by decide +kernel
theorem dX13_argument_230 : decode cX13_argument 230 = .ok (.bipush 7, 2) := by decide +kernel
theorem dX13_argument_232 : decode cX13_argument 232 = .ok (.iload_n 3, 1) := by decide +kernel
theorem dX13_argument_233 : decode cX13_argument 233 = .ok (.invokevirtual 352, 3) := by decide +kernel
theorem dX13_argument_236 : decode cX13_argument 236 = .ok (.aload_n 0, 1) := by decide +kernel
theorem dX13_argument_237 : decode cX13_argument 237 = .ok (.dup, 1) := by decide +kernel
theorem dX13_argument_238 : decode cX13_argument 238 = .ok (.getfield 233, 3) := by decide +kernel
theorem dX13_argument_241 : decode cX13_argument 241 = .ok (.iconst 1, 1) := by decide +kernel
theorem dX13_argument_242 : decode cX13_argument 242 = .ok (.iadd, 1) := by decide +kernel
theorem dX13_argument_243 : decode cX13_argument 243 = .ok (.putfield 233, 3) := by decide +kernel
theorem dX13_argument_246 : decode cX13_argument 246 = .ok (.aload_n 0, 1) := by decide +kernel
theorem dX13_argument_247 : decode cX13_argument 247 = .ok (.iconst 5, 1) := by decide +kernel
theorem dX13_argument_248 : decode cX13_argument 248 = .ok (.iload 6, 2) := by decide +kernel
theorem dX13_argument_250 : decode cX13_argument 250 = .ok (.iconst (-1), 1) := by decide +kernel
theorem dX13_argument_251 : decode cX13_argument 251 = .ok (.if_icmp .ne 7, 3) := by decide +kernel
theorem dX13_argument_254 : decode cX13_argument 254 = .ok (.iconst 0, 1) := by decide +kernel
theorem dX13_argument_255 : decode cX13_argument 255 = .ok (.goto 10, 3) := by decide +kernel
theorem dX13_argument_258 : decode cX13_argument 258 = .ok (.aload_n 0, 1) := by decide +kernel
theorem dX13_argument_259 : decode cX13_argument 259 = .ok (.getfield 49, 3) := by decide +kernel
theorem dX13_argument_262 : decode cX13_argument 262 = .ok (.iload 6, 2) := by decide +kernel
theorem dX13_argument_264 : decode cX13_argument 264 = .ok (.iaload, 1) := by decide +kernel
theorem dX13_argument_265 : decode cX13_argument 265 = .ok (.iload 6, 2) := by decide +kernel
theorem dX13_argument_267 : decode cX13_argument 267 = .ok (.iconst (-1), 1) := by decide +kernel
theorem dX13_argument_268 : decode cX13_argument 268 = .ok (.if_icmp .ne 7, 3) := by decide +kernel
theorem dX13_argument_271 : decode cX13_argument 271 = .ok (.iconst 1, 1) := by decide +kernel
theorem dX13_argument_272 : decode cX13_argument 272 = .ok (.goto 10, 3) := by decide +kernel
theorem dX13_argument_275 : decode cX13_argument 275 = .ok (.aload_n 0, 1) := by decide +kernel
theorem dX13_argument_276 : decode cX13_argument 276 = .ok (.getfield 52, 3) := by decide +kernel
theorem dX13_argument_279 : decode cX13_argument 279 = .ok (.iload 6, 2) := by decide +kernel
theorem dX13_argument_281 : decode cX13_argument 281 = .ok (.iaload, 1) := by decide +kernel
theorem dX13_argument_282 : decode cX13_argument 282 = .ok (.invokevirtual 401, 3) := by decide +kernel
theorem dX13_argument_285 : decode cX13_argument 285 = .ok (.istore 7, 2) := by decide +kernel
theorem dX13_argument_287 : decode cX13_argument 287 = .ok (.aload_n 0, 1) := by decide +kernel
theorem dX13_argument_288 : decode cX13_argument 288 = .ok (.getfield 113, 3) := by decide +kernel
theorem dX13_argument_291 : decode cX13_argument 291 = .ok (.iload 7, 2) := by decide +kernel
theorem dX13_argument_293 : decode cX13_argument 293 = .ok (.iload 6, 2) := by decide +kernel
theorem dX13_argument_295 : decode cX13_argument 295 = .ok (.iconst (-1), 1) := by decide +kernel
theorem dX13_argument_296 : decode cX13_argument 296 = .ok (.if_icmp .eq 17, 3) := by decide +kernel
theorem dX13_argument_299 : decode cX13_argument 299 = .ok (.aload_n 0, 1) := by decide +kernel
theorem dX13_argument_300 : decode cX13_argument 300 = .ok (.getfield 59, 3) := by decide +kernel
theorem dX13_argument_303 : decode cX13_argument 303 = .ok (.iload 6, 2) := by decide +kernel
theorem dX13_argument_305 : decode cX13_argument 305 = .ok (.baload, 1) := by decide +kernel
theorem dX13_argument_306 : decode cX13_argument 306 = .ok (.ifCond .eq 7, 3) := by decide +kernel
theorem dX13_argument_309 : decode cX13_argument 309 = .ok (.iconst 1, 1) := by decide +kernel
theorem dX13_argument_310 : decode cX13_argument 310 = .ok (.goto 4, 3) := by decide +kernel
theorem dX13_argument_313 : decode cX13_argument 313 = .ok (.iconst 0, 1) := by decide +kernel
theorem dX13_argument_314 : decode cX13_argument 314 = .ok (.iastore, 1) := by decide +kernel
theorem dX13_argument_315 : decode cX13_argument 315 = .ok (.iconst 1, 1) := by decide +kernel
theorem dX13_argument_316 : decode cX13_argument 316 = .ok (.ireturn, 1) := by decide +kernel
