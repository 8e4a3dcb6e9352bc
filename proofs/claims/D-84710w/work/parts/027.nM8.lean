/-! names: X13_oneWord X13_isOut X13_part X13_gives X13_goesOn X13_jumps X13_branches X13_loads X13_byteAt X13_stores X13_putByte X13_immediate X13_both X13_product (tools/names.py) -/
set_option maxRecDepth 100000
theorem q3652 : (Jvm.Cond.methodLink "CompiledHouseModel" (576 : Nat) ({ cls := "CompiledHouseModel", name := "isOut", desc := "(I)Z" } : Jvm.MethodName)) ∈ lw_all := lw_g (lw_at lw_m15 96 rfl) rfl
abbrev cX13_isOut : ByteArray := prog_39_method_92_code
def yX13_isOut : MethodName := ⟨RX13, "isOut", "(I)Z"⟩
theorem q3654 : (Jvm.Cond.code ({ cls := "CompiledHouseModel", name := "isOut", desc := "(I)Z" } : Jvm.MethodName) prog_39_method_92_code (1 : Nat) (Option.some Jvm.ClassFile.FieldType.boolean)) ∈ lw_all := lw_g (lw_at lw_m15 98 rfl) rfl
def kX13_isOut : xK := (yX13_isOut, cX13_isOut, 1, some .boolean, [])
theorem me_X13_isOut : xMe kX13_isOut 1 := ⟨q3654, q216, by decide, by decide, by decide +kernel⟩
theorem q3653 : (Jvm.Cond.static ({ cls := "CompiledHouseModel", name := "isOut", desc := "(I)Z" } : Jvm.MethodName)) ∈ lw_all := lw_g (lw_at lw_m15 97 rfl) rfl
theorem st_X13_isOut : Cond.static kX13_isOut.y ∈ lw_all := q3653
theorem lk_X13_576 : xLk RX13 576 yX13_isOut := Or.inl q3652
theorem q3655 : (Jvm.Cond.methodLink "CompiledHouseModel" (579 : Nat) ({ cls := "CompiledHouseModel", name := "part", desc := "(III)I" } : Jvm.MethodName)) ∈ lw_all := lw_g (lw_at lw_m15 99 rfl) rfl
abbrev cX13_part : ByteArray := prog_39_method_91_code
def yX13_part : MethodName := ⟨RX13, "part", "(III)I"⟩
theorem q3657 : (Jvm.Cond.code ({ cls := "CompiledHouseModel", name := "part", desc := "(III)I" } : Jvm.MethodName) prog_39_method_91_code (3 : Nat) (Option.some Jvm.ClassFile.FieldType.int)) ∈ lw_all := lw_g (lw_at lw_m15 101 rfl) rfl
def kX13_part : xK := (yX13_part, cX13_part, 3, some .int, [])
theorem me_X13_part : xMe kX13_part 3 := ⟨q3657, q216, by decide, by decide, by decide +kernel⟩
theorem q3656 : (Jvm.Cond.static ({ cls := "CompiledHouseModel", name := "part", desc := "(III)I" } : Jvm.MethodName)) ∈ lw_all := lw_g (lw_at lw_m15 100 rfl) rfl
theorem st_X13_part : Cond.static kX13_part.y ∈ lw_all := q3656
theorem lk_X13_579 : xLk RX13 579 yX13_part := Or.inl q3655
theorem q3658 : (Jvm.Cond.methodLink "CompiledHouseModel" (582 : Nat) ({ cls := "CompiledHouseModel", name := "gives", desc := "(II)V" } : Jvm.MethodName)) ∈ lw_all := lw_g (lw_at lw_m15 102 rfl) rfl
abbrev cX13_gives : ByteArray := prog_39_method_93_code
def yX13_gives : MethodName := ⟨RX13, "gives", "(II)V"⟩
theorem q3661 : (Jvm.Cond.code ({ cls := "CompiledHouseModel", name := "gives", desc := "(II)V" } : Jvm.MethodName) prog_39_method_93_code (3 : Nat) (Option.none : Option Jvm.ClassFile.FieldType)) ∈ lw_all := lw_g (lw_at lw_m15 105 rfl) rfl
def kX13_gives : xK := (yX13_gives, cX13_gives, 3, none, [])
theorem me_X13_gives : xMe kX13_gives 2 := ⟨q3661, q216, by decide, by decide, by decide +kernel⟩
theorem q3660 : (Jvm.Cond.instanceMethod ({ cls := "CompiledHouseModel", name := "gives", desc := "(II)V" } : Jvm.MethodName)) ∈ lw_all := lw_g (lw_at lw_m15 104 rfl) rfl
theorem is_X13_gives : Cond.instanceMethod kX13_gives.y ∈ lw_all := q3660
theorem se_X13_gives : Cond.selects RX13 kX13_gives.y kX13_gives.y ∈ lw_all := qs186
theorem lk_X13_582 : xLk RX13 582 yX13_gives := Or.inl q3658
theorem q3662 : (Jvm.Cond.methodLink "CompiledHouseModel" (585 : Nat) ({ cls := "CompiledHouseModel", name := "goesOn", desc := "(I)I" } : Jvm.MethodName)) ∈ lw_all := lw_g (lw_at lw_m15 106 rfl) rfl
abbrev cX13_goesOn : ByteArray := prog_39_method_94_code
def yX13_goesOn : MethodName := ⟨RX13, "goesOn", "(I)I"⟩
theorem q3665 : (Jvm.Cond.code ({ cls := "CompiledHouseModel", name := "goesOn", desc := "(I)I" } : Jvm.MethodName) prog_39_method_94_code (2 : Nat) (Option.some Jvm.ClassFile.FieldType.int)) ∈ lw_all := lw_g (lw_at lw_m15 109 rfl) rfl
def kX13_goesOn : xK := (yX13_goesOn, cX13_goesOn, 2, some .int, [])
theorem me_X13_goesOn : xMe kX13_goesOn 1 := ⟨q3665, q216, by decide, by decide, by decide +kernel⟩
theorem q3664 : (Jvm.Cond.instanceMethod ({ cls := "CompiledHouseModel", name := "goesOn", desc := "(I)I" } : Jvm.MethodName)) ∈ lw_all := lw_g (lw_at lw_m15 108 rfl) rfl
theorem is_X13_goesOn : Cond.instanceMethod kX13_goesOn.y ∈ lw_all := q3664
theorem se_X13_goesOn : Cond.selects RX13 kX13_goesOn.y kX13_goesOn.y ∈ lw_all := qs187
theorem lk_X13_585 : xLk RX13 585 yX13_goesOn := Or.inl q3662
theorem q3666 : (Jvm.Cond.methodLink "CompiledHouseModel" (588 : Nat) ({ cls := "CompiledHouseModel", name := "jumps", desc := "(III)I" } : Jvm.MethodName)) ∈ lw_all := lw_g (lw_at lw_m15 110 rfl) rfl
abbrev cX13_jumps : ByteArray := prog_39_method_96_code
def yX13_jumps : MethodName := ⟨RX13, "jumps", "(III)I"⟩
theorem q3669 : (Jvm.Cond.code ({ cls := "CompiledHouseModel", name := "jumps", desc := "(III)I" } : Jvm.MethodName) prog_39_method_96_code (4 : Nat) (Option.some Jvm.ClassFile.FieldType.int)) ∈ lw_all := lw_g (lw_at lw_m15 113 rfl) rfl
def kX13_jumps : xK := (yX13_jumps, cX13_jumps, 4, some .int, [])
theorem me_X13_jumps : xMe kX13_jumps 3 := ⟨q3669, q216, by decide, by decide, by decide +kernel⟩
theorem q3668 : (Jvm.Cond.instanceMethod ({ cls := "CompiledHouseModel", name := "jumps", desc := "(III)I" } : Jvm.MethodName)) ∈ lw_all := lw_g (lw_at lw_m15 112 rfl) rfl
theorem is_X13_jumps : Cond.instanceMethod kX13_jumps.y ∈ lw_all := q3668
theorem se_X13_jumps : Cond.selects RX13 kX13_jumps.y kX13_jumps.y ∈ lw_all := qs188
theorem lk_X13_588 : xLk RX13 588 yX13_jumps := Or.inl q3666
theorem q3670 : (Jvm.Cond.methodLink "CompiledHouseModel" (591 : Nat) ({ cls := "CompiledHouseModel", name := "branches", desc := "(IIIII)I" } : Jvm.MethodName)) ∈ lw_all := lw_g (lw_at lw_m15 114 rfl) rfl
abbrev cX13_branches : ByteArray := prog_39_method_97_code
def yX13_branches : MethodName := ⟨RX13, "branches", "(IIIII)I"⟩
theorem q3673 : (Jvm.Cond.code ({ cls := "CompiledHouseModel", name := "branches", desc := "(IIIII)I" } : Jvm.MethodName) prog_39_method_97_code (10 : Nat) (Option.some Jvm.ClassFile.FieldType.int)) ∈ lw_all := lw_g (lw_at lw_m15 117 rfl) rfl
def kX13_branches : xK := (yX13_branches, cX13_branches, 10, some .int, [])
theorem me_X13_branches : xMe kX13_branches 5 := ⟨q3673, q216, by decide, by decide, by decide +kernel⟩
theorem q3672 : (Jvm.Cond.instanceMethod ({ cls := "CompiledHouseModel", name := "branches", desc := "(IIIII)I" } : Jvm.MethodName)) ∈ lw_all := lw_g (lw_at lw_m15 116 rfl) rfl
theorem is_X13_branches : Cond.instanceMethod kX13_branches.y ∈ lw_all := q3672
theorem se_X13_branches : Cond.selects RX13 kX13_branches.y kX13_branches.y ∈ lw_all := qs189
theorem lk_X13_591 : xLk RX13 591 yX13_branches := Or.inl q3670
theorem q3674 : (Jvm.Cond.methodLink "CompiledHouseModel" (595 : Nat) ({ cls := "CompiledHouseModel", name := "loads", desc := "(IIII)I" } : Jvm.MethodName)) ∈ lw_all := lw_g (lw_at lw_m15 118 rfl) rfl
abbrev cX13_loads : ByteArray := prog_39_method_100_code
def yX13_loads : MethodName := ⟨RX13, "loads", "(IIII)I"⟩
theorem q3677 : (Jvm.Cond.code ({ cls := "CompiledHouseModel", name := "loads", desc := "(IIII)I" } : Jvm.MethodName) prog_39_method_100_code (8 : Nat) (Option.some Jvm.ClassFile.FieldType.int)) ∈ lw_all := lw_g (lw_at lw_m15 121 rfl) rfl
def kX13_loads : xK := (yX13_loads, cX13_loads, 8, some .int, [])
theorem me_X13_loads : xMe kX13_loads 4 := ⟨q3677, q216, by decide, by decide, by decide +kernel⟩
theorem q3676 : (Jvm.Cond.instanceMethod ({ cls := "CompiledHouseModel", name := "loads", desc := "(IIII)I" } : Jvm.MethodName)) ∈ lw_all := lw_g (lw_at lw_m15 120 rfl) rfl
theorem is_X13_loads : Cond.instanceMethod kX13_loads.y ∈ lw_all := q3676
theorem se_X13_loads : Cond.selects RX13 kX13_loads.y kX13_loads.y ∈ lw_all := qs190
theorem lk_X13_595 : xLk RX13 595 yX13_loads := Or.inl q3674
theorem q3682 : (Jvm.Cond.methodLink "CompiledHouseModel" (599 : Nat) ({ cls := "CompiledHouseModel", name := "stores", desc := "(IIII)I" } : Jvm.MethodName)) ∈ lw_all := lw_g (lw_at lw_m15 126 rfl) rfl
abbrev cX13_stores : ByteArray := prog_39_method_101_code
def yX13_stores : MethodName := ⟨RX13, "stores", "(IIII)I"⟩
theorem q3685 : (Jvm.Cond.code ({ cls := "CompiledHouseModel", name := "stores", desc := "(IIII)I" } : Jvm.MethodName) prog_39_method_101_code (7 : Nat) (Option.some Jvm.ClassFile.FieldType.int)) ∈ lw_all := lw_g (lw_at lw_m15 129 rfl) rfl
def kX13_stores : xK := (yX13_stores, cX13_stores, 7, some .int, [])
theorem me_X13_stores : xMe kX13_stores 4 := ⟨q3685, q216, by decide, by decide, by decide +kernel⟩
theorem q3684 : (Jvm.Cond.instanceMethod ({ cls := "CompiledHouseModel", name := "stores", desc := "(IIII)I" } : Jvm.MethodName)) ∈ lw_all := lw_g (lw_at lw_m15 128 rfl) rfl
theorem is_X13_stores : Cond.instanceMethod kX13_stores.y ∈ lw_all := q3684
theorem se_X13_stores : Cond.selects RX13 kX13_stores.y kX13_stores.y ∈ lw_all := qs192
theorem lk_X13_599 : xLk RX13 599 yX13_stores := Or.inl q3682
theorem q3690 : (Jvm.Cond.methodLink "CompiledHouseModel" (602 : Nat) ({ cls := "CompiledHouseModel", name := "immediate", desc := "(IIIIIII)I" } : Jvm.MethodName)) ∈ lw_all := lw_g (lw_at lw_m15 134 rfl) rfl
abbrev cX13_immediate : ByteArray := prog_39_method_102_code
def yX13_immediate : MethodName := ⟨RX13, "immediate", "(IIIIIII)I"⟩
theorem q3693 : (Jvm.Cond.code ({ cls := "CompiledHouseModel", name := "immediate", desc := "(IIIIIII)I" } : Jvm.MethodName) prog_39_method_102_code (9 : Nat) (Option.some Jvm.ClassFile.FieldType.int)) ∈ lw_all := lw_g (lw_at lw_m15 137 rfl) rfl
def kX13_immediate : xK := (yX13_immediate, cX13_immediate, 9, some .int, [])
theorem me_X13_immediate : xMe kX13_immediate 7 := ⟨q3693, q216, by decide, by decide, by decide +kernel⟩
theorem q3692 : (Jvm.Cond.instanceMethod ({ cls := "CompiledHouseModel", name := "immediate", desc := "(IIIIIII)I" } : Jvm.MethodName)) ∈ lw_all := lw_g (lw_at lw_m15 136 rfl) rfl
theorem is_X13_immediate : Cond.instanceMethod kX13_immediate.y ∈ lw_all := q3692
theorem se_X13_immediate : Cond.selects RX13 kX13_immediate.y kX13_immediate.y ∈ lw_all := qs194
theorem lk_X13_602 : xLk RX13 602 yX13_immediate := Or.inl q3690
theorem q3694 : (Jvm.Cond.methodLink "CompiledHouseModel" (606 : Nat) ({ cls := "CompiledHouseModel", name := "both", desc := "(IIIIII)I" } : Jvm.MethodName)) ∈ lw_all := lw_g (lw_at lw_m15 138 rfl) rfl
abbrev cX13_both : ByteArray := prog_39_method_103_code
def yX13_both : MethodName := ⟨RX13, "both", "(IIIIII)I"⟩
theorem q3697 : (Jvm.Cond.code ({ cls := "CompiledHouseModel", name := "both", desc := "(IIIIII)I" } : Jvm.MethodName) prog_39_method_103_code (7 : Nat) (Option.some Jvm.ClassFile.FieldType.int)) ∈ lw_all := lw_g (lw_at lw_m15 141 rfl) rfl
def kX13_both : xK := (yX13_both, cX13_both, 7, some .int, [])
theorem me_X13_both : xMe kX13_both 6 := ⟨q3697, q216, by decide, by decide, by decide +kernel⟩
theorem q3696 : (Jvm.Cond.instanceMethod ({ cls := "CompiledHouseModel", name := "both", desc := "(IIIIII)I" } : Jvm.MethodName)) ∈ lw_all := lw_g (lw_at lw_m15 140 rfl) rfl
theorem is_X13_both : Cond.instanceMethod kX13_both.y ∈ lw_all := q3696
theorem se_X13_both : Cond.selects RX13 kX13_both.y kX13_both.y ∈ lw_all := qs195
theorem lk_X13_606 : xLk RX13 606 yX13_both := Or.inl q3694
theorem q3701 : (Jvm.Cond.constant "CompiledHouseModel" (610 : Nat) (1048691 : Int32)) ∈ lw_all := lw_g (lw_at lw_m15 145 rfl) rfl
theorem q3678 : (Jvm.Cond.methodLink "CompiledHouseModel" (611 : Nat) ({ cls := "CompiledHouseModel", name := "byteAt", desc := "(I)I" } : Jvm.MethodName)) ∈ lw_all := lw_g (lw_at lw_m15 122 rfl) rfl
abbrev cX13_byteAt : ByteArray := prog_39_method_98_code
def yX13_byteAt : MethodName := ⟨RX13, "byteAt", "(I)I"⟩
theorem q3681 : (Jvm.Cond.code ({ cls := "CompiledHouseModel", name := "byteAt", desc := "(I)I" } : Jvm.MethodName) prog_39_method_98_code (2 : Nat) (Option.some Jvm.ClassFile.FieldType.int)) ∈ lw_all := lw_g (lw_at lw_m15 125 rfl) rfl
def kX13_byteAt : xK := (yX13_byteAt, cX13_byteAt, 2, some .int, [])
theorem me_X13_byteAt : xMe kX13_byteAt 1 := ⟨q3681, q216, by decide, by decide, by decide +kernel⟩
theorem q3680 : (Jvm.Cond.instanceMethod ({ cls := "CompiledHouseModel", name := "byteAt", desc := "(I)I" } : Jvm.MethodName)) ∈ lw_all := lw_g (lw_at lw_m15 124 rfl) rfl
theorem is_X13_byteAt : Cond.instanceMethod kX13_byteAt.y ∈ lw_all := q3680
theorem se_X13_byteAt : Cond.selects RX13 kX13_byteAt.y kX13_byteAt.y ∈ lw_all := qs191
theorem lk_X13_611 : xLk RX13 611 yX13_byteAt := Or.inl q3678
theorem q3686 : (Jvm.Cond.methodLink "CompiledHouseModel" (614 : Nat) ({ cls := "CompiledHouseModel", name := "putByte", desc := "(II)V" } : Jvm.MethodName)) ∈ lw_all := lw_g (lw_at lw_m15 130 rfl) rfl
abbrev cX13_putByte : ByteArray := prog_39_method_99_code
def yX13_putByte : MethodName := ⟨RX13, "putByte", "(II)V"⟩
theorem q3689 : (Jvm.Cond.code ({ cls := "CompiledHouseModel", name := "putByte", desc := "(II)V" } : Jvm.MethodName) prog_39_method_99_code (4 : Nat) (Option.none : Option Jvm.ClassFile.FieldType)) ∈ lw_all := lw_g (lw_at lw_m15 133 rfl) rfl
def kX13_putByte : xK := (yX13_putByte, cX13_putByte, 4, none, [])
theorem me_X13_putByte : xMe kX13_putByte 2 := ⟨q3689, q216, by decide, by decide, by decide +kernel⟩
theorem q3688 : (Jvm.Cond.instanceMethod ({ cls := "CompiledHouseModel", name := "putByte", desc := "(II)V" } : Jvm.MethodName)) ∈ lw_all := lw_g (lw_at lw_m15 132 rfl) rfl
theorem is_X13_putByte : Cond.instanceMethod kX13_putByte.y ∈ lw_all := q3688
theorem se_X13_putByte : Cond.selects RX13 kX13_putByte.y kX13_putByte.y ∈ lw_all := qs193
theorem lk_X13_614 : xLk RX13 614 yX13_putByte := Or.inl q3686
theorem q3698 : (Jvm.Cond.methodLink "CompiledHouseModel" (617 : Nat) ({ cls := "CompiledHouseModel", name := "product", desc := "(III)I" } : Jvm.MethodName)) ∈ lw_all := lw_g (lw_at lw_m15 142 rfl) rfl
abbrev cX13_product : ByteArray := prog_39_method_104_code
def yX13_product : MethodName := ⟨RX13, "product", "(III)I"⟩
theorem q3700 : (Jvm.Cond.code ({ cls := "CompiledHouseModel", name := "product", desc := "(III)I" } : Jvm.MethodName) prog_39_method_104_code (11 : Nat) (Option.some Jvm.ClassFile.FieldType.int)) ∈ lw_all := lw_g (lw_at lw_m15 144 rfl) rfl
def kX13_product : xK := (yX13_product, cX13_product, 11, some .int, [])
theorem me_X13_product : xMe kX13_product 3 := ⟨q3700, q216, by decide, by decide, by decide +kernel⟩
theorem q3699 : (Jvm.Cond.static ({ cls := "CompiledHouseModel", name := "product", desc := "(III)I" } : Jvm.MethodName)) ∈ lw_all := lw_g (lw_at lw_m15 143 rfl) rfl
theorem st_X13_product : Cond.static kX13_product.y ∈ lw_all := q3699
theorem lk_X13_617 : xLk RX13 617 yX13_product := Or.inl q3698
theorem dX13_oneWord_0 : decode cX13_oneWord 0 = .ok (.aload_n 0, 1) := by decide +kernel
theorem dX13_oneWord_1 : decode cX13_oneWord 1 = .ok (.getfield 150, 3) := by decide +kernel
theorem dX13_oneWord_4 : decode cX13_oneWord 4 = .ok (.bipush 32, 2) := by decide +kernel
theorem dX13_oneWord_6 : decode cX13_oneWord 6 = .ok (.iaload, 1) := by decide +kernel
theorem dX13_oneWord_7 : decode cX13_oneWord 7 = .ok (.istore_n 1, 1) := by decide +kernel
theorem dX13_oneWord_8 : decode cX13_oneWord 8 = .ok (.iload_n 1, 1) := by decide +kernel
theorem dX13_oneWord_9 : decode cX13_oneWord 9 = .ok (.iconst 3, 1) := by decide +kernel
theorem dX13_oneWord_10 : decode cX13_oneWord 10 = .ok (.iand, 1) := by decide +kernel
theorem dX13_oneWord_11 : decode cX13_oneWord 11 = .ok (.ifCond .ne 10, 3) := by decide +kernel
theorem dX13_oneWord_14 : decode cX13_oneWord 14 = .ok (.iload_n 1, 1) := by decide +kernel
theorem dX13_oneWord_15 : decode cX13_oneWord 15 = .ok (.invokestatic 576, 3) := by decide +kernel
theorem dX13_oneWord_18 : decode cX13_oneWord 18 = .ok (.ifCond .eq 5, 3) := by decide +kernel
theorem dX13_oneWord_21 : decode cX13_oneWord 21 = .ok (.iconst 1, 1) := by decide +kernel
theorem dX13_oneWord_22 : decode cX13_oneWord 22 = .ok (.ireturn, 1) := by decide +kernel
theorem dX13_oneWord_23 : decode cX13_oneWord 23 = .ok (.aload_n 0, 1) := by decide +kernel
theorem dX13_oneWord_24 : decode cX13_oneWord 24 = .ok (.getfield 147, 3) := by decide +kernel
theorem dX13_oneWord_27 : decode cX13_oneWord 27 = .ok (.iload_n 1, 1) := by decide +kernel
theorem dX13_oneWord_28 : decode cX13_oneWord 28 = .ok (.iconst 2, 1) := by decide +kernel
theorem dX13_oneWord_29 : decode cX13_oneWord 29 = .ok (.ishr, 1) := by decide +kernel
theorem dX13_oneWord_30 : decode cX13_oneWord 30 = .ok (.iaload, 1) := by decide +kernel
theorem dX13_oneWord_31 : decode cX13_oneWord 31 = .ok (.istore_n 2, 1) := by decide +kernel
theorem dX13_oneWord_32 : decode cX13_oneWord 32 = .ok (.iload_n 2, 1) := by decide +kernel
theorem dX13_oneWord_33 : decode cX13_oneWord 33 = .ok (.bipush 7, 2) := by decide +kernel
theorem dX13_oneWord_35 : decode cX13_oneWord 35 = .ok (.iconst 5, 1) := by decide +kernel
theorem dX13_oneWord_36 : decode cX13_oneWord 36 = .ok (.invokestatic 579, 3) := by decide +kernel
theorem dX13_oneWord_39 : decode cX13_oneWord 39 = .ok (.istore_n 3, 1) := by decide +kernel
theorem dX13_oneWord_40 : decode cX13_oneWord 40 = .ok (.iload_n 2, 1) := by decide +kernel
theorem dX13_oneWord_41 : decode cX13_oneWord 41 = .ok (.bipush 12, 2) := by decide +kernel
theorem dX13_oneWord_43 : decode cX13_oneWord 43 = .ok (.iconst 3, 1) := by decide +kernel
theorem dX13_oneWord_44 : decode cX13_oneWord 44 = .ok (.invokestatic 579, 3) := by decide +kernel
theorem dX13_oneWord_47 : decode cX13_oneWord 47 = .ok (.istore 4, 2) := by decide +kernel
theorem dX13_oneWord_49 : decode cX13_oneWord 49 = .ok (.iload_n 2, 1) := by decide +kernel
theorem dX13_oneWord_50 : decode cX13_oneWord 50 = .ok (.bipush 25, 2) := by decide +kernel
theorem dX13_oneWord_52 : decode cX13_oneWord 52 = .ok (.bipush 7, 2) := by decide +kernel
theorem dX13_oneWord_54 : decode cX13_oneWord 54 = .ok (.invokestatic 579, 3) := by decide +kernel
theorem dX13_oneWord_57 : decode cX13_oneWord 57 = .ok (.istore 5, 2) := by decide +kernel
theorem dX13_oneWord_59 : decode cX13_oneWord 59 = .ok (.aload_n 0, 1) := by decide +kernel
theorem dX13_oneWord_60 : decode cX13_oneWord 60 = .ok (.getfield 150, 3) := by decide +kernel
theorem dX13_oneWord_63 : decode cX13_oneWord 63 = .ok (.iload_n 2, 1) := by decide +kernel
theorem dX13_oneWord_64 : decode cX13_oneWord 64 = .ok (.bipush 15, 2) := by decide +kernel
theorem dX13_oneWord_66 : decode cX13_oneWord 66 = .ok (.iconst 5, 1) := by decide +kernel
theorem dX13_oneWord_67 : decode cX13_oneWord 67 = .ok (.invokestatic 579, 3) := by decide +kernel
theorem dX13_oneWord_70 : decode cX13_oneWord 70 = .ok (.iaload, 1) := by decide +kernel
theorem dX13_oneWord_71 : decode cX13_oneWord 71 = .ok (.istore 6, 2) := by decide +kernel
theorem dX13_oneWord_73 : decode cX13_oneWord 73 = .ok (.aload_n 0, 1) := by decide +kernel
theorem dX13_oneWord_74 : decode cX13_oneWord 74 = .ok (.getfield 150, 3) := by decide +kernel
theorem dX13_oneWord_77 : decode cX13_oneWord 77 = .ok (.iload_n 2, 1) := by decide +kernel
theorem dX13_oneWord_78 : decode cX13_oneWord 78 = .ok (.bipush 20, 2) := by decide +kernel
theorem dX13_oneWord_80 : decode cX13_oneWord 80 = .ok (.iconst 5, 1) := by decide +kernel
theorem dX13_oneWord_81 : decode cX13_oneWord 81 = .ok (.invokestatic 579, 3) := by decide +kernel
theorem dX13_oneWord_84 : decode cX13_oneWord 84 = .ok (.iaload, 1) := by decide +kernel
theorem dX13_oneWord_85 : decode cX13_oneWord 85 = .ok (.istore 7, 2) := by decide +kernel
theorem dX13_oneWord_87 : decode cX13_oneWord 87 = .ok (.iload_n 2, 1) := by decide +kernel
theorem dX13_oneWord_88 : decode cX13_oneWord 88 = .ok (.bipush 20, 2) := by decide +kernel
theorem dX13_oneWord_90 : decode cX13_oneWord 90 = .ok (.ishr, 1) := by decide +kernel
theorem dX13_oneWord_91 : decode cX13_oneWord 91 = .ok (.istore 8, 2) := by decide +kernel
theorem dX13_oneWord_93 : decode cX13_oneWord 93 = .ok (.iload_n 2, 1) := by decide +kernel
theorem dX13_oneWord_94 : decode cX13_oneWord 94 = .ok (.iconst 0, 1) := by decide +kernel
theorem dX13_oneWord_95 : decode cX13_oneWord 95 = .ok (.bipush 7, 2) := by decide +kernel
theorem dX13_oneWord_97 : decode cX13_oneWord 97 = .ok (.invokestatic 579, 3) := by decide +kernel
theorem dX13_oneWord_100 : decode cX13_oneWord 100 = .ok (.lookupswitch 346 #[(3, 257), (15, 329), (19, 292), (23, 110), (35, 271), (51, 314), (55, 92), (99, 204), (103, 180), (111, 130)], 92) := by decide +kernel
theorem dX13_oneWord_192 : decode cX13_oneWord 192 = .ok (.aload_n 0, 1) := by decide +kernel
theorem dX13_oneWord_193 : decode cX13_oneWord 193 = .ok (.iload_n 3, 1) := by decide +kernel
theorem dX13_oneWord_194 : decode cX13_oneWord 194 = .ok (.iload_n 2, 1) := by decide +kernel
theorem dX13_oneWord_195 : decode cX13_oneWord 195 = .ok (.sipush (-4096), 3) := by decide +kernel
theorem dX13_oneWord_198 : decode cX13_oneWord 198 = .ok (.iand, 1) := by decide +kernel
theorem dX13_oneWord_199 : decode cX13_oneWord 199 = .ok (.invokevirtual 582, 3) := by decide +kernel
theorem dX13_oneWord_202 : decode cX13_oneWord 202 = .ok (.aload_n 0, 1) := by decide +kernel
theorem dX13_oneWord_203 : decode cX13_oneWord 203 = .ok (.iload_n 1, 1) := by decide +kernel
theorem dX13_oneWord_204 : decode cX13_oneWord 204 = .ok (.iconst 4, 1) := by decide +kernel
theorem dX13_oneWord_205 : decode cX13_oneWord 205 = .ok (.iadd, 1) := by decide +kernel
theorem dX13_oneWord_206 : decode cX13_oneWord 206 = .ok (.invokevirtual 585, 3) := by decide +kernel
theorem dX13_oneWord_209 : decode cX13_oneWord 209 = .ok (.ireturn, 1) := by decide +kernel
theorem dX13_oneWord_210 : decode cX13_oneWord 210 = .ok (.aload_n 0, 1) := by decide +kernel
theorem dX13_oneWord_211 : decode cX13_oneWord 211 = .ok (.iload_n 3, 1) := by decide +kernel
theorem dX13_oneWord_212 : decode cX13_oneWord 212 = .ok (.iload_n 1, 1) := by decide +kernel
theorem dX13_oneWord_213 : decode cX13_oneWord 213 = .ok (.iload_n 2, 1) := by decide +kernel
theorem dX13_oneWord_214 : decode cX13_oneWord 214 = .ok (.sipush (-4096), 3) := by decide +kernel
theorem dX13_oneWord_217 : decode cX13_oneWord 217 = .ok (.iand, 1) := by decide +kernel
theorem dX13_oneWord_218 : decode cX13_oneWord 218 = .ok (.iadd, 1) := by decide +kernel
theorem dX13_oneWord_219 : decode cX13_oneWord 219 = .ok (.invokevirtual 582, 3) := by decide +kernel
theorem dX13_oneWord_222 : decode cX13_oneWord 222 = .ok (.aload_n 0, 1) := by decide +kernel
theorem dX13_oneWord_223 : decode cX13_oneWord 223 = .ok (.iload_n 1, 1) := by decide +kernel
theorem dX13_oneWord_224 : decode cX13_oneWord 224 = .ok (.iconst 4, 1) := by decide +kernel
theorem dX13_oneWord_225 : decode cX13_oneWord 225 = .ok (.iadd, 1) := by decide +kernel
theorem dX13_oneWord_226 : decode cX13_oneWord 226 = .ok (.invokevirtual 585, 3) := by decide +kernel
theorem dX13_oneWord_229 : decode cX13_oneWord 229 = .ok (.ireturn, 1) := by decide +kernel
theorem dX13_oneWord_230 : decode cX13_oneWord 230 = .ok (.aload_n 0, 1) := by decide +kernel
theorem dX13_oneWord_231 : decode cX13_oneWord 231 = .ok (.iload_n 3, 1) := by decide +kernel
theorem dX13_oneWord_232 : decode cX13_oneWord 232 = .ok (.iload_n 1, 1) := by decide +kernel
theorem dX13_oneWord_233 : decode cX13_oneWord 233 = .ok (.iload_n 2, 1) := by decide +kernel
theorem dX13_oneWord_234 : decode cX13_oneWord 234 = .ok (.bipush 31, 2) := by decide +kernel
theorem dX13_oneWord_236 : decode cX13_oneWord 236 = .ok (.ishr, 1) := by decide +kernel
theorem dX13_oneWord_237 : decode cX13_oneWord 237 = .ok (.bipush 20, 2) := by decide +kernel
theorem dX13_oneWord_239 : decode cX13_oneWord 239 = .ok (.ishl, 1) := by decide +kernel
theorem dX13_oneWord_240 : decode cX13_oneWord 240 = .ok (.iload_n 2, 1) := by decide +kernel
theorem dX13_oneWord_241 : decode cX13_oneWord 241 = .ok (.bipush 12, 2) := by decide +kernel
theorem dX13_oneWord_243 : decode cX13_oneWord 243 = .ok (.bipush 8, 2) := by decide +kernel
theorem dX13_oneWord_245 : decode cX13_oneWord 245 = .ok (.invokestatic 579, 3) := by decide +kernel
theorem dX13_oneWord_248 : decode cX13_oneWord 248 = .ok (.bipush 12, 2) := by decide +kernel
theorem dX13_oneWord_250 : decode cX13_oneWord 250 = .ok (.ishl, 1) := by decide +kernel
theorem dX13_oneWord_251 : decode cX13_oneWord 251 = .ok (.ior, 1) := by decide +kernel
theorem dX13_oneWord_252 : decode cX13_oneWord 252 = .ok (.iload_n 2, 1) := by decide +kernel
theorem dX13_oneWord_253 : decode cX13_oneWord 253 = .ok (.bipush 20, 2) := by decide +kernel
theorem dX13_oneWord_255 : decode cX13_oneWord 255 = .ok (.iconst 1, 1) := by decide +kernel
theorem dX13_oneWord_256 : decode cX13_oneWord 256 = .ok (.invokestatic 579, 3) := by decide +kernel
theorem dX13_oneWord_259 : decode cX13_oneWord 259 = .ok (.bipush 11, 2) := by decide +kernel
theorem dX13_oneWord_261 : decode cX13_oneWord 261 = .ok (.ishl, 1) := by decide +kernel
theorem dX13_oneWord_262 : decode cX13_oneWord 262 = .ok (.ior, 1) := by decide +kernel
theorem dX13_oneWord_263 : decode cX13_oneWord 263 = .ok (.iload_n 2, 1) := by decide +kernel
theorem dX13_oneWord_264 : decode cX13_oneWord 264 = .ok (.bipush 21, 2) := by decide +kernel
theorem dX13_oneWord_266 : decode cX13_oneWord 266 = .ok (.bipush 10, 2) := by decide +kernel
theorem dX13_oneWord_268 : decode cX13_oneWord 268 = .ok (.invokestatic 579, 3) := by decide +kernel
theorem dX13_oneWord_271 : decode cX13_oneWord 271 = .ok (.iconst 1, 1) := by decide +kernel
theorem dX13_oneWord_272 : decode cX13_oneWord 272 = .ok (.ishl, 1) := by decide +kernel
theorem dX13_oneWord_273 : decode cX13_oneWord 273 = .ok (.ior, 1) := by decide +kernel
theorem dX13_oneWord_274 : decode cX13_oneWord 274 = .ok (.iadd, 1) := by decide +kernel
theorem dX13_oneWord_275 : decode cX13_oneWord 275 = .ok (.iload_n 1, 1) := by decide +kernel
theorem dX13_oneWord_276 : decode cX13_oneWord 276 = .ok (.invokevirtual 588, 3) := by decide +kernel
theorem dX13_oneWord_279 : decode cX13_oneWord 279 = .ok (.ireturn, 1) := by decide +kernel
theorem dX13_oneWord_280 : decode cX13_oneWord 280 = .ok (.iload 4, 2) := by decide +kernel
theorem dX13_oneWord_282 : decode cX13_oneWord 282 = .ok (.ifCond .ne 20, 3) := by decide +kernel
theorem dX13_oneWord_285 : decode cX13_oneWord 285 = .ok (.aload_n 0, 1) := by decide +kernel
theorem dX13_oneWord_286 : decode cX13_oneWord 286 = .ok (.iload_n 3, 1) := by decide +kernel
theorem dX13_oneWord_287 : decode cX13_oneWord 287 = .ok (.iload 6, 2) := by decide +kernel
theorem dX13_oneWord_289 : decode cX13_oneWord 289 = .ok (.iload 8, 2) := by decide +kernel
theorem dX13_oneWord_291 : decode cX13_oneWord 291 = .ok (.iadd, 1) := by decide +kernel
theorem dX13_oneWord_292 : decode cX13_oneWord 292 = .ok (.bipush (-2), 2) := by decide +kernel
theorem dX13_oneWord_294 : decode cX13_oneWord 294 = .ok (.iand, 1) := by decide +kernel
theorem dX13_oneWord_295 : decode cX13_oneWord 295 = .ok (.iload_n 1, 1) := by decide +kernel
theorem dX13_oneWord_296 : decode cX13_oneWord 296 = .ok (.invokevirtual 588, 3) := by decide +kernel
theorem dX13_oneWord_299 : decode cX13_oneWord 299 = .ok (.goto 4, 3) := by decide +kernel
theorem dX13_oneWord_302 : decode cX13_oneWord 302 = .ok (.iconst 2, 1) := by decide +kernel
theorem dX13_oneWord_303 : decode cX13_oneWord 303 = .ok (.ireturn, 1) := by decide +kernel
theorem dX13_oneWord_304 : decode cX13_oneWord 304 = .ok (.aload_n 0, 1) := by decide +kernel
theorem dX13_oneWord_305 : decode cX13_oneWord 305 = .ok (.iload 4, 2) := by decide +kernel
theorem dX13_oneWord_307 : decode cX13_oneWord 307 = .ok (.iload 6, 2) := by decide +kernel
theorem dX13_oneWord_309 : decode cX13_oneWord 309 = .ok (.iload 7, 2) := by decide +kernel
theorem dX13_oneWord_311 : decode cX13_oneWord 311 = .ok (.iload_n 1, 1) := by decide +kernel
theorem dX13_oneWord_312 : decode cX13_oneWord 312 = .ok (.iload_n 2, 1) := by decide +kernel
theorem dX13_oneWord_313 : decode cX13_oneWord 313 = .ok (.bipush 31, 2) := by decide +kernel
theorem dX13_oneWord_315 : decode cX13_oneWord 315 = .ok (.ishr, 1) := by decide +kernel
theorem dX13_oneWord_316 : decode cX13_oneWord 316 = .ok (.bipush 12, 2) := by decide +kernel
theorem dX13_oneWord_318 : decode cX13_oneWord 318 = .ok (.ishl, 1) := by decide +kernel
theorem dX13_oneWord_319 : decode cX13_oneWord 319 = .ok (.iload_n 2, 1) := by decide +kernel
theorem dX13_oneWord_320 : decode cX13_oneWord 320 = .ok (.bipush 7, 2) := by decide +kernel
theorem dX13_oneWord_322 : decode cX13_oneWord 322 = .ok (.iconst 1, 1) := by decide +kernel
theorem dX13_oneWord_323 : decode cX13_oneWord 323 = .ok (.invokestatic 579, 3) := by decide +kernel
theorem dX13_oneWord_326 : decode cX13_oneWord 326 = .ok (.bipush 11, 2) := by decide +kernel
theorem dX13_oneWord_328 : decode cX13_oneWord 328 = .ok (.ishl, 1) := by decide +kernel
theorem dX13_oneWord_329 : decode cX13_oneWord 329 = .ok (.ior, 1) := by decide +kernel
theorem dX13_oneWord_330 : decode cX13_oneWord 330 = .ok (.iload_n 2, 1) := by decide +kernel
theorem dX13_oneWord_331 : decode cX13_oneWord 331 = .ok (.bipush 25, 2) := by decide +kernel
theorem dX13_oneWord_333 : decode cX13_oneWord 333 = .ok (.bipush 6, 2) := by decide +kernel
theorem dX13_oneWord_335 : decode cX13_oneWord 335 = .ok (.invokestatic 579, 3) := by decide +kernel
theorem dX13_oneWord_338 : decode cX13_oneWord 338 = .ok (.iconst 5, 1) := by decide +kernel
theorem dX13_oneWord_339 : decode cX13_oneWord 339 = .ok (.ishl, 1) := by decide +kernel
theorem dX13_oneWord_340 : decode cX13_oneWord 340 = .ok (.ior, 1) := by decide +kernel
theorem dX13_oneWord_341 : decode cX13_oneWord 341 = .ok (.iload_n 2, 1) := by decide +kernel
theorem dX13_oneWord_342 : decode cX13_oneWord 342 = .ok (.bipush 8, 2) := by decide +kernel
theorem dX13_oneWord_344 : decode cX13_oneWord 344 = .ok (.iconst 4, 1) := by decide +kernel
theorem dX13_oneWord_345 : decode cX13_oneWord 345 = .ok (.invokestatic 579, 3) := by decide +kernel
theorem dX13_oneWord_348 : decode cX13_oneWord 348 = .ok (.iconst 1, 1) := by decide +kernel
theorem dX13_oneWord_349 : decode cX13_oneWord 349 = .ok (.ishl, 1) := by decide +kernel
theorem dX13_oneWord_350 : decode cX13_oneWord 350 = .ok (.ior, 1) := by decide +kernel
theorem dX13_oneWord_351 : decode cX13_oneWord 351 = .ok (.iadd, 1) := by decide +kernel
theorem dX13_oneWord_352 : decode cX13_oneWord 352 = .ok (.iload_n 1, 1) := by decide +kernel
theorem dX13_oneWord_353 : decode cX13_oneWord 353 = .ok (.invokevirtual 591, 3) := by decide +kernel
theorem dX13_oneWord_356 : decode cX13_oneWord 356 = .ok (.ireturn, 1) := by decide +kernel
theorem dX13_oneWord_357 : decode cX13_oneWord 357 = .ok (.aload_n 0, 1) := by decide +kernel
theorem dX13_oneWord_358 : decode cX13_oneWord 358 = .ok (.iload 4, 2) := by decide +kernel
theorem dX13_oneWord_360 : decode cX13_oneWord 360 = .ok (.iload_n 3, 1) := by decide +kernel
theorem dX13_oneWord_361 : decode cX13_oneWord 361 = .ok (.iload 6, 2) := by decide +kernel
theorem dX13_oneWord_363 : decode cX13_oneWord 363 = .ok (.iload 8, 2) := by decide +kernel
theorem dX13_oneWord_365 : decode cX13_oneWord 365 = .ok (.iadd, 1) := by decide +kernel
theorem dX13_oneWord_366 : decode cX13_oneWord 366 = .ok (.iload_n 1, 1) := by decide +kernel
theorem dX13_oneWord_367 : decode cX13_oneWord 367 = .ok (.invokevirtual 595, 3) := by decide +kernel
theorem dX13_oneWord_370 : decode cX13_oneWord 370 = .ok (.ireturn, 1) := by decide +kernel
theorem dX13_oneWord_371 : decode cX13_oneWord 371 = .ok (.aload_n 0, 1) := by decide +kernel
theorem dX13_oneWord_372 : decode cX13_oneWord 372 = .ok (.iload 4, 2) := by decide +kernel
theorem dX13_oneWord_374 : decode cX13_oneWord 374 = .ok (.iload 6, 2) := by decide +kernel
theorem dX13_oneWord_376 : decode cX13_oneWord 376 = .ok (.iload_n 2, 1) := by decide +kernel
theorem dX13_oneWord_377 : decode cX13_oneWord 377 = .ok (.bipush 25, 2) := by decide +kernel
theorem dX13_oneWord_379 : decode cX13_oneWord 379 = .ok (.ishr, 1) := by decide +kernel
theorem dX13_oneWord_380 : decode cX13_oneWord 380 = .ok (.iconst 5, 1) := by decide +kernel
theorem dX13_oneWord_381 : decode cX13_oneWord 381 = .ok (.ishl, 1) := by decide +kernel
theorem dX13_oneWord_382 : decode cX13_oneWord 382 = .ok (.iload_n 3, 1) := by decide +kernel
theorem dX13_oneWord_383 : decode cX13_oneWord 383 = .ok (.ior, 1) := by decide +kernel
theorem dX13_oneWord_384 : decode cX13_oneWord 384 = .ok (.iadd, 1) := by decide +kernel
theorem dX13_oneWord_385 : decode cX13_oneWord 385 = .ok (.iload 7, 2) := by decide +kernel
theorem dX13_oneWord_387 : decode cX13_oneWord 387 = .ok (.iload_n 1, 1) := by decide +kernel
theorem dX13_oneWord_388 : decode cX13_oneWord 388 = .ok (.invokevirtual 599, 3) := by decide +kernel
theorem dX13_oneWord_391 : decode cX13_oneWord 391 = .ok (.ireturn, 1) := by decide +kernel
theorem dX13_oneWord_392 : decode cX13_oneWord 392 = .ok (.aload_n 0, 1) := by decide +kernel
theorem dX13_oneWord_393 : decode cX13_oneWord 393 = .ok (.iload 4, 2) := by decide +kernel
theorem dX13_oneWord_395 : decode cX13_oneWord 395 = .ok (.iload 5, 2) := by decide +kernel
theorem dX13_oneWord_397 : decode cX13_oneWord 397 = .ok (.iload_n 3, 1) := by decide +kernel
theorem dX13_oneWord_398 : decode cX13_oneWord 398 = .ok (.iload 6, 2) := by decide +kernel
theorem dX13_oneWord_400 : decode cX13_oneWord 400 = .ok (.iload 8, 2) := by decide +kernel
theorem dX13_oneWord_402 : decode cX13_oneWord 402 = .ok (.iload_n 2, 1) := by decide +kernel
theorem dX13_oneWord_403 : decode cX13_oneWord 403 = .ok (.bipush 20, 2) := by decide +kernel
theorem dX13_oneWord_405 : decode cX13_oneWord 405 = .ok (.iconst 5, 1) := by decide +kernel
theorem dX13_oneWord_406 : decode cX13_oneWord 406 = .ok (.invokestatic 579, 3) := by decide +kernel
theorem dX13_oneWord_409 : decode cX13_oneWord 409 = .ok (.iload_n 1, 1) := by decide +kernel
theorem dX13_oneWord_410 : decode cX13_oneWord 410 = .ok (.invokevirtual 602, 3) := by decide +kernel
theorem dX13_oneWord_413 : decode cX13_oneWord 413 = .ok (.ireturn, 1) := by decide +kernel
theorem dX13_oneWord_414 : decode cX13_oneWord 414 = .ok (.aload_n 0, 1) := by decide +kernel
theorem dX13_oneWord_415 : decode cX13_oneWord 415 = .ok (.iload 4, 2) := by decide +kernel
theorem dX13_oneWord_417 : decode cX13_oneWord 417 = .ok (.iload 5, 2) := by decide +kernel
theorem dX13_oneWord_419 : decode cX13_oneWord 419 = .ok (.iload_n 3, 1) := by decide +kernel
theorem dX13_oneWord_420 : decode cX13_oneWord 420 = .ok (.iload 6, 2) := by decide +kernel
theorem dX13_oneWord_422 : decode cX13_oneWord 422 = .ok (.iload 7, 2) := by decide +kernel
theorem dX13_oneWord_424 : decode cX13_oneWord 424 = .ok (.iload_n 1, 1) := by decide +kernel
theorem dX13_oneWord_425 : decode cX13_oneWord 425 = .ok (.invokevirtual 606, 3) := by decide +kernel
theorem dX13_oneWord_428 : decode cX13_oneWord 428 = .ok (.ireturn, 1) := by decide +kernel
theorem dX13_oneWord_429 : decode cX13_oneWord 429 = .ok (.iload 4, 2) := by decide +kernel
theorem dX13_oneWord_431 : decode cX13_oneWord 431 = .ok (.ifCond .ne 13, 3) := by decide +kernel
theorem dX13_oneWord_434 : decode cX13_oneWord 434 = .ok (.aload_n 0, 1) := by decide +kernel
theorem dX13_oneWord_435 : decode cX13_oneWord 435 = .ok (.iload_n 1, 1) := by decide +kernel
theorem dX13_oneWord_436 : decode cX13_oneWord 436 = .ok (.iconst 4, 1) := by decide +kernel
theorem dX13_oneWord_437 : decode cX13_oneWord 437 = .ok (.iadd, 1) := by decide +kernel
theorem dX13_oneWord_438 : decode cX13_oneWord 438 = .ok (.invokevirtual 585, 3) := by decide +kernel
theorem dX13_oneWord_441 : decode cX13_oneWord 441 = .ok (.goto 4, 3) := by decide +kernel
theorem dX13_oneWord_444 : decode cX13_oneWord 444 = .ok (.iconst 2, 1) := by decide +kernel
theorem dX13_oneWord_445 : decode cX13_oneWord 445 = .ok (.ireturn, 1) := by decide +kernel
theorem dX13_oneWord_446 : decode cX13_oneWord 446 = .ok (.iload_n 2, 1) := by decide +kernel
theorem dX13_oneWord_447 : decode cX13_oneWord 447 = .ok (.bipush 115, 2) := by decide +kernel
theorem dX13_oneWord_449 : decode cX13_oneWord 449 = .ok (.if_icmp .eq 12, 3) := by decide +kernel
theorem dX13_oneWord_452 : decode cX13_oneWord 452 = .ok (.iload_n 2, 1) := by decide +kernel
theorem dX13_oneWord_453 : decode cX13_oneWord 453 = .ok (.ldc_w 610, 3) := by decide +kernel
theorem dX13_oneWord_456 : decode cX13_oneWord 456 = .ok (.if_icmp .eq 5, 3) := by decide +kernel
theorem dX13_oneWord_459 : decode cX13_oneWord 459 = .ok (.iconst 2, 1) := by decide +kernel
theorem dX13_oneWord_460 : decode cX13_oneWord 460 = .ok (.ireturn, 1) := by decide +kernel
theorem dX13_oneWord_461 : decode cX13_oneWord 461 = .ok (.aload_n 0, 1) := by decide +kernel
theorem dX13_oneWord_462 : decode cX13_oneWord 462 = .ok (.iload_n 1, 1) := by decide +kernel
theorem dX13_oneWord_463 : decode cX13_oneWord 463 = .ok (.iconst 4, 1) := by decide +kernel
theorem dX13_oneWord_464 : decode cX13_oneWord 464 = .ok (.iadd, 1) := by decide +kernel
theorem dX13_oneWord_465 : decode cX13_oneWord 465 = .ok (.invokevirtual 585, 3) := by decide +kernel
theorem dX13_oneWord_468 : decode cX13_oneWord 468 = .ok (.iload_n 2, 1) := by decide +kernel
theorem dX13_oneWord_469 : decode cX13_oneWord 469 = .ok (.bipush 115, 2) := by decide +kernel
theorem dX13_oneWord_471 : decode cX13_oneWord 471 = .ok (.if_icmp .ne 8, 3) := by decide +kernel
theorem dX13_oneWord_474 : decode cX13_oneWord 474 = .ok (.bipush 6, 2) := by decide +kernel
theorem dX13_oneWord_476 : decode cX13_oneWord 476 = .ok (.goto 5, 3) := by decide +kernel
theorem dX13_oneWord_479 : decode cX13_oneWord 479 = .ok (.bipush 7, 2) := by decide +kernel
theorem dX13_oneWord_481 : decode cX13_oneWord 481 = .ok (.iadd, 1) := by decide +kernel
theorem dX13_oneWord_482 : decode cX13_oneWord 482 = .ok (.ireturn, 1) := by decide +kernel
theorem dX13_isOut_0 : decode cX13_isOut 0 = .ok (.iload_n 0, 1) := by decide +kernel
theorem dX13_isOut_1 : decode cX13_isOut 1 = .ok (.ifCond .lt 10, 3) := by decide +kernel
theorem dX13_isOut_4 : decode cX13_isOut 4 = .ok (.iload_n 0, 1) := by decide +kernel
theorem dX13_isOut_5 : decode cX13_isOut 5 = .ok (.sipush 16383, 3) := by decide +kernel
theorem dX13_isOut_8 : decode cX13_isOut 8 = .ok (.if_icmp .le 7, 3) := by decide +kernel
theorem dX13_isOut_11 : decode cX13_isOut 11 = .ok (.iconst 1, 1) := by decide +kernel
theorem dX13_isOut_12 : decode cX13_isOut 12 = .ok (.goto 4, 3) := by decide +kernel
theorem dX13_isOut_15 : decode cX13_isOut 15 = .ok (.iconst 0, 1) := by decide +kernel
theorem dX13_isOut_16 : decode cX13_isOut 16 = .ok (.ireturn, 1) := by decide +kernel
theorem dX13_part_0 : decode cX13_part 0 = .ok (.iload_n 0, 1) := by decide +kernel
theorem dX13_part_1 : decode cX13_part 1 = .ok (.iload_n 1, 1) := by decide +kernel
theorem dX13_part_2 : decode cX13_part 2 = .ok (.iushr, 1) := by decide +kernel
theorem dX13_part_3 : decode cX13_part 3 = .ok (.iconst 1, 1) := by decide +kernel
theorem dX13_part_4 : decode cX13_part 4 = .ok (.iload_n 2, 1) := by decide +kernel
theorem dX13_part_5 : decode cX13_part 5 = .ok (.ishl, 1) := by decide +kernel
theorem dX13_part_6 : decode cX13_part 6 = .ok (.iconst 1, 1) := by decide +kernel
theorem dX13_part_7 : decode cX13_part 7 = .ok (.isub, 1) := by decide +kernel
theorem dX13_part_8 : decode cX13_part 8 = .ok (.iand, 1) := by decide +kernel
theorem dX13_part_9 : decode cX13_part 9 = .ok (.ireturn, 1) := by decide +kernel
theorem dX13_gives_0 : decode cX13_gives 0 = .ok (.iload_n 1, 1) := by decide +kernel
theorem dX13_gives_1 : decode cX13_gives 1 = .ok (.ifCond .le 10, 3) := by decide +kernel
theorem dX13_gives_4 : decode cX13_gives 4 = .ok (.aload_n 0, 1) := by decide +kernel
theorem dX13_gives_5 : decode cX13_gives 5 = .ok (.getfield 150, 3) := by decide +kernel
theorem dX13_gives_8 : decode cX13_gives 8 = .ok (.iload_n 1, 1) := by decide +kernel
theorem dX13_gives_9 : decode cX13_gives 9 = .ok (.iload_n 2, 1) := by decide +kernel
theorem dX13_gives_10 : decode cX13_gives 10 = .ok (.iastore, 1) := by decide +kernel
theorem dX13_gives_11 : decode cX13_gives 11 = .ok (.return_, 1) := by decide +kernel
theorem dX13_goesOn_0 : decode cX13_goesOn 0 = .ok (.aload_n 0, 1) := by decide +kernel
theorem dX13_goesOn_1 : decode cX13_goesOn 1 = .ok (.getfield 150, 3) := by decide +kernel
theorem dX13_goesOn_4 : decode cX13_goesOn 4 = .ok (.bipush 32, 2) := by decide +kernel
theorem dX13_goesOn_6 : decode cX13_goesOn 6 = .ok (.iload_n 1, 1) := by decide +kernel
theorem dX13_goesOn_7 : decode cX13_goesOn 7 = .ok (.iastore, 1) := by decide +kernel
theorem dX13_goesOn_8 : decode cX13_goesOn 8 = .ok (.aload_n 0, 1) := by decide +kernel
theorem dX13_goesOn_9 : decode cX13_goesOn 9 = .ok (.dup, 1) := by decide +kernel
theorem dX13_goesOn_10 : decode cX13_goesOn 10 = .ok (.getfield 570, 3) := by decide +kernel
theorem dX13_goesOn_13 : decode cX13_goesOn 13 = .ok (.iconst 1, 1) := by decide +kernel
theorem dX13_goesOn_14 : decode cX13_goesOn 14 = .ok (.iadd, 1) := by decide +kernel
theorem dX13_goesOn_15 : decode cX13_goesOn 15 = .ok (.putfield 570, 3) := by decide +kernel
theorem dX13_goesOn_18 : decode cX13_goesOn 18 = .ok (.iconst 0, 1) := by decide +kernel
theorem dX13_goesOn_19 : decode cX13_goesOn 19 = .ok (.ireturn, 1) := by decide +kernel
theorem dX13_jumps_0 : decode cX13_jumps 0 = .ok (.iload_n 2, 1) := by decide +kernel
theorem dX13_jumps_1 : decode cX13_jumps 1 = .ok (.iconst 3, 1) := by decide +kernel
theorem dX13_jumps_2 : decode cX13_jumps 2 = .ok (.iand, 1) := by decide +kernel
theorem dX13_jumps_3 : decode cX13_jumps 3 = .ok (.ifCond .eq 5, 3) := by decide +kernel
theorem dX13_jumps_6 : decode cX13_jumps 6 = .ok (.iconst 3, 1) := by decide +kernel
theorem dX13_jumps_7 : decode cX13_jumps 7 = .ok (.ireturn, 1) := by decide +kernel
theorem dX13_jumps_8 : decode cX13_jumps 8 = .ok (.aload_n 0, 1) := by decide +kernel
theorem dX13_jumps_9 : decode cX13_jumps 9 = .ok (.iload_n 1, 1) := by decide +kernel
theorem dX13_jumps_10 : decode cX13_jumps 10 = .ok (.iload_n 3, 1) := by decide +kernel
theorem dX13_jumps_11 : decode cX13_jumps 11 = .ok (.iconst 4, 1) := by decide +kernel
theorem dX13_jumps_12 : decode cX13_jumps 12 = .ok (.iadd, 1) := by decide +kernel
theorem dX13_jumps_13 : decode cX13_jumps 13 = .ok (.invokevirtual 582, 3) := by decide +kernel
theorem dX13_jumps_16 : decode cX13_jumps 16 = .ok (.aload_n 0, 1) := by decide +kernel
theorem dX13_jumps_17 : decode cX13_jumps 17 = .ok (.iload_n 2, 1) := by decide +kernel
theorem dX13_jumps_18 : decode cX13_jumps 18 = .ok (.invokevirtual 585, 3) := by decide +kernel
theorem dX13_jumps_21 : decode cX13_jumps 21 = .ok (.ireturn, 1) := by decide +kernel
theorem dX13_branches_0 : decode cX13_branches 0 = .ok (.iload_n 1, 1) := by decide +kernel
theorem dX13_branches_1 : decode cX13_branches 1 = .ok (.iconst 2, 1) := by decide +kernel
theorem dX13_branches_2 : decode cX13_branches 2 = .ok (.if_icmp .eq 8, 3) := by decide +kernel
theorem dX13_branches_5 : decode cX13_branches 5 = .ok (.iload_n 1, 1) := by decide +kernel
theorem dX13_branches_6 : decode cX13_branches 6 = .ok (.iconst 3, 1) := by decide +kernel
theorem dX13_branches_7 : decode cX13_branches 7 = .ok (.if_icmp .ne 5, 3) := by decide +kernel
theorem dX13_branches_10 : decode cX13_branches 10 = .ok (.iconst 2, 1) := by decide +kernel
theorem dX13_branches_11 : decode cX13_branches 11 = .ok (.ireturn, 1) := by decide +kernel
theorem dX13_branches_12 : decode cX13_branches 12 = .ok (.iload_n 2, 1) := by decide +kernel
theorem dX13_branches_13 : decode cX13_branches 13 = .ok (.ldc_w 490, 3) := by decide +kernel
theorem dX13_branches_16 : decode cX13_branches 16 = .ok (.iadd, 1) := by decide +kernel
theorem dX13_branches_17 : decode cX13_branches 17 = .ok (.istore 6, 2) := by decide +kernel
theorem dX13_branches_19 : decode cX13_branches 19 = .ok (.iload_n 3, 1) := by decide +kernel
theorem dX13_branches_20 : decode cX13_branches 20 = .ok (.ldc_w 490, 3) := by decide +kernel
theorem dX13_branches_23 : decode cX13_branches 23 = .ok (.iadd, 1) := by decide +kernel
theorem dX13_branches_24 : decode cX13_branches 24 = .ok (.istore 7, 2) := by decide +kernel
theorem dX13_branches_26 : decode cX13_branches 26 = .ok (.iload_n 1, 1) := by decide +kernel
theorem dX13_branches_27 : decode cX13_branches 27 = .ok (.iconst 2, 1) := by decide +kernel
theorem dX13_branches_28 : decode cX13_branches 28 = .ok (.if_icmp .ge 16, 3) := by decide +kernel
theorem dX13_branches_31 : decode cX13_branches 31 = .ok (.iload_n 2, 1) := by decide +kernel
theorem dX13_branches_32 : decode cX13_branches 32 = .ok (.iload_n 3, 1) := by decide +kernel
theorem dX13_branches_33 : decode cX13_branches 33 = .ok (.if_icmp .ne 7, 3) := by decide +kernel
theorem dX13_branches_36 : decode cX13_branches 36 = .ok (.iconst 1, 1) := by decide +kernel
theorem dX13_branches_37 : decode cX13_branches 37 = .ok (.goto 38, 3) := by decide +kernel
theorem dX13_branches_40 : decode cX13_branches 40 = .ok (.iconst 0, 1) := by decide +kernel
theorem dX13_branches_41 : decode cX13_branches 41 = .ok (.goto 34, 3) := by decide +kernel
theorem dX13_branches_44 : decode cX13_branches 44 = .ok (.iload_n 1, 1) := by decide +kernel
theorem dX13_branches_45 : decode cX13_branches 45 = .ok (.bipush 6, 2) := by decide +kernel
theorem dX13_branches_47 : decode cX13_branches 47 = .ok (.if_icmp .ge 16, 3) := by decide +kernel
theorem dX13_branches_50 : decode cX13_branches 50 = .ok (.iload_n 2, 1) := by decide +kernel
theorem dX13_branches_51 : decode cX13_branches 51 = .ok (.iload_n 3, 1) := by decide +kernel
theorem dX13_branches_52 : decode cX13_branches 52 = .ok (.if_icmp .ge 7, 3) := by decide +kernel
theorem dX13_branches_55 : decode cX13_branches 55 = .ok (.iconst 1, 1) := by decide +kernel
theorem dX13_branches_56 : decode cX13_branches 56 = .ok (.goto 19, 3) := by decide +kernel
theorem dX13_branches_59 : decode cX13_branches 59 = .ok (.iconst 0, 1) := by decide +kernel
theorem dX13_branches_60 : decode cX13_branches 60 = .ok (.goto 15, 3) := by decide +kernel
theorem dX13_branches_63 : decode cX13_branches 63 = .ok (.iload 6, 2) := by decide +kernel
theorem dX13_branches_65 : decode cX13_branches 65 = .ok (.iload 7, 2) := by decide +kernel
theorem dX13_branches_67 : decode cX13_branches 67 = .ok (.if_icmp .ge 7, 3) := by decide +kernel
theorem dX13_branches_70 : decode cX13_branches 70 = .ok (.iconst 1, 1) := by decide +kernel
theorem dX13_branches_71 : decode cX13_branches 71 = .ok (.goto 4, 3) := by decide +kernel
theorem dX13_branches_74 : decode cX13_branches 74 = .ok (.iconst 0, 1) := by decide +kernel
theorem dX13_branches_75 : decode cX13_branches 75 = .ok (.istore 8, 2) := by decide +kernel
theorem dX13_branches_77 : decode cX13_branches 77 = .ok (.iload_n 1, 1) := by decide +kernel
theorem dX13_branches_78 : decode cX13_branches 78 = .ok (.iconst 1, 1) := by decide +kernel
theorem dX13_branches_79 : decode cX13_branches 79 = .ok (.iand, 1) := by decide +kernel
theorem dX13_branches_80 : decode cX13_branches 80 = .ok (.ifCond .ne 8, 3) := by decide +kernel
theorem dX13_branches_83 : decode cX13_branches 83 = .ok (.iload 8, 2) := by decide +kernel
theorem dX13_branches_85 : decode cX13_branches 85 = .ok (.goto 13, 3) := by decide +kernel
theorem dX13_branches_88 : decode cX13_branches 88 = .ok (.iload 8, 2) := by decide +kernel
theorem dX13_branches_90 : decode cX13_branches 90 = .ok (.ifCond .ne 7, 3) := by decide +kernel
theorem dX13_branches_93 : decode cX13_branches 93 = .ok (.iconst 1, 1) := by decide +kernel
theorem dX13_branches_94 : decode cX13_branches 94 = .ok (.goto 4, 3) := by decide +kernel
theorem dX13_branches_97 : decode cX13_branches 97 = .ok (.iconst 0, 1) := by decide +kernel
theorem dX13_branches_98 : decode cX13_branches 98 = .ok (.istore 9, 2) := by decide +kernel
theorem dX13_branches_100 : decode cX13_branches 100 = .ok (.iload 9, 2) := by decide +kernel
theorem dX13_branches_102 : decode cX13_branches 102 = .ok (.ifCond .ne 12, 3) := by decide +kernel
theorem dX13_branches_105 : decode cX13_branches 105 = .ok (.aload_n 0, 1) := by decide +kernel
theorem dX13_branches_106 : decode cX13_branches 106 = .ok (.iload 5, 2) := by decide +kernel
theorem dX13_branches_108 : decode cX13_branches 108 = .ok (.iconst 4, 1) := by decide +kernel
theorem dX13_branches_109 : decode cX13_branches 109 = .ok (.iadd, 1) := by decide +kernel
theorem dX13_branches_110 : decode cX13_branches 110 = .ok (.invokevirtual 585, 3) := by decide +kernel
theorem dX13_branches_113 : decode cX13_branches 113 = .ok (.ireturn, 1) := by decide +kernel
theorem dX13_branches_114 : decode cX13_branches 114 = .ok (.iload 4, 2) := by decide +kernel
theorem dX13_branches_116 : decode cX13_branches 116 = .ok (.iconst 3, 1) := by decide +kernel
theorem dX13_branches_117 : decode cX13_branches 117 = .ok (.iand, 1) := by decide +kernel
theorem dX13_branches_118 : decode cX13_branches 118 = .ok (.ifCond .eq 7, 3) := by decide +kernel
theorem dX13_branches_121 : decode cX13_branches 121 = .ok (.iconst 3, 1) := by decide +kernel
theorem dX13_branches_122 : decode cX13_branches 122 = .ok (.goto 9, 3) := by decide +kernel
theorem dX13_branches_125 : decode cX13_branches 125 = .ok (.aload_n 0, 1) := by decide +kernel
theorem dX13_branches_126 : decode cX13_branches 126 = .ok (.iload 4, 2) := by decide +kernel
theorem dX13_branches_128 : decode cX13_branches 128 = .ok (.invokevirtual 585, 3) := by decide +kernel
theorem dX13_branches_131 : decode cX13_branches 131 = .ok (.ireturn, 1) := by decide +kernel
theorem dX13_loads_0 : decode cX13_loads 0 = .ok (.iload_n 1, 1) := by decide +kernel
theorem dX13_loads_1 : decode cX13_loads 1 = .ok (.iconst 3, 1) := by decide +kernel
theorem dX13_loads_2 : decode cX13_loads 2 = .ok (.if_icmp .eq 8, 3) := by decide +kernel
theorem dX13_loads_5 : decode cX13_loads 5 = .ok (.iload_n 1, 1) := by decide +kernel
theorem dX13_loads_6 : decode cX13_loads 6 = .ok (.iconst 5, 1) := by decide +kernel
theorem dX13_loads_7 : decode cX13_loads 7 = .ok (.if_icmp .le 5, 3) := by decide +kernel
theorem dX13_loads_10 : decode cX13_loads 10 = .ok (.iconst 2, 1) := by decide +kernel
theorem dX13_loads_11 : decode cX13_loads 11 = .ok (.ireturn, 1) := by decide +kernel
theorem dX13_loads_12 : decode cX13_loads 12 = .ok (.iload_n 1, 1) := by decide +kernel
theorem dX13_loads_13 : decode cX13_loads 13 = .ok (.iconst 2, 1) := by decide +kernel
theorem dX13_loads_14 : decode cX13_loads 14 = .ok (.if_icmp .ne 7, 3) := by decide +kernel
theorem dX13_loads_17 : decode cX13_loads 17 = .ok (.iconst 4, 1) := by decide +kernel
theorem dX13_loads_18 : decode cX13_loads 18 = .ok (.goto 15, 3) := by decide +kernel
theorem dX13_loads_21 : decode cX13_loads 21 = .ok (.iload_n 1, 1) := by decide +kernel
theorem dX13_loads_22 : decode cX13_loads 22 = .ok (.iconst 3, 1) := by decide +kernel
theorem dX13_loads_23 : decode cX13_loads 23 = .ok (.iand, 1) := by decide +kernel
theorem dX13_loads_24 : decode cX13_loads 24 = .ok (.iconst 1, 1) := by decide +kernel
theorem dX13_loads_25 : decode cX13_loads 25 = .ok (.if_icmp .ne 7, 3) := by decide +kernel
theorem dX13_loads_28 : decode cX13_loads 28 = .ok (.iconst 2, 1) := by decide +kernel
theorem dX13_loads_29 : decode cX13_loads 29 = .ok (.goto 4, 3) := by decide +kernel
theorem dX13_loads_32 : decode cX13_loads 32 = .ok (.iconst 1, 1) := by decide +kernel
theorem dX13_loads_33 : decode cX13_loads 33 = .ok (.istore 5, 2) := by decide +kernel
theorem dX13_loads_35 : decode cX13_loads 35 = .ok (.iload_n 3, 1) := by decide +kernel
theorem dX13_loads_36 : decode cX13_loads 36 = .ok (.iload 5, 2) := by decide +kernel
theorem dX13_loads_38 : decode cX13_loads 38 = .ok (.iconst 1, 1) := by decide +kernel
theorem dX13_loads_39 : decode cX13_loads 39 = .ok (.isub, 1) := by decide +kernel
theorem dX13_loads_40 : decode cX13_loads 40 = .ok (.iand, 1) := by decide +kernel
theorem dX13_loads_41 : decode cX13_loads 41 = .ok (.ifCond .eq 5, 3) := by decide +kernel
theorem dX13_loads_44 : decode cX13_loads 44 = .ok (.iconst 4, 1) := by decide +kernel
theorem dX13_loads_45 : decode cX13_loads 45 = .ok (.ireturn, 1) := by decide +kernel
theorem dX13_loads_46 : decode cX13_loads 46 = .ok (.iload_n 3, 1) := by decide +kernel
theorem dX13_loads_47 : decode cX13_loads 47 = .ok (.invokestatic 576, 3) := by decide +kernel
theorem dX13_loads_50 : decode cX13_loads 50 = .ok (.ifCond .eq 5, 3) := by decide +kernel
theorem dX13_loads_53 : decode cX13_loads 53 = .ok (.iconst 5, 1) := by decide +kernel
theorem dX13_loads_54 : decode cX13_loads 54 = .ok (.ireturn, 1) := by decide +kernel
theorem dX13_loads_55 : decode cX13_loads 55 = .ok (.iconst 0, 1) := by decide +kernel
theorem dX13_loads_56 : decode cX13_loads 56 = .ok (.istore 6, 2) := by decide +kernel
theorem dX13_loads_58 : decode cX13_loads 58 = .ok (.iload 5, 2) := by decide +kernel
theorem dX13_loads_60 : decode cX13_loads 60 = .ok (.iconst 1, 1) := by decide +kernel
theorem dX13_loads_61 : decode cX13_loads 61 = .ok (.isub, 1) := by decide +kernel
theorem dX13_loads_62 : decode cX13_loads 62 = .ok (.istore 7, 2) := by decide +kernel
theorem dX13_loads_64 : decode cX13_loads 64 = .ok (.iload 7, 2) := by decide +kernel
theorem dX13_loads_66 : decode cX13_loads 66 = .ok (.ifCond .lt 25, 3) := by decide +kernel
theorem dX13_loads_69 : decode cX13_loads 69 = .ok (.iload 6, 2) := by decide +kernel
theorem dX13_loads_71 : decode cX13_loads 71 = .ok (.bipush 8, 2) := by decide +kernel
theorem dX13_loads_73 : decode cX13_loads 73 = .ok (.ishl, 1) := by decide +kernel
theorem dX13_loads_74 : decode cX13_loads 74 = .ok (.aload_n 0, 1) := by decide +kernel
theorem dX13_loads_75 : decode cX13_loads 75 = .ok (.iload_n 3, 1) := by decide +kernel
theorem dX13_loads_76 : decode cX13_loads 76 = .ok (.iload 7, 2) := by decide +kernel
theorem dX13_loads_78 : decode cX13_loads 78 = .ok (.iadd, 1) := by decide +kernel
theorem dX13_loads_79 : decode cX13_loads 79 = .ok (.invokevirtual 611, 3) := by decide +kernel
theorem dX13_loads_82 : decode cX13_loads 82 = .ok (.ior, 1) := by decide +kernel
theorem dX13_loads_83 : decode cX13_loads 83 = .ok (.istore 6, 2) := by decide +kernel
theorem dX13_loads_85 : decode cX13_loads 85 = .ok (.iinc 7 (-1), 3) := by decide +kernel
theorem dX13_loads_88 : decode cX13_loads 88 = .ok (.goto (-24), 3) := by decide +kernel
theorem dX13_loads_91 : decode cX13_loads 91 = .ok (.aload_n 0, 1) := by decide +kernel
theorem dX13_loads_92 : decode cX13_loads 92 = .ok (.iload_n 2, 1) := by decide +kernel
theorem dX13_loads_93 : decode cX13_loads 93 = .ok (.iload_n 1, 1) := by decide +kernel
theorem dX13_loads_94 : decode cX13_loads 94 = .ok (.ifCond .ne 9, 3) := by decide +kernel
theorem dX13_loads_97 : decode cX13_loads 97 = .ok (.iload 6, 2) := by decide +kernel
theorem dX13_loads_99 : decode cX13_loads 99 = .ok (.i2b, 1) := by decide +kernel
theorem dX13_loads_100 : decode cX13_loads 100 = .ok (.goto 16, 3) := by decide +kernel
theorem dX13_loads_103 : decode cX13_loads 103 = .ok (.iload_n 1, 1) := by decide +kernel
theorem dX13_loads_104 : decode cX13_loads 104 = .ok (.iconst 1, 1) := by decide +kernel
theorem dX13_loads_105 : decode cX13_loads 105 = .ok (.if_icmp .ne 9, 3) := by decide +kernel
theorem dX13_loads_108 : decode cX13_loads 108 = .ok (.iload 6, 2) := by decide +kernel
theorem dX13_loads_110 : decode cX13_loads 110 = .ok (.i2s, 1) := by decide +kernel
theorem dX13_loads_111 : decode cX13_loads 111 = .ok (.goto 5, 3) := by decide +kernel
theorem dX13_loads_114 : decode cX13_loads 114 = .ok (.iload 6, 2) := by decide +kernel
theorem dX13_loads_116 : decode cX13_loads 116 = .ok (.invokevirtual 582, 3) := by decide +kernel
theorem dX13_loads_119 : decode cX13_loads 119 = .ok (.aload_n 0, 1) := by decide +kernel
theorem dX13_loads_120 : decode cX13_loads 120 = .ok (.iload 4, 2) := by decide +kernel
theorem dX13_loads_122 : decode cX13_loads 122 = .ok (.iconst 4, 1) := by decide +kernel
theorem dX13_loads_123 : decode cX13_loads 123 = .ok (.iadd, 1) := by decide +kernel
theorem dX13_loads_124 : decode cX13_loads 124 = .ok (.invokevirtual 585, 3) := by decide +kernel
theorem dX13_loads_127 : decode cX13_loads 127 = .ok (.ireturn, 1) := by decide +kernel
theorem dX13_byteAt_0 : decode cX13_byteAt 0 = .ok (.aload_n 0, 1) := by decide +kernel
theorem dX13_byteAt_1 : decode cX13_byteAt 1 = .ok (.getfield 147, 3) := by decide +kernel
theorem dX13_byteAt_4 : decode cX13_byteAt 4 = .ok (.iload_n 1, 1) := by decide +kernel
theorem dX13_byteAt_5 : decode cX13_byteAt 5 = .ok (.iconst 2, 1) := by decide +kernel
theorem dX13_byteAt_6 : decode cX13_byteAt 6 = .ok (.ishr, 1) := by decide +kernel
theorem dX13_byteAt_7 : decode cX13_byteAt 7 = .ok (.iaload, 1) := by decide +kernel
theorem dX13_byteAt_8 : decode cX13_byteAt 8 = .ok (.bipush 8, 2) := by decide +kernel
theorem dX13_byteAt_10 : decode cX13_byteAt 10 = .ok (.iload_n 1, 1) := by decide +kernel
theorem dX13_byteAt_11 : decode cX13_byteAt 11 = .ok (.iconst 3, 1) := by decide +kernel
theorem dX13_byteAt_12 : decode cX13_byteAt 12 = .ok (.iand, 1) := by decide +kernel
theorem dX13_byteAt_13 : decode cX13_byteAt 13 = .ok (.imul, 1) := by decide +kernel
theorem dX13_byteAt_14 : decode cX13_byteAt 14 = .ok (.iushr, 1) := by decide +kernel
theorem dX13_byteAt_15 : decode cX13_byteAt 15 = .ok (.sipush 255, 3) := by decide +kernel
theorem dX13_byteAt_18 : decode cX13_byteAt 18 = .ok (.iand, 1) := by decide +kernel
theorem dX13_byteAt_19 : decode cX13_byteAt 19 = .ok (.ireturn, 1) := by decide +kernel
theorem dX13_stores_0 : decode cX13_stores 0 = .ok (.iload_n 1, 1) := by decide +kernel
theorem dX13_stores_1 : decode cX13_stores 1 = .ok (.iconst 2, 1) := by decide +kernel
theorem dX13_stores_2 : decode cX13_stores 2 = .ok (.if_icmp .le 5, 3) := by decide +kernel
theorem dX13_stores_5 : decode cX13_stores 5 = .ok (.iconst 2, 1) := by decide +kernel
theorem dX13_stores_6 : decode cX13_stores 6 = .ok (.ireturn, 1) := by decide +kernel
theorem dX13_stores_7 : decode cX13_stores 7 = .ok (.iconst 1, 1) := by decide +kernel
theorem dX13_stores_8 : decode cX13_stores 8 = .ok (.iload_n 1, 1) := by decide +kernel
theorem dX13_stores_9 : decode cX13_stores 9 = .ok (.ishl, 1) := by decide +kernel
theorem dX13_stores_10 : decode cX13_stores 10 = .ok (.istore 5, 2) := by decide +kernel
theorem dX13_stores_12 : decode cX13_stores 12 = .ok (.iload_n 2, 1) := by decide +kernel
theorem dX13_stores_13 : decode cX13_stores 13 = .ok (.iload 5, 2) := by decide +kernel
theorem dX13_stores_15 : decode cX13_stores 15 = .ok (.iconst 1, 1) := by decide +kernel
theorem dX13_stores_16 : decode cX13_stores 16 = .ok (.isub, 1) := by decide +kernel
theorem dX13_stores_17 : decode cX13_stores 17 = .ok (.iand, 1) := by decide +kernel
theorem dX13_stores_18 : decode cX13_stores 18 = .ok (.ifCond .eq 5, 3) := by decide +kernel
theorem dX13_stores_21 : decode cX13_stores 21 = .ok (.iconst 4, 1) := by decide +kernel
theorem dX13_stores_22 : decode cX13_stores 22 = .ok (.ireturn, 1) := by decide +kernel
theorem dX13_stores_23 : decode cX13_stores 23 = .ok (.iload_n 2, 1) := by decide +kernel
theorem dX13_stores_24 : decode cX13_stores 24 = .ok (.invokestatic 576, 3) := by decide +kernel
theorem dX13_stores_27 : decode cX13_stores 27 = .ok (.ifCond .eq 5, 3) := by decide +kernel
theorem dX13_stores_30 : decode cX13_stores 30 = .ok (.iconst 5, 1) := by decide +kernel
theorem dX13_stores_31 : decode cX13_stores 31 = .ok (.ireturn, 1) := by decide +kernel
theorem dX13_stores_32 : decode cX13_stores 32 = .ok (.iconst 0, 1) := by decide +kernel
theorem dX13_stores_33 : decode cX13_stores 33 = .ok (.istore 6, 2) := by decide +kernel
theorem dX13_stores_35 : decode cX13_stores 35 = .ok (.iload 6, 2) := by decide +kernel
theorem dX13_stores_37 : decode cX13_stores 37 = .ok (.iload 5, 2) := by decide +kernel
theorem dX13_stores_39 : decode cX13_stores 39 = .ok (.if_icmp .ge 24, 3) := by decide +kernel
theorem dX13_stores_42 : decode cX13_stores 42 = .ok (.aload_n 0, 1) := by decide +kernel
theorem dX13_stores_43 : decode cX13_stores 43 = .ok (.iload_n 2, 1) := by decide +kernel
theorem dX13_stores_44 : decode cX13_stores 44 = .ok (.iload 6, 2) := by decide +kernel
theorem dX13_stores_46 : decode cX13_stores 46 = .ok (.iadd, 1) := by decide +kernel
theorem dX13_stores_47 : decode cX13_stores 47 = .ok (.iload_n 3, 1) := by decide +kernel
theorem dX13_stores_48 : decode cX13_stores 48 = .ok (.bipush 8, 2) := by decide +kernel
theorem dX13_stores_50 : decode cX13_stores 50 = .ok (.iload 6, 2) := by decide +kernel
theorem dX13_stores_52 : decode cX13_stores 52 = .ok (.imul, 1) := by decide +kernel
theorem dX13_stores_53 : decode cX13_stores 53 = .ok (.ishr, 1) := by decide +kernel
theorem dX13_stores_54 : decode cX13_stores 54 = .ok (.invokevirtual 614, 3) := by decide +kernel
theorem dX13_stores_57 : decode cX13_stores 57 = .ok (.iinc 6 1, 3) := by decide +kernel
theorem dX13_stores_60 : decode cX13_stores 60 = .ok (.goto (-25), 3) := by decide +kernel
theorem dX13_stores_63 : decode cX13_stores 63 = .ok (.aload_n 0, 1) := by decide +kernel
theorem dX13_stores_64 : decode cX13_stores 64 = .ok (.iload 4, 2) := by decide +kernel
theorem dX13_stores_66 : decode cX13_stores 66 = .ok (.iconst 4, 1) := by decide +kernel
theorem dX13_stores_67 : decode cX13_stores 67 = .ok (.iadd, 1) := by decide +kernel
theorem dX13_stores_68 : decode cX13_stores 68 = .ok (.invokevirtual 585, 3) := by decide +kernel
theorem dX13_stores_71 : decode cX13_stores 71 = .ok (.ireturn, 1) := by decide +kernel
theorem dX13_putByte_0 : decode cX13_putByte 0 = .ok (.bipush 8, 2) := by decide +kernel
theorem dX13_putByte_2 : decode cX13_putByte 2 = .ok (.iload_n 1, 1) := by decide +kernel
theorem dX13_putByte_3 : decode cX13_putByte 3 = .ok (.iconst 3, 1) := by decide +kernel
theorem dX13_putByte_4 : decode cX13_putByte 4 = .ok (.iand, 1) := by decide +kernel
theorem dX13_putByte_5 : decode cX13_putByte 5 = .ok (.imul, 1) := by decide +kernel
theorem dX13_putByte_6 : decode cX13_putByte 6 = .ok (.istore_n 3, 1) := by decide +kernel
theorem dX13_putByte_7 : decode cX13_putByte 7 = .ok (.aload_n 0, 1) := by decide +kernel
theorem dX13_putByte_8 : decode cX13_putByte 8 = .ok (.getfield 147, 3) := by decide +kernel
theorem dX13_putByte_11 : decode cX13_putByte 11 = .ok (.iload_n 1, 1) := by decide +kernel
theorem dX13_putByte_12 : decode cX13_putByte 12 = .ok (.iconst 2, 1) := by decide +kernel
theorem dX13_putByte_13 : decode cX13_putByte 13 = .ok (.ishr, 1) := by decide +kernel
theorem dX13_putByte_14 : decode cX13_putByte 14 = .ok (.aload_n 0, 1) := by decide +kernel
theorem dX13_putByte_15 : decode cX13_putByte 15 = .ok (.getfield 147, 3) := by decide +kernel
theorem dX13_putByte_18 : decode cX13_putByte 18 = .ok (.iload_n 1, 1) := by decide +kernel
theorem dX13_putByte_19 : decode cX13_putByte 19 = .ok (.iconst 2, 1) := by decide +kernel
theorem dX13_putByte_20 : decode cX13_putByte 20 = .ok (.ishr, 1) := by decide +kernel
theorem dX13_putByte_21 : decode cX13_putByte 21 = .ok (.iaload, 1) := by decide +kernel
theorem dX13_putByte_22 : decode cX13_putByte 22 = .ok (.sipush 255, 3) := by decide +kernel
theorem dX13_putByte_25 : decode cX13_putByte 25 = .ok (.iload_n 3, 1) := by decide +kernel
theorem dX13_putByte_26 : decode cX13_putByte 26 = .ok (.ishl, 1) := by decide +kernel
theorem dX13_putByte_27 : decode cX13_putByte 27 = .ok (.iconst (-1), 1) := by decide +kernel
theorem dX13_putByte_28 : decode cX13_putByte 28 = .ok (.ixor, 1) := by decide +kernel
theorem dX13_putByte_29 : decode cX13_putByte 29 = .ok (.iand, 1) := by decide +kernel
theorem dX13_putByte_30 : decode cX13_putByte 30 = .ok (.iload_n 2, 1) := by decide +kernel
theorem dX13_putByte_31 : decode cX13_putByte 31 = .ok (.sipush 255, 3) := by decide +kernel
theorem dX13_putByte_34 : decode cX13_putByte 34 = .ok (.iand, 1) := by decide +kernel
theorem dX13_putByte_35 : decode cX13_putByte 35 = .ok (.iload_n 3, 1) := by decide +kernel
theorem dX13_putByte_36 : decode cX13_putByte 36 = .ok (.ishl, 1) := by decide +kernel
theorem dX13_putByte_37 : decode cX13_putByte 37 = .ok (.ior, 1) := by decide +kernel
theorem dX13_putByte_38 : decode cX13_putByte 38 = .ok (.iastore, 1) := by decide +kernel
theorem dX13_putByte_39 : decode cX13_putByte 39 = .ok (.return_, 1) := by decide +kernel
theorem dX13_immediate_0 : decode cX13_immediate 0 = .ok (.iload_n 1, 1) := by decide +kernel
theorem dX13_immediate_1 : decode cX13_immediate 1 = .ok (.iconst 1, 1) := by decide +kernel
theorem dX13_immediate_2 : decode cX13_immediate 2 = .ok (.if_icmp .ne 7, 3) := by decide +kernel
theorem dX13_immediate_5 : decode cX13_immediate 5 = .ok (.iload_n 2, 1) := by decide +kernel
theorem dX13_immediate_6 : decode cX13_immediate 6 = .ok (.ifCond .ne 18, 3) := by decide +kernel
theorem dX13_immediate_9 : decode cX13_immediate 9 = .ok (.iload_n 1, 1) := by decide +kernel
theorem dX13_immediate_10 : decode cX13_immediate 10 = .ok (.iconst 5, 1) := by decide +kernel
theorem dX13_immediate_11 : decode cX13_immediate 11 = .ok (.if_icmp .ne 15, 3) := by decide +kernel
theorem dX13_immediate_14 : decode cX13_immediate 14 = .ok (.iload_n 2, 1) := by decide +kernel
theorem dX13_immediate_15 : decode cX13_immediate 15 = .ok (.ifCond .eq 11, 3) := by decide +kernel
theorem dX13_immediate_18 : decode cX13_immediate 18 = .ok (.iload_n 2, 1) := by decide +kernel
theorem dX13_immediate_19 : decode cX13_immediate 19 = .ok (.bipush 32, 2) := by decide +kernel
theorem dX13_immediate_21 : decode cX13_immediate 21 = .ok (.if_icmp .eq 5, 3) := by decide +kernel
theorem dX13_immediate_24 : decode cX13_immediate 24 = .ok (.iconst 2, 1) := by decide +kernel
theorem dX13_immediate_25 : decode cX13_immediate 25 = .ok (.ireturn, 1) := by decide +kernel
theorem dX13_immediate_26 : decode cX13_immediate 26 = .ok (.iload_n 1, 1) := by decide +kernel
theorem dX13_immediate_27 : decode cX13_immediate 27 = .ok (.tableswitch 145 0 6 #[41, 51, 61, 78, 103, 113, 135], 41) := by decide +kernel
theorem dX13_immediate_68 : decode cX13_immediate 68 = .ok (.iload 4, 2) := by decide +kernel
theorem dX13_immediate_70 : decode cX13_immediate 70 = .ok (.iload 5, 2) := by decide +kernel
theorem dX13_immediate_72 : decode cX13_immediate 72 = .ok (.iadd, 1) := by decide +kernel
theorem dX13_immediate_73 : decode cX13_immediate 73 = .ok (.istore 8, 2) := by decide +kernel
theorem dX13_immediate_75 : decode cX13_immediate 75 = .ok (.goto 104, 3) := by decide +kernel
theorem dX13_immediate_78 : decode cX13_immediate 78 = .ok (.iload 4, 2) := by decide +kernel
theorem dX13_immediate_80 : decode cX13_immediate 80 = .ok (.iload 6, 2) := by decide +kernel
theorem dX13_immediate_82 : decode cX13_immediate 82 = .ok (.ishl, 1) := by decide +kernel
theorem dX13_immediate_83 : decode cX13_immediate 83 = .ok (.istore 8, 2) := by decide +kernel
theorem dX13_immediate_85 : decode cX13_immediate 85 = .ok (.goto 94, 3) := by decide +kernel
theorem dX13_immediate_88 : decode cX13_immediate 88 = .ok (.iload 4, 2) := by decide +kernel
theorem dX13_immediate_90 : decode cX13_immediate 90 = .ok (.iload 5, 2) := by decide +kernel
theorem dX13_immediate_92 : decode cX13_immediate 92 = .ok (.if_icmp .ge 7, 3) := by decide +kernel
theorem dX13_immediate_95 : decode cX13_immediate 95 = .ok (.iconst 1, 1) := by decide +kernel
theorem dX13_immediate_96 : decode cX13_immediate 96 = .ok (.goto 4, 3) := by decide +kernel
theorem dX13_immediate_99 : decode cX13_immediate 99 = .ok (.iconst 0, 1) := by decide +kernel
theorem dX13_immediate_100 : decode cX13_immediate 100 = .ok (.istore 8, 2) := by decide +kernel
theorem dX13_immediate_102 : decode cX13_immediate 102 = .ok (.goto 77, 3) := by decide +kernel
theorem dX13_immediate_105 : decode cX13_immediate 105 = .ok (.iload 4, 2) := by decide +kernel
theorem dX13_immediate_107 : decode cX13_immediate 107 = .ok (.ldc_w 490, 3) := by decide +kernel
theorem dX13_immediate_110 : decode cX13_immediate 110 = .ok (.iadd, 1) := by decide +kernel
theorem dX13_immediate_111 : decode cX13_immediate 111 = .ok (.iload 5, 2) := by decide +kernel
theorem dX13_immediate_113 : decode cX13_immediate 113 = .ok (.ldc_w 490, 3) := by decide +kernel
theorem dX13_immediate_116 : decode cX13_immediate 116 = .ok (.iadd, 1) := by decide +kernel
theorem dX13_immediate_117 : decode cX13_immediate 117 = .ok (.if_icmp .ge 7, 3) := by decide +kernel
theorem dX13_immediate_120 : decode cX13_immediate 120 = .ok (.iconst 1, 1) := by decide +kernel
theorem dX13_immediate_121 : decode cX13_immediate 121 = .ok (.goto 4, 3) := by decide +kernel
theorem dX13_immediate_124 : decode cX13_immediate 124 = .ok (.iconst 0, 1) := by decide +kernel
theorem dX13_immediate_125 : decode cX13_immediate 125 = .ok (.istore 8, 2) := by decide +kernel
theorem dX13_immediate_127 : decode cX13_immediate 127 = .ok (.goto 52, 3) := by decide +kernel
theorem dX13_immediate_130 : decode cX13_immediate 130 = .ok (.iload 4, 2) := by decide +kernel
theorem dX13_immediate_132 : decode cX13_immediate 132 = .ok (.iload 5, 2) := by decide +kernel
theorem dX13_immediate_134 : decode cX13_immediate 134 = .ok (.ixor, 1) := by decide +kernel
theorem dX13_immediate_135 : decode cX13_immediate 135 = .ok (.istore 8, 2) := by decide +kernel
theorem dX13_immediate_137 : decode cX13_immediate 137 = .ok (.goto 42, 3) := by decide +kernel
theorem dX13_immediate_140 : decode cX13_immediate 140 = .ok (.iload_n 2, 1) := by decide +kernel
theorem dX13_immediate_141 : decode cX13_immediate 141 = .ok (.ifCond .ne 11, 3) := by decide +kernel
theorem dX13_immediate_144 : decode cX13_immediate 144 = .ok (.iload 4, 2) := by decide +kernel
theorem dX13_immediate_146 : decode cX13_immediate 146 = .ok (.iload 6, 2) := by decide +kernel
theorem dX13_immediate_148 : decode cX13_immediate 148 = .ok (.iushr, 1) := by decide +kernel
theorem dX13_immediate_149 : decode cX13_immediate 149 = .ok (.goto 8, 3) := by decide +kernel
theorem dX13_immediate_152 : decode cX13_immediate 152 = .ok (.iload 4, 2) := by decide +kernel
theorem dX13_immediate_154 : decode cX13_immediate 154 = .ok (.iload 6, 2) := by decide +kernel
theorem dX13_immediate_156 : decode cX13_immediate 156 = .ok (.ishr, 1) := by decide +kernel
theorem dX13_immediate_157 : decode cX13_immediate 157 = .ok (.istore 8, 2) := by decide +kernel
theorem dX13_immediate_159 : decode cX13_immediate 159 = .ok (.goto 20, 3) := by decide +kernel
theorem dX13_immediate_162 : decode cX13_immediate 162 = .ok (.iload 4, 2) := by decide +kernel
theorem dX13_immediate_164 : decode cX13_immediate 164 = .ok (.iload 5, 2) := by decide +kernel
theorem dX13_immediate_166 : decode cX13_immediate 166 = .ok (.ior, 1) := by decide +kernel
theorem dX13_immediate_167 : decode cX13_immediate 167 = .ok (.istore 8, 2) := by decide +kernel
theorem dX13_immediate_169 : decode cX13_immediate 169 = .ok (.goto 10, 3) := by decide +kernel
theorem dX13_immediate_172 : decode cX13_immediate 172 = .ok (.iload 4, 2) := by decide +kernel
theorem dX13_immediate_174 : decode cX13_immediate 174 = .ok (.iload 5, 2) := by decide +kernel
theorem dX13_immediate_176 : decode cX13_immediate 176 = .ok (.iand, 1) := by decide +kernel
theorem dX13_immediate_177 : decode cX13_immediate 177 = .ok (.istore 8, 2) := by decide +kernel
theorem dX13_immediate_179 : decode cX13_immediate 179 = .ok (.aload_n 0, 1) := by decide +kernel
theorem dX13_immediate_180 : decode cX13_immediate 180 = .ok (.iload_n 3, 1) := by decide +kernel
theorem dX13_immediate_181 : decode cX13_immediate 181 = .ok (.iload 8, 2) := by decide +kernel
theorem dX13_immediate_183 : decode cX13_immediate 183 = .ok (.invokevirtual 582, 3) := by decide +kernel
theorem dX13_immediate_186 : decode cX13_immediate 186 = .ok (.aload_n 0, 1) := by decide +kernel
theorem dX13_immediate_187 : decode cX13_immediate 187 = .ok (.iload 7, 2) := by decide +kernel
theorem dX13_immediate_189 : decode cX13_immediate 189 = .ok (.iconst 4, 1) := by decide +kernel
theorem dX13_immediate_190 : decode cX13_immediate 190 = .ok (.iadd, 1) := by decide +kernel
theorem dX13_immediate_191 : decode cX13_immediate 191 = .ok (.invokevirtual 585, 3) := by decide +kernel
theorem dX13_immediate_194 : decode cX13_immediate 194 = .ok (.ireturn, 1) := by decide +kernel
theorem dX13_both_0 : decode cX13_both 0 = .ok (.iload_n 2, 1) := by decide +kernel
theorem dX13_both_1 : decode cX13_both 1 = .ok (.ifCond .eq 25, 3) := by decide +kernel
theorem dX13_both_4 : decode cX13_both 4 = .ok (.iload_n 2, 1) := by decide +kernel
theorem dX13_both_5 : decode cX13_both 5 = .ok (.iconst 1, 1) := by decide +kernel
theorem dX13_both_6 : decode cX13_both 6 = .ok (.if_icmp .eq 20, 3) := by decide +kernel
theorem dX13_both_9 : decode cX13_both 9 = .ok (.iload_n 2, 1) := by decide +kernel
theorem dX13_both_10 : decode cX13_both 10 = .ok (.bipush 32, 2) := by decide +kernel
theorem dX13_both_12 : decode cX13_both 12 = .ok (.if_icmp .ne 12, 3) := by decide +kernel
theorem dX13_both_15 : decode cX13_both 15 = .ok (.iload_n 1, 1) := by decide +kernel
theorem dX13_both_16 : decode cX13_both 16 = .ok (.ifCond .eq 10, 3) := by decide +kernel
theorem dX13_both_19 : decode cX13_both 19 = .ok (.iload_n 1, 1) := by decide +kernel
theorem dX13_both_20 : decode cX13_both 20 = .ok (.iconst 5, 1) := by decide +kernel
theorem dX13_both_21 : decode cX13_both 21 = .ok (.if_icmp .eq 5, 3) := by decide +kernel
theorem dX13_both_24 : decode cX13_both 24 = .ok (.iconst 2, 1) := by decide +kernel
theorem dX13_both_25 : decode cX13_both 25 = .ok (.ireturn, 1) := by decide +kernel
theorem dX13_both_26 : decode cX13_both 26 = .ok (.aload_n 0, 1) := by decide +kernel
theorem dX13_both_27 : decode cX13_both 27 = .ok (.iload_n 3, 1) := by decide +kernel
theorem dX13_both_28 : decode cX13_both 28 = .ok (.iload_n 2, 1) := by decide +kernel
theorem dX13_both_29 : decode cX13_both 29 = .ok (.iconst 1, 1) := by decide +kernel
theorem dX13_both_30 : decode cX13_both 30 = .ok (.if_icmp .ne 14, 3) := by decide +kernel
theorem dX13_both_33 : decode cX13_both 33 = .ok (.iload_n 1, 1) := by decide +kernel
theorem dX13_both_34 : decode cX13_both 34 = .ok (.iload 4, 2) := by decide +kernel
theorem dX13_both_36 : decode cX13_both 36 = .ok (.iload 5, 2) := by decide +kernel
theorem dX13_both_38 : decode cX13_both 38 = .ok (.invokestatic 617, 3) := by decide +kernel
theorem dX13_both_41 : decode cX13_both 41 = .ok (.goto 150, 3) := by decide +kernel
theorem dX13_both_44 : decode cX13_both 44 = .ok (.iload_n 2, 1) := by decide +kernel
theorem dX13_both_45 : decode cX13_both 45 = .ok (.bipush 32, 2) := by decide +kernel
theorem dX13_both_47 : decode cX13_both 47 = .ok (.if_icmp .ne 26, 3) := by decide +kernel
theorem dX13_both_50 : decode cX13_both 50 = .ok (.iload_n 1, 1) := by decide +kernel
theorem dX13_both_51 : decode cX13_both 51 = .ok (.ifCond .ne 11, 3) := by decide +kernel
theorem dX13_both_54 : decode cX13_both 54 = .ok (.iload 4, 2) := by decide +kernel
theorem dX13_both_56 : decode cX13_both 56 = .ok (.iload 5, 2) := by decide +kernel
theorem dX13_both_58 : decode cX13_both 58 = .ok (.isub, 1) := by decide +kernel
theorem dX13_both_59 : decode cX13_both 59 = .ok (.goto 132, 3) := by decide +kernel
theorem dX13_both_62 : decode cX13_both 62 = .ok (.iload 4, 2) := by decide +kernel
theorem dX13_both_64 : decode cX13_both 64 = .ok (.iload 5, 2) := by decide +kernel
theorem dX13_both_66 : decode cX13_both 66 = .ok (.bipush 31, 2) := by decide +kernel
theorem dX13_both_68 : decode cX13_both 68 = .ok (.iand, 1) := by decide +kernel
theorem dX13_both_69 : decode cX13_both 69 = .ok (.ishr, 1) := by decide +kernel
theorem dX13_both_70 : decode cX13_both 70 = .ok (.goto 121, 3) := by decide +kernel
theorem dX13_both_73 : decode cX13_both 73 = .ok (.iload_n 1, 1) := by decide +kernel
theorem dX13_both_74 : decode cX13_both 74 = .ok (.ifCond .ne 11, 3) := by decide +kernel
theorem dX13_both_77 : decode cX13_both 77 = .ok (.iload 4, 2) := by decide +kernel
theorem dX13_both_79 : decode cX13_both 79 = .ok (.iload 5, 2) := by decide +kernel
theorem dX13_both_81 : decode cX13_both 81 = .ok (.iadd, 1) := by decide +kernel
theorem dX13_both_82 : decode cX13_both 82 = .ok (.goto 109, 3) := by decide +kernel
theorem dX13_both_85 : decode cX13_both 85 = .ok (.iload_n 1, 1) := by decide +kernel
theorem dX13_both_86 : decode cX13_both 86 = .ok (.iconst 1, 1) := by decide +kernel
theorem dX13_both_87 : decode cX13_both 87 = .ok (.if_icmp .ne 14, 3) := by decide +kernel
theorem dX13_both_90 : decode cX13_both 90 = .ok (.iload 4, 2) := by decide +kernel
theorem dX13_both_92 : decode cX13_both 92 = .ok (.iload 5, 2) := by decide +kernel
theorem dX13_both_94 : decode cX13_both 94 = .ok (.bipush 31, 2) := by decide +kernel
theorem dX13_both_96 : decode cX13_both 96 = .ok (.iand, 1) := by decide +kernel
theorem dX13_both_97 : decode cX13_both 97 = .ok (.ishl, 1) := by decide +kernel
theorem dX13_both_98 : decode cX13_both 98 = .ok (.goto 93, 3) := by decide +kernel
theorem dX13_both_101 : decode cX13_both 101 = .ok (.iload_n 1, 1) := by decide +kernel
theorem dX13_both_102 : decode cX13_both 102 = .ok (.iconst 2, 1) := by decide +kernel
theorem dX13_both_103 : decode cX13_both 103 = .ok (.if_icmp .ne 15, 3) := by decide +kernel
theorem dX13_both_106 : decode cX13_both 106 = .ok (.bipush 36, 2) := by decide +kernel
theorem dX13_both_108 : decode cX13_both 108 = .ok (.iload 4, 2) := by decide +kernel
theorem dX13_both_110 : decode cX13_both 110 = .ok (.iload 5, 2) := by decide +kernel
theorem dX13_both_112 : decode cX13_both 112 = .ok (.invokestatic 500, 3) := by decide +kernel
theorem dX13_both_115 : decode cX13_both 115 = .ok (.goto 76, 3) := by decide +kernel
theorem dX13_both_118 : decode cX13_both 118 = .ok (.iload_n 1, 1) := by decide +kernel
theorem dX13_both_119 : decode cX13_both 119 = .ok (.iconst 3, 1) := by decide +kernel
theorem dX13_both_120 : decode cX13_both 120 = .ok (.if_icmp .ne 23, 3) := by decide +kernel
theorem dX13_both_123 : decode cX13_both 123 = .ok (.bipush 36, 2) := by decide +kernel
theorem dX13_both_125 : decode cX13_both 125 = .ok (.iload 4, 2) := by decide +kernel
theorem dX13_both_127 : decode cX13_both 127 = .ok (.ldc_w 490, 3) := by decide +kernel
theorem dX13_both_130 : decode cX13_both 130 = .ok (.iadd, 1) := by decide +kernel
theorem dX13_both_131 : decode cX13_both 131 = .ok (.iload 5, 2) := by decide +kernel
theorem dX13_both_133 : decode cX13_both 133 = .ok (.ldc_w 490, 3) := by decide +kernel
theorem dX13_both_136 : decode cX13_both 136 = .ok (.iadd, 1) := by decide +kernel
theorem dX13_both_137 : decode cX13_both 137 = .ok (.invokestatic 500, 3) := by decide +kernel
theorem dX13_both_140 : decode cX13_both 140 = .ok (.goto 51, 3) := by decide +kernel
theorem dX13_both_143 : decode cX13_both 143 = .ok (.iload_n 1, 1) := by decide +kernel
theorem dX13_both_144 : decode cX13_both 144 = .ok (.iconst 4, 1) := by decide +kernel
theorem dX13_both_145 : decode cX13_both 145 = .ok (.if_icmp .ne 11, 3) := by decide +kernel
theorem dX13_both_148 : decode cX13_both 148 = .ok (.iload 4, 2) := by decide +kernel
theorem dX13_both_150 : decode cX13_both 150 = .ok (.iload 5, 2) := by decide +kernel
theorem dX13_both_152 : decode cX13_both 152 = .ok (.ixor, 1) := by decide +kernel
theorem dX13_both_153 : decode cX13_both 153 = .ok (.goto 38, 3) := by decide +kernel
theorem dX13_both_156 : decode cX13_both 156 = .ok (.iload_n 1, 1) := by decide +kernel
theorem dX13_both_157 : decode cX13_both 157 = .ok (.iconst 5, 1) := by decide +kernel
theorem dX13_both_158 : decode cX13_both 158 = .ok (.if_icmp .ne 14, 3) := by decide +kernel
theorem dX13_both_161 : decode cX13_both 161 = .ok (.iload 4, 2) := by decide +kernel
theorem dX13_both_163 : decode cX13_both 163 = .ok (.iload 5, 2) := by decide +kernel
theorem dX13_both_165 : decode cX13_both 165 = .ok (.bipush 31, 2) := by decide +kernel
theorem dX13_both_167 : decode cX13_both 167 = .ok (.iand, 1) := by decide +kernel
theorem dX13_both_168 : decode cX13_both 168 = .ok (.iushr, 1) := by decide +kernel
theorem dX13_both_169 : decode cX13_both 169 = .ok (.goto 22, 3) := by decide +kernel
theorem dX13_both_172 : decode cX13_both 172 = .ok (.iload_n 1, 1) := by decide +kernel
theorem dX13_both_173 : decode cX13_both 173 = .ok (.bipush 6, 2) := by decide +kernel
theorem dX13_both_175 : decode cX13_both 175 = .ok (.if_icmp .ne 11, 3) := by decide +kernel
theorem dX13_both_178 : decode cX13_both 178 = .ok (.iload 4, 2) := by decide +kernel
theorem dX13_both_180 : decode cX13_both 180 = .ok (.iload 5, 2) := by decide +kernel
theorem dX13_both_182 : decode cX13_both 182 = .ok (.ior, 1) := by decide +kernel
theorem dX13_both_183 : decode cX13_both 183 = .ok (.goto 8, 3) := by decide +kernel
theorem dX13_both_186 : decode cX13_both 186 = .ok (.iload 4, 2) := by decide +kernel
theorem dX13_both_188 : decode cX13_both 188 = .ok (.iload 5, 2) := by decide +kernel
theorem dX13_both_190 : decode cX13_both 190 = .ok (.iand, 1) := by decide +kernel
theorem dX13_both_191 : decode cX13_both 191 = .ok (.invokevirtual 582, 3) := by decide +kernel
theorem dX13_both_194 : decode cX13_both 194 = .ok (.aload_n 0, 1) := by decide +kernel
theorem dX13_both_195 : decode cX13_both 195 = .ok (.iload 6, 2) := by decide +kernel
theorem dX13_both_197 : decode cX13_both 197 = .ok (.iconst 4, 1) := by decide +kernel
theorem dX13_both_198 : decode cX13_both 198 = .ok (.iadd, 1) := by decide +kernel
theorem dX13_both_199 : decode cX13_both 199 = .ok (.invokevirtual 585, 3) := by decide +kernel
theorem dX13_both_202 : decode cX13_both 202 = .ok (.ireturn, 1) := by decide +kernel
theorem dX13_product_0 : decode cX13_product 0 = .ok (.iload_n 1, 1) := by decide +kernel
theorem dX13_product_1 : decode cX13_product 1 = .ok (.i2l, 1) := by decide +kernel
theorem dX13_product_2 : decode cX13_product 2 = .ok (.lstore_n 3, 1) := by decide +kernel
theorem dX13_product_3 : decode cX13_product 3 = .ok (.iload_n 2, 1) := by decide +kernel
theorem dX13_product_4 : decode cX13_product 4 = .ok (.i2l, 1) := by decide +kernel
theorem dX13_product_5 : decode cX13_product 5 = .ok (.lstore 5, 2) := by decide +kernel
theorem dX13_product_7 : decode cX13_product 7 = .ok (.lload_n 3, 1) := by decide +kernel
theorem dX13_product_8 : decode cX13_product 8 = .ok (.ldc2_w 228, 3) := by decide +kernel
theorem dX13_product_11 : decode cX13_product 11 = .ok (.land, 1) := by decide +kernel
theorem dX13_product_12 : decode cX13_product 12 = .ok (.lstore 7, 2) := by decide +kernel
theorem dX13_product_14 : decode cX13_product 14 = .ok (.lload 5, 2) := by decide +kernel
theorem dX13_product_16 : decode cX13_product 16 = .ok (.ldc2_w 228, 3) := by decide +kernel
theorem dX13_product_19 : decode cX13_product 19 = .ok (.land, 1) := by decide +kernel
theorem dX13_product_20 : decode cX13_product 20 = .ok (.lstore 9, 2) := by decide +kernel
theorem dX13_product_22 : decode cX13_product 22 = .ok (.iload_n 0, 1) := by decide +kernel
theorem dX13_product_23 : decode cX13_product 23 = .ok (.tableswitch 100 0 6 #[41, 45, 54, 63, 73, 79, 94], 41) := by decide +kernel
theorem dX13_product_64 : decode cX13_product 64 = .ok (.iload_n 1, 1) := by decide +kernel
theorem dX13_product_65 : decode cX13_product 65 = .ok (.iload_n 2, 1) := by decide +kernel
theorem dX13_product_66 : decode cX13_product 66 = .ok (.imul, 1) := by decide +kernel
theorem dX13_product_67 : decode cX13_product 67 = .ok (.ireturn, 1) := by decide +kernel
theorem dX13_product_68 : decode cX13_product 68 = .ok (.lload_n 3, 1) := by decide +kernel
theorem dX13_product_69 : decode cX13_product 69 = .ok (.lload 5, 2) := by decide +kernel
theorem dX13_product_71 : decode cX13_product 71 = .ok (.lmul, 1) := by decide +kernel
theorem dX13_product_72 : decode cX13_product 72 = .ok (.bipush 32, 2) := by decide +kernel
theorem dX13_product_74 : decode cX13_product 74 = .ok (.lshr, 1) := by decide +kernel
theorem dX13_product_75 : decode cX13_product 75 = .ok (.l2i, 1) := by decide +kernel
theorem dX13_product_76 : decode cX13_product 76 = .ok (.ireturn, 1) := by decide +kernel
theorem dX13_product_77 : decode cX13_product 77 = .ok (.lload_n 3, 1) := by decide +kernel
theorem dX13_product_78 : decode cX13_product 78 = .ok (.lload 9, 2) := by decide +kernel
theorem dX13_product_80 : decode cX13_product 80 = .ok (.lmul, 1) := by decide +kernel
theorem dX13_product_81 : decode cX13_product 81 = .ok (.bipush 32, 2) := by decide +kernel
theorem dX13_product_83 : decode cX13_product 83 = .ok (.lshr, 1) := by decide +kernel
theorem dX13_product_84 : decode cX13_product 84 = .ok (.l2i, 1) := by decide +kernel
theorem dX13_product_85 : decode cX13_product 85 = .ok (.ireturn, 1) := by decide +kernel
theorem dX13_product_86 : decode cX13_product 86 = .ok (.lload 7, 2) := by decide +kernel
theorem dX13_product_88 : decode cX13_product 88 = .ok (.lload 9, 2) := by decide +kernel
theorem dX13_product_90 : decode cX13_product 90 = .ok (.lmul, 1) := by decide +kernel
theorem dX13_product_91 : decode cX13_product 91 = .ok (.bipush 32, 2) := by decide +kernel
theorem dX13_product_93 : decode cX13_product 93 = .ok (.lushr, 1) := by decide +kernel
theorem dX13_product_94 : decode cX13_product 94 = .ok (.l2i, 1) := by decide +kernel
theorem dX13_product_95 : decode cX13_product 95 = .ok (.ireturn, 1) := by decide +kernel
theorem dX13_product_96 : decode cX13_product 96 = .ok (.iload_n 1, 1) := by decide +kernel
theorem dX13_product_97 : decode cX13_product 97 = .ok (.iload_n 2, 1) := by decide +kernel
theorem dX13_product_98 : decode cX13_product 98 = .ok (.invokestatic 491, 3) := by decide +kernel
theorem dX13_product_101 : decode cX13_product 101 = .ok (.ireturn, 1) := by decide +kernel
theorem dX13_product_102 : decode cX13_product 102 = .ok (.iload_n 2, 1) := by decide +kernel
theorem dX13_product_103 : decode cX13_product 103 = .ok (.ifCond .ne 7, 3) := by decide +kernel
theorem dX13_product_106 : decode cX13_product 106 = .ok (.iconst (-1), 1) := by decide +kernel
theorem dX13_product_107 : decode cX13_product 107 = .ok (.goto 9, 3) := by decide +kernel
theorem dX13_product_110 : decode cX13_product 110 = .ok (.lload 7, 2) := by decide +kernel
theorem dX13_product_112 : decode cX13_product 112 = .ok (.lload 9, 2) := by decide +kernel
theorem dX13_product_114 : decode cX13_product 114 = .ok (.ldiv, 1) := by decide +kernel
theorem dX13_product_115 : decode cX13_product 115 = .ok (.l2i, 1) := by decide +kernel
theorem dX13_product_116 : decode cX13_product 116 = .ok (.ireturn, 1) := by decide +kernel
theorem dX13_product_117 : decode cX13_product 117 = .ok (.iload_n 1, 1) := by decide +kernel
theorem dX13_product_118 : decode cX13_product 118 = .ok (.iload_n 2, 1) := by decide +kernel
theorem dX13_product_119 : decode cX13_product 119 = .ok (.invokestatic 494, 3) := by decide +kernel
theorem dX13_product_122 : decode cX13_product 122 = .ok (.ireturn, 1) := by decide +kernel
theorem dX13_product_123 : decode cX13_product 123 = .ok (.iload_n 2, 1) := by decide +kernel
theorem dX13_product_124 : decode cX13_product 124 = .ok (.ifCond .ne 7, 3) := by decide +kernel
theorem dX13_product_127 : decode cX13_product 127 = .ok (.iload_n 1, 1) := by decide +kernel
theorem dX13_product_128 : decode cX13_product 128 = .ok (.goto 9, 3) := by decide +kernel
theorem dX13_product_131 : decode cX13_product 131 = .ok (.lload 7, 2) := by decide +kernel
theorem dX13_product_133 : decode cX13_product 133 = .ok (.lload 9, 2) := by decide +kernel
theorem dX13_product_135 : decode cX13_product 135 = .ok (.lrem, 1) := by decide +kernel
theorem dX13_product_136 : decode cX13_product 136 = .ok (.l2i, 1) := by decide +kernel
theorem dX13_product_137 : decode cX13_product 137 = .ok (.ireturn, 1) := by decide +kernel
