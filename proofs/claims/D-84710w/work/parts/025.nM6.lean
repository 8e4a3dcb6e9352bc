/-! names: X13_array X13_look X13_give X13_begin X13_run X13_calls (tools/names.py) -/
set_option maxRecDepth 100000
abbrev cX13_look : ByteArray := prog_39_method_77_code
def yX13_look : MethodName := ⟨RX13, "look", "(II)I"⟩
theorem q3594 : (Jvm.Cond.code ({ cls := "CompiledHouseModel", name := "look", desc := "(II)I" } : Jvm.MethodName) prog_39_method_77_code (3 : Nat) (Option.some Jvm.ClassFile.FieldType.int)) ∈ lw_all := lw_g (lw_at lw_m15 38 rfl) rfl
def kX13_look : xK := (yX13_look, cX13_look, 3, some .int, [])
theorem me_X13_look : xMe kX13_look 2 := ⟨q3594, q216, by decide, by decide, by decide +kernel⟩
theorem q3592 : (Jvm.Cond.instanceMethod ({ cls := "CompiledHouseModel", name := "look", desc := "(II)I" } : Jvm.MethodName)) ∈ lw_all := lw_g (lw_at lw_m15 36 rfl) rfl
theorem is_X13_look : Cond.instanceMethod kX13_look.y ∈ lw_all := q3592
theorem q3593 : (Jvm.Cond.selects "CompiledHouseModel" ({ cls := "CompiledHouseModel", name := "look", desc := "(II)I" } : Jvm.MethodName) ({ cls := "CompiledHouseModel", name := "look", desc := "(II)I" } : Jvm.MethodName)) ∈ lw_all := lw_g (lw_at lw_m15 37 rfl) rfl
theorem se_X13_look : Cond.selects RX13 kX13_look.y kX13_look.y ∈ lw_all := q3593
abbrev cX13_give : ByteArray := prog_39_method_78_code
def yX13_give : MethodName := ⟨RX13, "give", "(I)I"⟩
theorem q3598 : (Jvm.Cond.code ({ cls := "CompiledHouseModel", name := "give", desc := "(I)I" } : Jvm.MethodName) prog_39_method_78_code (2 : Nat) (Option.some Jvm.ClassFile.FieldType.int)) ∈ lw_all := lw_g (lw_at lw_m15 42 rfl) rfl
def kX13_give : xK := (yX13_give, cX13_give, 2, some .int, [])
theorem me_X13_give : xMe kX13_give 1 := ⟨q3598, q216, by decide, by decide, by decide +kernel⟩
theorem q3596 : (Jvm.Cond.instanceMethod ({ cls := "CompiledHouseModel", name := "give", desc := "(I)I" } : Jvm.MethodName)) ∈ lw_all := lw_g (lw_at lw_m15 40 rfl) rfl
theorem is_X13_give : Cond.instanceMethod kX13_give.y ∈ lw_all := q3596
theorem q3597 : (Jvm.Cond.selects "CompiledHouseModel" ({ cls := "CompiledHouseModel", name := "give", desc := "(I)I" } : Jvm.MethodName) ({ cls := "CompiledHouseModel", name := "give", desc := "(I)I" } : Jvm.MethodName)) ∈ lw_all := lw_g (lw_at lw_m15 41 rfl) rfl
theorem se_X13_give : Cond.selects RX13 kX13_give.y kX13_give.y ∈ lw_all := q3597
abbrev cX13_begin : ByteArray := prog_39_method_79_code
def yX13_begin : MethodName := ⟨RX13, "begin", "(I)Z"⟩
theorem q3602 : (Jvm.Cond.code ({ cls := "CompiledHouseModel", name := "begin", desc := "(I)Z" } : Jvm.MethodName) prog_39_method_79_code (3 : Nat) (Option.some Jvm.ClassFile.FieldType.boolean)) ∈ lw_all := lw_g (lw_at lw_m15 46 rfl) rfl
def kX13_begin : xK := (yX13_begin, cX13_begin, 3, some .boolean, [])
theorem me_X13_begin : xMe kX13_begin 1 := ⟨q3602, q216, by decide, by decide, by decide +kernel⟩
theorem q3600 : (Jvm.Cond.instanceMethod ({ cls := "CompiledHouseModel", name := "begin", desc := "(I)Z" } : Jvm.MethodName)) ∈ lw_all := lw_g (lw_at lw_m15 44 rfl) rfl
theorem is_X13_begin : Cond.instanceMethod kX13_begin.y ∈ lw_all := q3600
theorem q3601 : (Jvm.Cond.selects "CompiledHouseModel" ({ cls := "CompiledHouseModel", name := "begin", desc := "(I)Z" } : Jvm.MethodName) ({ cls := "CompiledHouseModel", name := "begin", desc := "(I)Z" } : Jvm.MethodName)) ∈ lw_all := lw_g (lw_at lw_m15 45 rfl) rfl
theorem se_X13_begin : Cond.selects RX13 kX13_begin.y kX13_begin.y ∈ lw_all := q3601
theorem q3083 : (Jvm.Cond.fieldLink "CompiledHouseModel" (530 : Nat) "CompiledHouseModel" "limit" "I") ∈ lw_all := lw_g (lw_at lw_m13 7 rfl) rfl
theorem f_X13_530_12 : xF RX13 530 12 84 := ⟨_, "CompiledHouseModel", rfl, by decide, Or.inl q3083, Or.inl rfl⟩
theorem q3084 : (Jvm.Cond.fieldLink "CompiledHouseModel" (533 : Nat) "CompiledHouseModel" "frames" "I") ∈ lw_all := lw_g (lw_at lw_m13 8 rfl) rfl
theorem f_X13_533_12 : xF RX13 533 12 85 := ⟨_, "CompiledHouseModel", rfl, by decide, Or.inl q3084, Or.inl rfl⟩
theorem q3076 : (Jvm.Cond.fieldLink "CompiledHouseModel" (536 : Nat) "CompiledHouseModel" "turnsTaken" "I") ∈ lw_all := lw_g (lw_at lw_m13 0 rfl) rfl
theorem f_X13_536_12 : xF RX13 536 12 77 := ⟨_, "CompiledHouseModel", rfl, by decide, Or.inl q3076, Or.inl rfl⟩
theorem q3080 : (Jvm.Cond.fieldLink "CompiledHouseModel" (539 : Nat) "CompiledHouseModel" "value" "I") ∈ lw_all := lw_g (lw_at lw_m13 4 rfl) rfl
theorem f_X13_539_12 : xF RX13 539 12 81 := ⟨_, "CompiledHouseModel", rfl, by decide, Or.inl q3080, Or.inl rfl⟩
theorem q3081 : (Jvm.Cond.fieldLink "CompiledHouseModel" (541 : Nat) "CompiledHouseModel" "placeOf" "I") ∈ lw_all := lw_g (lw_at lw_m13 5 rfl) rfl
theorem f_X13_541_12 : xF RX13 541 12 82 := ⟨_, "CompiledHouseModel", rfl, by decide, Or.inl q3081, Or.inl rfl⟩
theorem q3082 : (Jvm.Cond.fieldLink "CompiledHouseModel" (544 : Nat) "CompiledHouseModel" "depth" "I") ∈ lw_all := lw_g (lw_at lw_m13 6 rfl) rfl
theorem f_X13_544_12 : xF RX13 544 12 83 := ⟨_, "CompiledHouseModel", rfl, by decide, Or.inl q3082, Or.inl rfl⟩
abbrev cX13_run : ByteArray := prog_39_method_82_code
def yX13_run : MethodName := ⟨RX13, "run", "(I)I"⟩
theorem q3606 : (Jvm.Cond.code ({ cls := "CompiledHouseModel", name := "run", desc := "(I)I" } : Jvm.MethodName) prog_39_method_82_code (3 : Nat) (Option.some Jvm.ClassFile.FieldType.int)) ∈ lw_all := lw_g (lw_at lw_m15 50 rfl) rfl
def kX13_run : xK := (yX13_run, cX13_run, 3, some .int, [])
theorem me_X13_run : xMe kX13_run 1 := ⟨q3606, q216, by decide, by decide, by decide +kernel⟩
theorem q3604 : (Jvm.Cond.instanceMethod ({ cls := "CompiledHouseModel", name := "run", desc := "(I)I" } : Jvm.MethodName)) ∈ lw_all := lw_g (lw_at lw_m15 48 rfl) rfl
theorem is_X13_run : Cond.instanceMethod kX13_run.y ∈ lw_all := q3604
theorem q3605 : (Jvm.Cond.selects "CompiledHouseModel" ({ cls := "CompiledHouseModel", name := "run", desc := "(I)I" } : Jvm.MethodName) ({ cls := "CompiledHouseModel", name := "run", desc := "(I)I" } : Jvm.MethodName)) ∈ lw_all := lw_g (lw_at lw_m15 49 rfl) rfl
theorem se_X13_run : Cond.selects RX13 kX13_run.y kX13_run.y ∈ lw_all := q3605
theorem q3077 : (Jvm.Cond.fieldLink "CompiledHouseModel" (556 : Nat) "CompiledHouseModel" "left" "I") ∈ lw_all := lw_g (lw_at lw_m13 1 rfl) rfl
theorem f_X13_556_12 : xF RX13 556 12 78 := ⟨_, "CompiledHouseModel", rfl, by decide, Or.inl q3077, Or.inl rfl⟩
theorem q3607 : (Jvm.Cond.methodLink "CompiledHouseModel" (559 : Nat) ({ cls := "CompiledHouseModel", name := "calls", desc := "(III)Z" } : Jvm.MethodName)) ∈ lw_all := lw_g (lw_at lw_m15 51 rfl) rfl
abbrev cX13_calls : ByteArray := prog_39_method_80_code
def yX13_calls : MethodName := ⟨RX13, "calls", "(III)Z"⟩
theorem q3610 : (Jvm.Cond.code ({ cls := "CompiledHouseModel", name := "calls", desc := "(III)Z" } : Jvm.MethodName) prog_39_method_80_code (7 : Nat) (Option.some Jvm.ClassFile.FieldType.boolean)) ∈ lw_all := lw_g (lw_at lw_m15 54 rfl) rfl
def kX13_calls : xK := (yX13_calls, cX13_calls, 7, some .boolean, [])
theorem me_X13_calls : xMe kX13_calls 3 := ⟨q3610, q216, by decide, by decide, by decide +kernel⟩
theorem q3609 : (Jvm.Cond.instanceMethod ({ cls := "CompiledHouseModel", name := "calls", desc := "(III)Z" } : Jvm.MethodName)) ∈ lw_all := lw_g (lw_at lw_m15 53 rfl) rfl
theorem is_X13_calls : Cond.instanceMethod kX13_calls.y ∈ lw_all := q3609
theorem se_X13_calls : Cond.selects RX13 kX13_calls.y kX13_calls.y ∈ lw_all := qs182
theorem lk_X13_559 : xLk RX13 559 yX13_calls := Or.inl q3607
theorem q3611 : (Jvm.Cond.methodLink "CompiledHouseModel" (563 : Nat) ({ cls := "CompiledHouseModel", name := "works", desc := "()Z" } : Jvm.MethodName)) ∈ lw_all := lw_g (lw_at lw_m15 55 rfl) rfl
abbrev cX13_works : ByteArray := prog_39_method_83_code
def yX13_works : MethodName := ⟨RX13, "works", "()Z"⟩
theorem q3614 : (Jvm.Cond.code ({ cls := "CompiledHouseModel", name := "works", desc := "()Z" } : Jvm.MethodName) prog_39_method_83_code (6 : Nat) (Option.some Jvm.ClassFile.FieldType.boolean)) ∈ lw_all := lw_g (lw_at lw_m15 58 rfl) rfl
def kX13_works : xK := (yX13_works, cX13_works, 6, some .boolean, [])
theorem me_X13_works : xMe kX13_works 0 := ⟨q3614, q216, by decide, by decide, by decide +kernel⟩
theorem q3613 : (Jvm.Cond.instanceMethod ({ cls := "CompiledHouseModel", name := "works", desc := "()Z" } : Jvm.MethodName)) ∈ lw_all := lw_g (lw_at lw_m15 57 rfl) rfl
theorem is_X13_works : Cond.instanceMethod kX13_works.y ∈ lw_all := q3613
theorem se_X13_works : Cond.selects RX13 kX13_works.y kX13_works.y ∈ lw_all := qs183
theorem lk_X13_563 : xLk RX13 563 yX13_works := Or.inl q3611
theorem q3086 : (Jvm.Cond.fieldLink "CompiledHouseModel" (547 : Nat) "CompiledHouseModel" "above" "I") ∈ lw_all := lw_g (lw_at lw_m13 10 rfl) rfl
theorem f_X13_547_12 : xF RX13 547 12 87 := ⟨_, "CompiledHouseModel", rfl, by decide, Or.inl q3086, Or.inl rfl⟩
theorem q3085 : (Jvm.Cond.fieldLink "CompiledHouseModel" (550 : Nat) "CompiledHouseModel" "base" "I") ∈ lw_all := lw_g (lw_at lw_m13 9 rfl) rfl
theorem f_X13_550_12 : xF RX13 550 12 86 := ⟨_, "CompiledHouseModel", rfl, by decide, Or.inl q3085, Or.inl rfl⟩
theorem q3075 : (Jvm.Cond.fieldLink "CompiledHouseModel" (553 : Nat) "CompiledHouseModel" "pc" "I") ∈ lw_all := lw_g (lw_at lw_m12 239 rfl) rfl
theorem f_X13_553_12 : xF RX13 553 12 76 := ⟨_, "CompiledHouseModel", rfl, by decide, Or.inl q3075, Or.inl rfl⟩
theorem dX13_array_0 : decode cX13_array 0 = .ok (.aload_n 0, 1) := by decide +kernel
theorem dX13_array_1 : decode cX13_array 1 = .ok (.iload_n 1, 1) := by decide +kernel
theorem dX13_array_2 : decode cX13_array 2 = .ok (.invokevirtual 348, 3) := by decide +kernel
theorem dX13_array_5 : decode cX13_array 5 = .ok (.aload_n 0, 1) := by decide +kernel
theorem dX13_array_6 : decode cX13_array 6 = .ok (.bipush 24, 2) := by decide +kernel
theorem dX13_array_8 : decode cX13_array 8 = .ok (.invokevirtual 356, 3) := by decide +kernel
theorem dX13_array_11 : decode cX13_array 11 = .ok (.ifCond .ne 5, 3) := by decide +kernel
theorem dX13_array_14 : decode cX13_array 14 = .ok (.iconst 0, 1) := by decide +kernel
theorem dX13_array_15 : decode cX13_array 15 = .ok (.ireturn, 1) := by decide +kernel
theorem dX13_array_16 : decode cX13_array 16 = .ok (.aload_n 0, 1) := by decide +kernel
theorem dX13_array_17 : decode cX13_array 17 = .ok (.invokevirtual 359, 3) := by decide +kernel
theorem dX13_array_20 : decode cX13_array 20 = .ok (.istore_n 3, 1) := by decide +kernel
theorem dX13_array_21 : decode cX13_array 21 = .ok (.aload_n 0, 1) := by decide +kernel
theorem dX13_array_22 : decode cX13_array 22 = .ok (.bipush 25, 2) := by decide +kernel
theorem dX13_array_24 : decode cX13_array 24 = .ok (.invokevirtual 362, 3) := by decide +kernel
theorem dX13_array_27 : decode cX13_array 27 = .ok (.ifCond .ne 5, 3) := by decide +kernel
theorem dX13_array_30 : decode cX13_array 30 = .ok (.iconst 0, 1) := by decide +kernel
theorem dX13_array_31 : decode cX13_array 31 = .ok (.ireturn, 1) := by decide +kernel
theorem dX13_array_32 : decode cX13_array 32 = .ok (.aload_n 0, 1) := by decide +kernel
theorem dX13_array_33 : decode cX13_array 33 = .ok (.getfield 291, 3) := by decide +kernel
theorem dX13_array_36 : decode cX13_array 36 = .ok (.istore 4, 2) := by decide +kernel
theorem dX13_array_38 : decode cX13_array 38 = .ok (.iload_n 3, 1) := by decide +kernel
theorem dX13_array_39 : decode cX13_array 39 = .ok (.iconst (-1), 1) := by decide +kernel
theorem dX13_array_40 : decode cX13_array 40 = .ok (.if_icmp .ne 7, 3) := by decide +kernel
theorem dX13_array_43 : decode cX13_array 43 = .ok (.iconst 0, 1) := by decide +kernel
theorem dX13_array_44 : decode cX13_array 44 = .ok (.goto 16, 3) := by decide +kernel
theorem dX13_array_47 : decode cX13_array 47 = .ok (.iload_n 2, 1) := by decide +kernel
theorem dX13_array_48 : decode cX13_array 48 = .ok (.ifCond .eq 11, 3) := by decide +kernel
theorem dX13_array_51 : decode cX13_array 51 = .ok (.iload_n 3, 1) := by decide +kernel
theorem dX13_array_52 : decode cX13_array 52 = .ok (.iconst 3, 1) := by decide +kernel
theorem dX13_array_53 : decode cX13_array 53 = .ok (.iadd, 1) := by decide +kernel
theorem dX13_array_54 : decode cX13_array 54 = .ok (.iconst 4, 1) := by decide +kernel
theorem dX13_array_55 : decode cX13_array 55 = .ok (.idiv, 1) := by decide +kernel
theorem dX13_array_56 : decode cX13_array 56 = .ok (.goto 4, 3) := by decide +kernel
theorem dX13_array_59 : decode cX13_array 59 = .ok (.iload_n 3, 1) := by decide +kernel
theorem dX13_array_60 : decode cX13_array 60 = .ok (.istore 5, 2) := by decide +kernel
theorem dX13_array_62 : decode cX13_array 62 = .ok (.aload_n 0, 1) := by decide +kernel
theorem dX13_array_63 : decode cX13_array 63 = .ok (.getfield 288, 3) := by decide +kernel
theorem dX13_array_66 : decode cX13_array 66 = .ok (.iload 5, 2) := by decide +kernel
theorem dX13_array_68 : decode cX13_array 68 = .ok (.iadd, 1) := by decide +kernel
theorem dX13_array_69 : decode cX13_array 69 = .ok (.sipush 2000, 3) := by decide +kernel
theorem dX13_array_72 : decode cX13_array 72 = .ok (.if_icmp .gt 7, 3) := by decide +kernel
theorem dX13_array_75 : decode cX13_array 75 = .ok (.iconst 1, 1) := by decide +kernel
theorem dX13_array_76 : decode cX13_array 76 = .ok (.goto 4, 3) := by decide +kernel
theorem dX13_array_79 : decode cX13_array 79 = .ok (.iconst 0, 1) := by decide +kernel
theorem dX13_array_80 : decode cX13_array 80 = .ok (.istore 6, 2) := by decide +kernel
theorem dX13_array_82 : decode cX13_array 82 = .ok (.iload 6, 2) := by decide +kernel
theorem dX13_array_84 : decode cX13_array 84 = .ok (.ifCond .ne 15, 3) := by decide +kernel
theorem dX13_array_87 : decode cX13_array 87 = .ok (.aload_n 0, 1) := by decide +kernel
theorem dX13_array_88 : decode cX13_array 88 = .ok (.bipush 11, 2) := by decide +kernel
theorem dX13_array_90 : decode cX13_array 90 = .ok (.aload_n 0, 1) := by decide +kernel
theorem dX13_array_91 : decode cX13_array 91 = .ok (.getfield 22, 3) := by decide +kernel
theorem dX13_array_94 : decode cX13_array 94 = .ok (.iload_n 1, 1) := by decide +kernel
theorem dX13_array_95 : decode cX13_array 95 = .ok (.iaload, 1) := by decide +kernel
theorem dX13_array_96 : decode cX13_array 96 = .ok (.invokevirtual 352, 3) := by decide +kernel
theorem dX13_array_99 : decode cX13_array 99 = .ok (.iconst 0, 1) := by decide +kernel
theorem dX13_array_100 : decode cX13_array 100 = .ok (.istore 7, 2) := by decide +kernel
theorem dX13_array_102 : decode cX13_array 102 = .ok (.iload 7, 2) := by decide +kernel
theorem dX13_array_104 : decode cX13_array 104 = .ok (.iload 5, 2) := by decide +kernel
theorem dX13_array_106 : decode cX13_array 106 = .ok (.if_icmp .ge 87, 3) := by decide +kernel
theorem dX13_array_109 : decode cX13_array 109 = .ok (.iload 6, 2) := by decide +kernel
theorem dX13_array_111 : decode cX13_array 111 = .ok (.ifCond .eq 82, 3) := by decide +kernel
theorem dX13_array_114 : decode cX13_array 114 = .ok (.aload_n 0, 1) := by decide +kernel
theorem dX13_array_115 : decode cX13_array 115 = .ok (.getfield 95, 3) := by decide +kernel
theorem dX13_array_118 : decode cX13_array 118 = .ok (.aload_n 0, 1) := by decide +kernel
theorem dX13_array_119 : decode cX13_array 119 = .ok (.getfield 288, 3) := by decide +kernel
theorem dX13_array_122 : decode cX13_array 122 = .ok (.iload 7, 2) := by decide +kernel
theorem dX13_array_124 : decode cX13_array 124 = .ok (.iadd, 1) := by decide +kernel
theorem dX13_array_125 : decode cX13_array 125 = .ok (.aload_n 0, 1) := by decide +kernel
theorem dX13_array_126 : decode cX13_array 126 = .ok (.getfield 291, 3) := by decide +kernel
theorem dX13_array_129 : decode cX13_array 129 = .ok (.iload_n 2, 1) := by decide +kernel
theorem dX13_array_130 : decode cX13_array 130 = .ok (.ifCond .eq 10, 3) := by decide +kernel
theorem dX13_array_133 : decode cX13_array 133 = .ok (.iconst 4, 1) := by decide +kernel
theorem dX13_array_134 : decode cX13_array 134 = .ok (.iload 7, 2) := by decide +kernel
theorem dX13_array_136 : decode cX13_array 136 = .ok (.imul, 1) := by decide +kernel
theorem dX13_array_137 : decode cX13_array 137 = .ok (.goto 5, 3) := by decide +kernel
theorem dX13_array_140 : decode cX13_array 140 = .ok (.iload 7, 2) := by decide +kernel
theorem dX13_array_142 : decode cX13_array 142 = .ok (.iadd, 1) := by decide +kernel
theorem dX13_array_143 : decode cX13_array 143 = .ok (.iastore, 1) := by decide +kernel
theorem dX13_array_144 : decode cX13_array 144 = .ok (.aload_n 0, 1) := by decide +kernel
theorem dX13_array_145 : decode cX13_array 145 = .ok (.getfield 98, 3) := by decide +kernel
theorem dX13_array_148 : decode cX13_array 148 = .ok (.aload_n 0, 1) := by decide +kernel
theorem dX13_array_149 : decode cX13_array 149 = .ok (.getfield 288, 3) := by decide +kernel
theorem dX13_array_152 : decode cX13_array 152 = .ok (.iload 7, 2) := by decide +kernel
theorem dX13_array_154 : decode cX13_array 154 = .ok (.iadd, 1) := by decide +kernel
theorem dX13_array_155 : decode cX13_array 155 = .ok (.iload_n 2, 1) := by decide +kernel
theorem dX13_array_156 : decode cX13_array 156 = .ok (.bastore, 1) := by decide +kernel
theorem dX13_array_157 : decode cX13_array 157 = .ok (.aload_n 0, 1) := by decide +kernel
theorem dX13_array_158 : decode cX13_array 158 = .ok (.getfield 92, 3) := by decide +kernel
theorem dX13_array_161 : decode cX13_array 161 = .ok (.aload_n 0, 1) := by decide +kernel
theorem dX13_array_162 : decode cX13_array 162 = .ok (.getfield 288, 3) := by decide +kernel
theorem dX13_array_165 : decode cX13_array 165 = .ok (.iload 7, 2) := by decide +kernel
theorem dX13_array_167 : decode cX13_array 167 = .ok (.iadd, 1) := by decide +kernel
theorem dX13_array_168 : decode cX13_array 168 = .ok (.iload_n 2, 1) := by decide +kernel
theorem dX13_array_169 : decode cX13_array 169 = .ok (.ifCond .eq 16, 3) := by decide +kernel
theorem dX13_array_172 : decode cX13_array 172 = .ok (.iconst 4, 1) := by decide +kernel
theorem dX13_array_173 : decode cX13_array 173 = .ok (.iload_n 3, 1) := by decide +kernel
theorem dX13_array_174 : decode cX13_array 174 = .ok (.iconst 4, 1) := by decide +kernel
theorem dX13_array_175 : decode cX13_array 175 = .ok (.iload 7, 2) := by decide +kernel
theorem dX13_array_177 : decode cX13_array 177 = .ok (.imul, 1) := by decide +kernel
theorem dX13_array_178 : decode cX13_array 178 = .ok (.isub, 1) := by decide +kernel
theorem dX13_array_179 : decode cX13_array 179 = .ok (.invokestatic 333, 3) := by decide +kernel
theorem dX13_array_182 : decode cX13_array 182 = .ok (.goto 4, 3) := by decide +kernel
theorem dX13_array_185 : decode cX13_array 185 = .ok (.iconst 1, 1) := by decide +kernel
theorem dX13_array_186 : decode cX13_array 186 = .ok (.iastore, 1) := by decide +kernel
theorem dX13_array_187 : decode cX13_array 187 = .ok (.iinc 7 1, 3) := by decide +kernel
theorem dX13_array_190 : decode cX13_array 190 = .ok (.goto (-88), 3) := by decide +kernel
theorem dX13_array_193 : decode cX13_array 193 = .ok (.aload_n 0, 1) := by decide +kernel
theorem dX13_array_194 : decode cX13_array 194 = .ok (.dup, 1) := by decide +kernel
theorem dX13_array_195 : decode cX13_array 195 = .ok (.getfield 288, 3) := by decide +kernel
theorem dX13_array_198 : decode cX13_array 198 = .ok (.iload 5, 2) := by decide +kernel
theorem dX13_array_200 : decode cX13_array 200 = .ok (.iadd, 1) := by decide +kernel
theorem dX13_array_201 : decode cX13_array 201 = .ok (.putfield 288, 3) := by decide +kernel
theorem dX13_array_204 : decode cX13_array 204 = .ok (.iload_n 3, 1) := by decide +kernel
theorem dX13_array_205 : decode cX13_array 205 = .ok (.iconst (-1), 1) := by decide +kernel
theorem dX13_array_206 : decode cX13_array 206 = .ok (.if_icmp .eq 8, 3) := by decide +kernel
theorem dX13_array_209 : decode cX13_array 209 = .ok (.iload 6, 2) := by decide +kernel
theorem dX13_array_211 : decode cX13_array 211 = .ok (.ifCond .ne 7, 3) := by decide +kernel
theorem dX13_array_214 : decode cX13_array 214 = .ok (.iconst 0, 1) := by decide +kernel
theorem dX13_array_215 : decode cX13_array 215 = .ok (.goto 4, 3) := by decide +kernel
theorem dX13_array_218 : decode cX13_array 218 = .ok (.iload_n 3, 1) := by decide +kernel
theorem dX13_array_219 : decode cX13_array 219 = .ok (.istore 7, 2) := by decide +kernel
theorem dX13_array_221 : decode cX13_array 221 = .ok (.iconst 0, 1) := by decide +kernel
theorem dX13_array_222 : decode cX13_array 222 = .ok (.istore 8, 2) := by decide +kernel
theorem dX13_array_224 : decode cX13_array 224 = .ok (.iload 8, 2) := by decide +kernel
theorem dX13_array_226 : decode cX13_array 226 = .ok (.iload 7, 2) := by decide +kernel
theorem dX13_array_228 : decode cX13_array 228 = .ok (.if_icmp .ge 22, 3) := by decide +kernel
theorem dX13_array_231 : decode cX13_array 231 = .ok (.aload_n 0, 1) := by decide +kernel
theorem dX13_array_232 : decode cX13_array 232 = .ok (.getfield 101, 3) := by decide +kernel
theorem dX13_array_235 : decode cX13_array 235 = .ok (.aload_n 0, 1) := by decide +kernel
theorem dX13_array_236 : decode cX13_array 236 = .ok (.getfield 291, 3) := by decide +kernel
theorem dX13_array_239 : decode cX13_array 239 = .ok (.iload 8, 2) := by decide +kernel
theorem dX13_array_241 : decode cX13_array 241 = .ok (.iadd, 1) := by decide +kernel
theorem dX13_array_242 : decode cX13_array 242 = .ok (.iconst 0, 1) := by decide +kernel
theorem dX13_array_243 : decode cX13_array 243 = .ok (.iastore, 1) := by decide +kernel
theorem dX13_array_244 : decode cX13_array 244 = .ok (.iinc 8 1, 3) := by decide +kernel
theorem dX13_array_247 : decode cX13_array 247 = .ok (.goto (-23), 3) := by decide +kernel
theorem dX13_array_250 : decode cX13_array 250 = .ok (.aload_n 0, 1) := by decide +kernel
theorem dX13_array_251 : decode cX13_array 251 = .ok (.dup, 1) := by decide +kernel
theorem dX13_array_252 : decode cX13_array 252 = .ok (.getfield 291, 3) := by decide +kernel
theorem dX13_array_255 : decode cX13_array 255 = .ok (.iload 7, 2) := by decide +kernel
theorem dX13_array_257 : decode cX13_array 257 = .ok (.iadd, 1) := by decide +kernel
theorem dX13_array_258 : decode cX13_array 258 = .ok (.putfield 291, 3) := by decide +kernel
theorem dX13_array_261 : decode cX13_array 261 = .ok (.aload_n 0, 1) := by decide +kernel
theorem dX13_array_262 : decode cX13_array 262 = .ok (.bipush 32, 2) := by decide +kernel
theorem dX13_array_264 : decode cX13_array 264 = .ok (.invokevirtual 257, 3) := by decide +kernel
theorem dX13_array_267 : decode cX13_array 267 = .ok (.ifCond .eq 176, 3) := by decide +kernel
theorem dX13_array_270 : decode cX13_array 270 = .ok (.aload_n 0, 1) := by decide +kernel
theorem dX13_array_271 : decode cX13_array 271 = .ok (.dup, 1) := by decide +kernel
theorem dX13_array_272 : decode cX13_array 272 = .ok (.getfield 233, 3) := by decide +kernel
theorem dX13_array_275 : decode cX13_array 275 = .ok (.iconst 1, 1) := by decide +kernel
theorem dX13_array_276 : decode cX13_array 276 = .ok (.iadd, 1) := by decide +kernel
theorem dX13_array_277 : decode cX13_array 277 = .ok (.putfield 233, 3) := by decide +kernel
theorem dX13_array_280 : decode cX13_array 280 = .ok (.aload_n 0, 1) := by decide +kernel
theorem dX13_array_281 : decode cX13_array 281 = .ok (.bipush 26, 2) := by decide +kernel
theorem dX13_array_283 : decode cX13_array 283 = .ok (.invokevirtual 356, 3) := by decide +kernel
theorem dX13_array_286 : decode cX13_array 286 = .ok (.ifCond .ne 5, 3) := by decide +kernel
theorem dX13_array_289 : decode cX13_array 289 = .ok (.iconst 0, 1) := by decide +kernel
theorem dX13_array_290 : decode cX13_array 290 = .ok (.ireturn, 1) := by decide +kernel
theorem dX13_array_291 : decode cX13_array 291 = .ok (.iconst 0, 1) := by decide +kernel
theorem dX13_array_292 : decode cX13_array 292 = .ok (.istore 8, 2) := by decide +kernel
theorem dX13_array_294 : decode cX13_array 294 = .ok (.iconst 1, 1) := by decide +kernel
theorem dX13_array_295 : decode cX13_array 295 = .ok (.istore 9, 2) := by decide +kernel
theorem dX13_array_297 : decode cX13_array 297 = .ok (.iload 9, 2) := by decide +kernel
theorem dX13_array_299 : decode cX13_array 299 = .ok (.ifCond .eq 133, 3) := by decide +kernel
theorem dX13_array_302 : decode cX13_array 302 = .ok (.aload_n 0, 1) := by decide +kernel
theorem dX13_array_303 : decode cX13_array 303 = .ok (.getfield 230, 3) := by decide +kernel
theorem dX13_array_306 : decode cX13_array 306 = .ok (.ifCond .ne 126, 3) := by decide +kernel
theorem dX13_array_309 : decode cX13_array 309 = .ok (.aload_n 0, 1) := by decide +kernel
theorem dX13_array_310 : decode cX13_array 310 = .ok (.getfield 22, 3) := by decide +kernel
theorem dX13_array_313 : decode cX13_array 313 = .ok (.aload_n 0, 1) := by decide +kernel
theorem dX13_array_314 : decode cX13_array 314 = .ok (.getfield 233, 3) := by decide +kernel
theorem dX13_array_317 : decode cX13_array 317 = .ok (.iaload, 1) := by decide +kernel
theorem dX13_array_318 : decode cX13_array 318 = .ok (.istore 10, 2) := by decide +kernel
theorem dX13_array_320 : decode cX13_array 320 = .ok (.aload_n 0, 1) := by decide +kernel
theorem dX13_array_321 : decode cX13_array 321 = .ok (.invokevirtual 330, 3) := by decide +kernel
theorem dX13_array_324 : decode cX13_array 324 = .ok (.istore 11, 2) := by decide +kernel
theorem dX13_array_326 : decode cX13_array 326 = .ok (.iload_n 3, 1) := by decide +kernel
theorem dX13_array_327 : decode cX13_array 327 = .ok (.iconst (-1), 1) := by decide +kernel
theorem dX13_array_328 : decode cX13_array 328 = .ok (.if_icmp .eq 17, 3) := by decide +kernel
theorem dX13_array_331 : decode cX13_array 331 = .ok (.iload 8, 2) := by decide +kernel
theorem dX13_array_333 : decode cX13_array 333 = .ok (.iload_n 3, 1) := by decide +kernel
theorem dX13_array_334 : decode cX13_array 334 = .ok (.if_icmp .ne 11, 3) := by decide +kernel
theorem dX13_array_337 : decode cX13_array 337 = .ok (.aload_n 0, 1) := by decide +kernel
theorem dX13_array_338 : decode cX13_array 338 = .ok (.bipush 10, 2) := by decide +kernel
theorem dX13_array_340 : decode cX13_array 340 = .ok (.iload 10, 2) := by decide +kernel
theorem dX13_array_342 : decode cX13_array 342 = .ok (.invokevirtual 352, 3) := by decide +kernel
theorem dX13_array_345 : decode cX13_array 345 = .ok (.aload_n 0, 1) := by decide +kernel
theorem dX13_array_346 : decode cX13_array 346 = .ok (.getfield 245, 3) := by decide +kernel
theorem dX13_array_349 : decode cX13_array 349 = .ok (.ifCond .le 35, 3) := by decide +kernel
theorem dX13_array_352 : decode cX13_array 352 = .ok (.iload 8, 2) := by decide +kernel
theorem dX13_array_354 : decode cX13_array 354 = .ok (.iload 7, 2) := by decide +kernel
theorem dX13_array_356 : decode cX13_array 356 = .ok (.if_icmp .ge 28, 3) := by decide +kernel
theorem dX13_array_359 : decode cX13_array 359 = .ok (.aload_n 0, 1) := by decide +kernel
theorem dX13_array_360 : decode cX13_array 360 = .ok (.getfield 101, 3) := by decide +kernel
theorem dX13_array_363 : decode cX13_array 363 = .ok (.iload 4, 2) := by decide +kernel
theorem dX13_array_365 : decode cX13_array 365 = .ok (.iload 8, 2) := by decide +kernel
theorem dX13_array_367 : decode cX13_array 367 = .ok (.iadd, 1) := by decide +kernel
theorem dX13_array_368 : decode cX13_array 368 = .ok (.iload_n 2, 1) := by decide +kernel
theorem dX13_array_369 : decode cX13_array 369 = .ok (.ifCond .eq 12, 3) := by decide +kernel
theorem dX13_array_372 : decode cX13_array 372 = .ok (.iload 11, 2) := by decide +kernel
theorem dX13_array_374 : decode cX13_array 374 = .ok (.sipush 255, 3) := by decide +kernel
theorem dX13_array_377 : decode cX13_array 377 = .ok (.iand, 1) := by decide +kernel
theorem dX13_array_378 : decode cX13_array 378 = .ok (.goto 5, 3) := by decide +kernel
theorem dX13_array_381 : decode cX13_array 381 = .ok (.iload 11, 2) := by decide +kernel
theorem dX13_array_383 : decode cX13_array 383 = .ok (.iastore, 1) := by decide +kernel
theorem dX13_array_384 : decode cX13_array 384 = .ok (.iinc 8 1, 3) := by decide +kernel
theorem dX13_array_387 : decode cX13_array 387 = .ok (.aload_n 0, 1) := by decide +kernel
theorem dX13_array_388 : decode cX13_array 388 = .ok (.getfield 230, 3) := by decide +kernel
theorem dX13_array_391 : decode cX13_array 391 = .ok (.ifCond .ne 16, 3) := by decide +kernel
theorem dX13_array_394 : decode cX13_array 394 = .ok (.aload_n 0, 1) := by decide +kernel
theorem dX13_array_395 : decode cX13_array 395 = .ok (.bipush 28, 2) := by decide +kernel
theorem dX13_array_397 : decode cX13_array 397 = .ok (.invokevirtual 257, 3) := by decide +kernel
theorem dX13_array_400 : decode cX13_array 400 = .ok (.ifCond .eq 7, 3) := by decide +kernel
theorem dX13_array_403 : decode cX13_array 403 = .ok (.iconst 1, 1) := by decide +kernel
theorem dX13_array_404 : decode cX13_array 404 = .ok (.goto 4, 3) := by decide +kernel
theorem dX13_array_407 : decode cX13_array 407 = .ok (.iconst 0, 1) := by decide +kernel
theorem dX13_array_408 : decode cX13_array 408 = .ok (.istore 9, 2) := by decide +kernel
theorem dX13_array_410 : decode cX13_array 410 = .ok (.aload_n 0, 1) := by decide +kernel
theorem dX13_array_411 : decode cX13_array 411 = .ok (.dup, 1) := by decide +kernel
theorem dX13_array_412 : decode cX13_array 412 = .ok (.getfield 233, 3) := by decide +kernel
theorem dX13_array_415 : decode cX13_array 415 = .ok (.iload 9, 2) := by decide +kernel
theorem dX13_array_417 : decode cX13_array 417 = .ok (.ifCond .eq 7, 3) := by decide +kernel
theorem dX13_array_420 : decode cX13_array 420 = .ok (.iconst 1, 1) := by decide +kernel
theorem dX13_array_421 : decode cX13_array 421 = .ok (.goto 4, 3) := by decide +kernel
theorem dX13_array_424 : decode cX13_array 424 = .ok (.iconst 0, 1) := by decide +kernel
theorem dX13_array_425 : decode cX13_array 425 = .ok (.iadd, 1) := by decide +kernel
theorem dX13_array_426 : decode cX13_array 426 = .ok (.putfield 233, 3) := by decide +kernel
theorem dX13_array_429 : decode cX13_array 429 = .ok (.goto (-132), 3) := by decide +kernel
theorem dX13_array_432 : decode cX13_array 432 = .ok (.aload_n 0, 1) := by decide +kernel
theorem dX13_array_433 : decode cX13_array 433 = .ok (.bipush 27, 2) := by decide +kernel
theorem dX13_array_435 : decode cX13_array 435 = .ok (.invokevirtual 362, 3) := by decide +kernel
theorem dX13_array_438 : decode cX13_array 438 = .ok (.ifCond .ne 5, 3) := by decide +kernel
theorem dX13_array_441 : decode cX13_array 441 = .ok (.iconst 0, 1) := by decide +kernel
theorem dX13_array_442 : decode cX13_array 442 = .ok (.ireturn, 1) := by decide +kernel
theorem dX13_array_443 : decode cX13_array 443 = .ok (.aload_n 0, 1) := by decide +kernel
theorem dX13_array_444 : decode cX13_array 444 = .ok (.iload_n 1, 1) := by decide +kernel
theorem dX13_array_445 : decode cX13_array 445 = .ok (.iconst 2, 1) := by decide +kernel
theorem dX13_array_446 : decode cX13_array 446 = .ok (.iload_n 2, 1) := by decide +kernel
theorem dX13_array_447 : decode cX13_array 447 = .ok (.iload 4, 2) := by decide +kernel
theorem dX13_array_449 : decode cX13_array 449 = .ok (.iload_n 3, 1) := by decide +kernel
theorem dX13_array_450 : decode cX13_array 450 = .ok (.iconst (-1), 1) := by decide +kernel
theorem dX13_array_451 : decode cX13_array 451 = .ok (.if_icmp .ne 7, 3) := by decide +kernel
theorem dX13_array_454 : decode cX13_array 454 = .ok (.iconst 1, 1) := by decide +kernel
theorem dX13_array_455 : decode cX13_array 455 = .ok (.goto 4, 3) := by decide +kernel
theorem dX13_array_458 : decode cX13_array 458 = .ok (.iload_n 3, 1) := by decide +kernel
theorem dX13_array_459 : decode cX13_array 459 = .ok (.iconst 0, 1) := by decide +kernel
theorem dX13_array_460 : decode cX13_array 460 = .ok (.invokevirtual 338, 3) := by decide +kernel
theorem dX13_array_463 : decode cX13_array 463 = .ok (.iconst 1, 1) := by decide +kernel
theorem dX13_array_464 : decode cX13_array 464 = .ok (.ireturn, 1) := by decide +kernel
theorem dX13_look_0 : decode cX13_look 0 = .ok (.aload_n 0, 1) := by decide +kernel
theorem dX13_look_1 : decode cX13_look 1 = .ok (.getfield 509, 3) := by decide +kernel
theorem dX13_look_4 : decode cX13_look 4 = .ok (.ifCond .ne 5, 3) := by decide +kernel
theorem dX13_look_7 : decode cX13_look 7 = .ok (.iconst (-1), 1) := by decide +kernel
theorem dX13_look_8 : decode cX13_look 8 = .ok (.ireturn, 1) := by decide +kernel
theorem dX13_look_9 : decode cX13_look 9 = .ok (.iload_n 1, 1) := by decide +kernel
theorem dX13_look_10 : decode cX13_look 10 = .ok (.ifCond .ne 8, 3) := by decide +kernel
theorem dX13_look_13 : decode cX13_look 13 = .ok (.aload_n 0, 1) := by decide +kernel
theorem dX13_look_14 : decode cX13_look 14 = .ok (.getfield 297, 3) := by decide +kernel
theorem dX13_look_17 : decode cX13_look 17 = .ok (.ireturn, 1) := by decide +kernel
theorem dX13_look_18 : decode cX13_look 18 = .ok (.iload_n 1, 1) := by decide +kernel
theorem dX13_look_19 : decode cX13_look 19 = .ok (.iconst 1, 1) := by decide +kernel
theorem dX13_look_20 : decode cX13_look 20 = .ok (.if_icmp .ne 8, 3) := by decide +kernel
theorem dX13_look_23 : decode cX13_look 23 = .ok (.aload_n 0, 1) := by decide +kernel
theorem dX13_look_24 : decode cX13_look 24 = .ok (.getfield 288, 3) := by decide +kernel
theorem dX13_look_27 : decode cX13_look 27 = .ok (.ireturn, 1) := by decide +kernel
theorem dX13_look_28 : decode cX13_look 28 = .ok (.iload_n 1, 1) := by decide +kernel
theorem dX13_look_29 : decode cX13_look 29 = .ok (.ifCond .lt 20, 3) := by decide +kernel
theorem dX13_look_32 : decode cX13_look 32 = .ok (.iload_n 1, 1) := by decide +kernel
theorem dX13_look_33 : decode cX13_look 33 = .ok (.iconst 5, 1) := by decide +kernel
theorem dX13_look_34 : decode cX13_look 34 = .ok (.if_icmp .gt 15, 3) := by decide +kernel
theorem dX13_look_37 : decode cX13_look 37 = .ok (.iload_n 2, 1) := by decide +kernel
theorem dX13_look_38 : decode cX13_look 38 = .ok (.ifCond .lt 11, 3) := by decide +kernel
theorem dX13_look_41 : decode cX13_look 41 = .ok (.iload_n 2, 1) := by decide +kernel
theorem dX13_look_42 : decode cX13_look 42 = .ok (.aload_n 0, 1) := by decide +kernel
theorem dX13_look_43 : decode cX13_look 43 = .ok (.getfield 297, 3) := by decide +kernel
theorem dX13_look_46 : decode cX13_look 46 = .ok (.if_icmp .lt 5, 3) := by decide +kernel
theorem dX13_look_49 : decode cX13_look 49 = .ok (.iconst (-1), 1) := by decide +kernel
theorem dX13_look_50 : decode cX13_look 50 = .ok (.ireturn, 1) := by decide +kernel
theorem dX13_look_51 : decode cX13_look 51 = .ok (.iload_n 1, 1) := by decide +kernel
theorem dX13_look_52 : decode cX13_look 52 = .ok (.iconst 2, 1) := by decide +kernel
theorem dX13_look_53 : decode cX13_look 53 = .ok (.if_icmp .ne 12, 3) := by decide +kernel
theorem dX13_look_56 : decode cX13_look 56 = .ok (.aload_n 0, 1) := by decide +kernel
theorem dX13_look_57 : decode cX13_look 57 = .ok (.getfield 65, 3) := by decide +kernel
theorem dX13_look_60 : decode cX13_look 60 = .ok (.iload_n 2, 1) := by decide +kernel
theorem dX13_look_61 : decode cX13_look 61 = .ok (.iaload, 1) := by decide +kernel
theorem dX13_look_62 : decode cX13_look 62 = .ok (.goto 45, 3) := by decide +kernel
theorem dX13_look_65 : decode cX13_look 65 = .ok (.iload_n 1, 1) := by decide +kernel
theorem dX13_look_66 : decode cX13_look 66 = .ok (.iconst 3, 1) := by decide +kernel
theorem dX13_look_67 : decode cX13_look 67 = .ok (.if_icmp .ne 12, 3) := by decide +kernel
theorem dX13_look_70 : decode cX13_look 70 = .ok (.aload_n 0, 1) := by decide +kernel
theorem dX13_look_71 : decode cX13_look 71 = .ok (.getfield 68, 3) := by decide +kernel
theorem dX13_look_74 : decode cX13_look 74 = .ok (.iload_n 2, 1) := by decide +kernel
theorem dX13_look_75 : decode cX13_look 75 = .ok (.iaload, 1) := by decide +kernel
theorem dX13_look_76 : decode cX13_look 76 = .ok (.goto 31, 3) := by decide +kernel
theorem dX13_look_79 : decode cX13_look 79 = .ok (.iload_n 1, 1) := by decide +kernel
theorem dX13_look_80 : decode cX13_look 80 = .ok (.iconst 4, 1) := by decide +kernel
theorem dX13_look_81 : decode cX13_look 81 = .ok (.if_icmp .ne 12, 3) := by decide +kernel
theorem dX13_look_84 : decode cX13_look 84 = .ok (.aload_n 0, 1) := by decide +kernel
theorem dX13_look_85 : decode cX13_look 85 = .ok (.getfield 71, 3) := by decide +kernel
theorem dX13_look_88 : decode cX13_look 88 = .ok (.iload_n 2, 1) := by decide +kernel
theorem dX13_look_89 : decode cX13_look 89 = .ok (.iaload, 1) := by decide +kernel
theorem dX13_look_90 : decode cX13_look 90 = .ok (.goto 17, 3) := by decide +kernel
theorem dX13_look_93 : decode cX13_look 93 = .ok (.aload_n 0, 1) := by decide +kernel
theorem dX13_look_94 : decode cX13_look 94 = .ok (.getfield 86, 3) := by decide +kernel
theorem dX13_look_97 : decode cX13_look 97 = .ok (.iload_n 2, 1) := by decide +kernel
theorem dX13_look_98 : decode cX13_look 98 = .ok (.baload, 1) := by decide +kernel
theorem dX13_look_99 : decode cX13_look 99 = .ok (.ifCond .eq 7, 3) := by decide +kernel
theorem dX13_look_102 : decode cX13_look 102 = .ok (.iconst 0, 1) := by decide +kernel
theorem dX13_look_103 : decode cX13_look 103 = .ok (.goto 4, 3) := by decide +kernel
theorem dX13_look_106 : decode cX13_look 106 = .ok (.iconst 1, 1) := by decide +kernel
theorem dX13_look_107 : decode cX13_look 107 = .ok (.ireturn, 1) := by decide +kernel
theorem dX13_give_0 : decode cX13_give 0 = .ok (.aload_n 0, 1) := by decide +kernel
theorem dX13_give_1 : decode cX13_give 1 = .ok (.getfield 509, 3) := by decide +kernel
theorem dX13_give_4 : decode cX13_give 4 = .ok (.ifCond .eq 13, 3) := by decide +kernel
theorem dX13_give_7 : decode cX13_give 7 = .ok (.aload_n 0, 1) := by decide +kernel
theorem dX13_give_8 : decode cX13_give 8 = .ok (.getfield 515, 3) := by decide +kernel
theorem dX13_give_11 : decode cX13_give 11 = .ok (.sipush 500, 3) := by decide +kernel
theorem dX13_give_14 : decode cX13_give 14 = .ok (.if_icmp .ne 5, 3) := by decide +kernel
theorem dX13_give_17 : decode cX13_give 17 = .ok (.iconst (-1), 1) := by decide +kernel
theorem dX13_give_18 : decode cX13_give 18 = .ok (.ireturn, 1) := by decide +kernel
theorem dX13_give_19 : decode cX13_give 19 = .ok (.aload_n 0, 1) := by decide +kernel
theorem dX13_give_20 : decode cX13_give 20 = .ok (.getfield 129, 3) := by decide +kernel
theorem dX13_give_23 : decode cX13_give 23 = .ok (.aload_n 0, 1) := by decide +kernel
theorem dX13_give_24 : decode cX13_give 24 = .ok (.getfield 515, 3) := by decide +kernel
theorem dX13_give_27 : decode cX13_give 27 = .ok (.iload_n 1, 1) := by decide +kernel
theorem dX13_give_28 : decode cX13_give 28 = .ok (.iastore, 1) := by decide +kernel
theorem dX13_give_29 : decode cX13_give 29 = .ok (.aload_n 0, 1) := by decide +kernel
theorem dX13_give_30 : decode cX13_give 30 = .ok (.dup, 1) := by decide +kernel
theorem dX13_give_31 : decode cX13_give 31 = .ok (.getfield 515, 3) := by decide +kernel
theorem dX13_give_34 : decode cX13_give 34 = .ok (.iconst 1, 1) := by decide +kernel
theorem dX13_give_35 : decode cX13_give 35 = .ok (.iadd, 1) := by decide +kernel
theorem dX13_give_36 : decode cX13_give 36 = .ok (.putfield 515, 3) := by decide +kernel
theorem dX13_give_39 : decode cX13_give 39 = .ok (.aload_n 0, 1) := by decide +kernel
theorem dX13_give_40 : decode cX13_give 40 = .ok (.getfield 515, 3) := by decide +kernel
theorem dX13_give_43 : decode cX13_give 43 = .ok (.ireturn, 1) := by decide +kernel
theorem dX13_begin_0 : decode cX13_begin 0 = .ok (.aload_n 0, 1) := by decide +kernel
theorem dX13_begin_1 : decode cX13_begin 1 = .ok (.getfield 509, 3) := by decide +kernel
theorem dX13_begin_4 : decode cX13_begin 4 = .ok (.ifCond .eq 15, 3) := by decide +kernel
theorem dX13_begin_7 : decode cX13_begin 7 = .ok (.iload_n 1, 1) := by decide +kernel
theorem dX13_begin_8 : decode cX13_begin 8 = .ok (.iconst 4, 1) := by decide +kernel
theorem dX13_begin_9 : decode cX13_begin 9 = .ok (.if_icmp .lt 10, 3) := by decide +kernel
theorem dX13_begin_12 : decode cX13_begin 12 = .ok (.iload_n 1, 1) := by decide +kernel
theorem dX13_begin_13 : decode cX13_begin 13 = .ok (.sipush 2000, 3) := by decide +kernel
theorem dX13_begin_16 : decode cX13_begin 16 = .ok (.if_icmp .le 5, 3) := by decide +kernel
theorem dX13_begin_19 : decode cX13_begin 19 = .ok (.iconst 0, 1) := by decide +kernel
theorem dX13_begin_20 : decode cX13_begin 20 = .ok (.ireturn, 1) := by decide +kernel
theorem dX13_begin_21 : decode cX13_begin 21 = .ok (.aload_n 0, 1) := by decide +kernel
theorem dX13_begin_22 : decode cX13_begin 22 = .ok (.iload_n 1, 1) := by decide +kernel
theorem dX13_begin_23 : decode cX13_begin 23 = .ok (.putfield 530, 3) := by decide +kernel
theorem dX13_begin_26 : decode cX13_begin 26 = .ok (.aload_n 0, 1) := by decide +kernel
theorem dX13_begin_27 : decode cX13_begin 27 = .ok (.iconst 1, 1) := by decide +kernel
theorem dX13_begin_28 : decode cX13_begin 28 = .ok (.putfield 512, 3) := by decide +kernel
theorem dX13_begin_31 : decode cX13_begin 31 = .ok (.aload_n 0, 1) := by decide +kernel
theorem dX13_begin_32 : decode cX13_begin 32 = .ok (.iconst 0, 1) := by decide +kernel
theorem dX13_begin_33 : decode cX13_begin 33 = .ok (.putfield 533, 3) := by decide +kernel
theorem dX13_begin_36 : decode cX13_begin 36 = .ok (.aload_n 0, 1) := by decide +kernel
theorem dX13_begin_37 : decode cX13_begin 37 = .ok (.iconst 0, 1) := by decide +kernel
theorem dX13_begin_38 : decode cX13_begin 38 = .ok (.putfield 536, 3) := by decide +kernel
theorem dX13_begin_41 : decode cX13_begin 41 = .ok (.aload_n 0, 1) := by decide +kernel
theorem dX13_begin_42 : decode cX13_begin 42 = .ok (.iconst 0, 1) := by decide +kernel
theorem dX13_begin_43 : decode cX13_begin 43 = .ok (.putfield 518, 3) := by decide +kernel
theorem dX13_begin_46 : decode cX13_begin 46 = .ok (.aload_n 0, 1) := by decide +kernel
theorem dX13_begin_47 : decode cX13_begin 47 = .ok (.iconst 0, 1) := by decide +kernel
theorem dX13_begin_48 : decode cX13_begin 48 = .ok (.putfield 539, 3) := by decide +kernel
theorem dX13_begin_51 : decode cX13_begin 51 = .ok (.aload_n 0, 1) := by decide +kernel
theorem dX13_begin_52 : decode cX13_begin 52 = .ok (.iconst (-1), 1) := by decide +kernel
theorem dX13_begin_53 : decode cX13_begin 53 = .ok (.putfield 541, 3) := by decide +kernel
theorem dX13_begin_56 : decode cX13_begin 56 = .ok (.aload_n 0, 1) := by decide +kernel
theorem dX13_begin_57 : decode cX13_begin 57 = .ok (.iconst 0, 1) := by decide +kernel
theorem dX13_begin_58 : decode cX13_begin 58 = .ok (.putfield 544, 3) := by decide +kernel
theorem dX13_begin_61 : decode cX13_begin 61 = .ok (.aload_n 0, 1) := by decide +kernel
theorem dX13_begin_62 : decode cX13_begin 62 = .ok (.iconst 0, 1) := by decide +kernel
theorem dX13_begin_63 : decode cX13_begin 63 = .ok (.putfield 497, 3) := by decide +kernel
theorem dX13_begin_66 : decode cX13_begin 66 = .ok (.iconst 0, 1) := by decide +kernel
theorem dX13_begin_67 : decode cX13_begin 67 = .ok (.istore_n 2, 1) := by decide +kernel
theorem dX13_begin_68 : decode cX13_begin 68 = .ok (.iload_n 2, 1) := by decide +kernel
theorem dX13_begin_69 : decode cX13_begin 69 = .ok (.aload_n 0, 1) := by decide +kernel
theorem dX13_begin_70 : decode cX13_begin 70 = .ok (.getfield 291, 3) := by decide +kernel
theorem dX13_begin_73 : decode cX13_begin 73 = .ok (.if_icmp .ge 21, 3) := by decide +kernel
theorem dX13_begin_76 : decode cX13_begin 76 = .ok (.aload_n 0, 1) := by decide +kernel
theorem dX13_begin_77 : decode cX13_begin 77 = .ok (.getfield 135, 3) := by decide +kernel
theorem dX13_begin_80 : decode cX13_begin 80 = .ok (.iload_n 2, 1) := by decide +kernel
theorem dX13_begin_81 : decode cX13_begin 81 = .ok (.aload_n 0, 1) := by decide +kernel
theorem dX13_begin_82 : decode cX13_begin 82 = .ok (.getfield 101, 3) := by decide +kernel
theorem dX13_begin_85 : decode cX13_begin 85 = .ok (.iload_n 2, 1) := by decide +kernel
theorem dX13_begin_86 : decode cX13_begin 86 = .ok (.iaload, 1) := by decide +kernel
theorem dX13_begin_87 : decode cX13_begin 87 = .ok (.iastore, 1) := by decide +kernel
theorem dX13_begin_88 : decode cX13_begin 88 = .ok (.iinc 2 1, 3) := by decide +kernel
theorem dX13_begin_91 : decode cX13_begin 91 = .ok (.goto (-23), 3) := by decide +kernel
theorem dX13_begin_94 : decode cX13_begin 94 = .ok (.iconst 1, 1) := by decide +kernel
theorem dX13_begin_95 : decode cX13_begin 95 = .ok (.ireturn, 1) := by decide +kernel
theorem dX13_run_0 : decode cX13_run 0 = .ok (.iload_n 1, 1) := by decide +kernel
theorem dX13_run_1 : decode cX13_run 1 = .ok (.ifCond .lt 17, 3) := by decide +kernel
theorem dX13_run_4 : decode cX13_run 4 = .ok (.iload_n 1, 1) := by decide +kernel
theorem dX13_run_5 : decode cX13_run 5 = .ok (.sipush 1000, 3) := by decide +kernel
theorem dX13_run_8 : decode cX13_run 8 = .ok (.if_icmp .gt 10, 3) := by decide +kernel
theorem dX13_run_11 : decode cX13_run 11 = .ok (.aload_n 0, 1) := by decide +kernel
theorem dX13_run_12 : decode cX13_run 12 = .ok (.getfield 512, 3) := by decide +kernel
theorem dX13_run_15 : decode cX13_run 15 = .ok (.ifCond .ne 5, 3) := by decide +kernel
theorem dX13_run_18 : decode cX13_run 18 = .ok (.iconst (-1), 1) := by decide +kernel
theorem dX13_run_19 : decode cX13_run 19 = .ok (.ireturn, 1) := by decide +kernel
theorem dX13_run_20 : decode cX13_run 20 = .ok (.aload_n 0, 1) := by decide +kernel
theorem dX13_run_21 : decode cX13_run 21 = .ok (.getfield 512, 3) := by decide +kernel
theorem dX13_run_24 : decode cX13_run 24 = .ok (.iconst 2, 1) := by decide +kernel
theorem dX13_run_25 : decode cX13_run 25 = .ok (.if_icmp .le 8, 3) := by decide +kernel
theorem dX13_run_28 : decode cX13_run 28 = .ok (.aload_n 0, 1) := by decide +kernel
theorem dX13_run_29 : decode cX13_run 29 = .ok (.getfield 512, 3) := by decide +kernel
theorem dX13_run_32 : decode cX13_run 32 = .ok (.ireturn, 1) := by decide +kernel
theorem dX13_run_33 : decode cX13_run 33 = .ok (.aload_n 0, 1) := by decide +kernel
theorem dX13_run_34 : decode cX13_run 34 = .ok (.iload_n 1, 1) := by decide +kernel
theorem dX13_run_35 : decode cX13_run 35 = .ok (.putfield 556, 3) := by decide +kernel
theorem dX13_run_38 : decode cX13_run 38 = .ok (.aload_n 0, 1) := by decide +kernel
theorem dX13_run_39 : decode cX13_run 39 = .ok (.iconst 1, 1) := by decide +kernel
theorem dX13_run_40 : decode cX13_run 40 = .ok (.putfield 512, 3) := by decide +kernel
theorem dX13_run_43 : decode cX13_run 43 = .ok (.aload_n 0, 1) := by decide +kernel
theorem dX13_run_44 : decode cX13_run 44 = .ok (.getfield 533, 3) := by decide +kernel
theorem dX13_run_47 : decode cX13_run 47 = .ok (.ifCond .gt 24, 3) := by decide +kernel
theorem dX13_run_50 : decode cX13_run 50 = .ok (.aload_n 0, 1) := by decide +kernel
theorem dX13_run_51 : decode cX13_run 51 = .ok (.aload_n 0, 1) := by decide +kernel
theorem dX13_run_52 : decode cX13_run 52 = .ok (.getfield 527, 3) := by decide +kernel
theorem dX13_run_55 : decode cX13_run 55 = .ok (.aload_n 0, 1) := by decide +kernel
theorem dX13_run_56 : decode cX13_run 56 = .ok (.getfield 65, 3) := by decide +kernel
theorem dX13_run_59 : decode cX13_run 59 = .ok (.aload_n 0, 1) := by decide +kernel
theorem dX13_run_60 : decode cX13_run 60 = .ok (.getfield 527, 3) := by decide +kernel
theorem dX13_run_63 : decode cX13_run 63 = .ok (.iaload, 1) := by decide +kernel
theorem dX13_run_64 : decode cX13_run 64 = .ok (.iconst 0, 1) := by decide +kernel
theorem dX13_run_65 : decode cX13_run 65 = .ok (.invokevirtual 559, 3) := by decide +kernel
theorem dX13_run_68 : decode cX13_run 68 = .ok (.ifCond .eq 7, 3) := by decide +kernel
theorem dX13_run_71 : decode cX13_run 71 = .ok (.iconst 1, 1) := by decide +kernel
theorem dX13_run_72 : decode cX13_run 72 = .ok (.goto 4, 3) := by decide +kernel
theorem dX13_run_75 : decode cX13_run 75 = .ok (.iconst 0, 1) := by decide +kernel
theorem dX13_run_76 : decode cX13_run 76 = .ok (.istore_n 2, 1) := by decide +kernel
theorem dX13_run_77 : decode cX13_run 77 = .ok (.iload_n 2, 1) := by decide +kernel
theorem dX13_run_78 : decode cX13_run 78 = .ok (.ifCond .eq 19, 3) := by decide +kernel
theorem dX13_run_81 : decode cX13_run 81 = .ok (.aload_n 0, 1) := by decide +kernel
theorem dX13_run_82 : decode cX13_run 82 = .ok (.getfield 512, 3) := by decide +kernel
theorem dX13_run_85 : decode cX13_run 85 = .ok (.iconst 1, 1) := by decide +kernel
theorem dX13_run_86 : decode cX13_run 86 = .ok (.if_icmp .ne 11, 3) := by decide +kernel
theorem dX13_run_89 : decode cX13_run 89 = .ok (.aload_n 0, 1) := by decide +kernel
theorem dX13_run_90 : decode cX13_run 90 = .ok (.invokevirtual 563, 3) := by decide +kernel
theorem dX13_run_93 : decode cX13_run 93 = .ok (.istore_n 2, 1) := by decide +kernel
theorem dX13_run_94 : decode cX13_run 94 = .ok (.goto (-17), 3) := by decide +kernel
theorem dX13_run_97 : decode cX13_run 97 = .ok (.aload_n 0, 1) := by decide +kernel
theorem dX13_run_98 : decode cX13_run 98 = .ok (.getfield 512, 3) := by decide +kernel
theorem dX13_run_101 : decode cX13_run 101 = .ok (.ireturn, 1) := by decide +kernel
theorem dX13_calls_0 : decode cX13_calls 0 = .ok (.aload_n 0, 1) := by decide +kernel
theorem dX13_calls_1 : decode cX13_calls 1 = .ok (.getfield 544, 3) := by decide +kernel
theorem dX13_calls_4 : decode cX13_calls 4 = .ok (.aload_n 0, 1) := by decide +kernel
theorem dX13_calls_5 : decode cX13_calls 5 = .ok (.getfield 71, 3) := by decide +kernel
theorem dX13_calls_8 : decode cX13_calls 8 = .ok (.iload_n 1, 1) := by decide +kernel
theorem dX13_calls_9 : decode cX13_calls 9 = .ok (.iaload, 1) := by decide +kernel
theorem dX13_calls_10 : decode cX13_calls 10 = .ok (.iadd, 1) := by decide +kernel
theorem dX13_calls_11 : decode cX13_calls 11 = .ok (.aload_n 0, 1) := by decide +kernel
theorem dX13_calls_12 : decode cX13_calls 12 = .ok (.getfield 530, 3) := by decide +kernel
theorem dX13_calls_15 : decode cX13_calls 15 = .ok (.if_icmp .le 16, 3) := by decide +kernel
theorem dX13_calls_18 : decode cX13_calls 18 = .ok (.aload_n 0, 1) := by decide +kernel
theorem dX13_calls_19 : decode cX13_calls 19 = .ok (.bipush 6, 2) := by decide +kernel
theorem dX13_calls_21 : decode cX13_calls 21 = .ok (.putfield 512, 3) := by decide +kernel
theorem dX13_calls_24 : decode cX13_calls 24 = .ok (.aload_n 0, 1) := by decide +kernel
theorem dX13_calls_25 : decode cX13_calls 25 = .ok (.iload_n 2, 1) := by decide +kernel
theorem dX13_calls_26 : decode cX13_calls 26 = .ok (.putfield 541, 3) := by decide +kernel
theorem dX13_calls_29 : decode cX13_calls 29 = .ok (.iconst 0, 1) := by decide +kernel
theorem dX13_calls_30 : decode cX13_calls 30 = .ok (.ireturn, 1) := by decide +kernel
theorem dX13_calls_31 : decode cX13_calls 31 = .ok (.aload_n 0, 1) := by decide +kernel
theorem dX13_calls_32 : decode cX13_calls 32 = .ok (.dup, 1) := by decide +kernel
theorem dX13_calls_33 : decode cX13_calls 33 = .ok (.getfield 544, 3) := by decide +kernel
theorem dX13_calls_36 : decode cX13_calls 36 = .ok (.aload_n 0, 1) := by decide +kernel
theorem dX13_calls_37 : decode cX13_calls 37 = .ok (.getfield 71, 3) := by decide +kernel
theorem dX13_calls_40 : decode cX13_calls 40 = .ok (.iload_n 1, 1) := by decide +kernel
theorem dX13_calls_41 : decode cX13_calls 41 = .ok (.iaload, 1) := by decide +kernel
theorem dX13_calls_42 : decode cX13_calls 42 = .ok (.iadd, 1) := by decide +kernel
theorem dX13_calls_43 : decode cX13_calls 43 = .ok (.putfield 544, 3) := by decide +kernel
theorem dX13_calls_46 : decode cX13_calls 46 = .ok (.aload_n 0, 1) := by decide +kernel
theorem dX13_calls_47 : decode cX13_calls 47 = .ok (.getfield 533, 3) := by decide +kernel
theorem dX13_calls_50 : decode cX13_calls 50 = .ok (.ifCond .ne 10, 3) := by decide +kernel
theorem dX13_calls_53 : decode cX13_calls 53 = .ok (.aload_n 0, 1) := by decide +kernel
theorem dX13_calls_54 : decode cX13_calls 54 = .ok (.getfield 291, 3) := by decide +kernel
theorem dX13_calls_57 : decode cX13_calls 57 = .ok (.goto 7, 3) := by decide +kernel
theorem dX13_calls_60 : decode cX13_calls 60 = .ok (.aload_n 0, 1) := by decide +kernel
theorem dX13_calls_61 : decode cX13_calls 61 = .ok (.getfield 547, 3) := by decide +kernel
theorem dX13_calls_64 : decode cX13_calls 64 = .ok (.istore 4, 2) := by decide +kernel
theorem dX13_calls_66 : decode cX13_calls 66 = .ok (.iconst 0, 1) := by decide +kernel
theorem dX13_calls_67 : decode cX13_calls 67 = .ok (.istore 5, 2) := by decide +kernel
theorem dX13_calls_69 : decode cX13_calls 69 = .ok (.iconst 0, 1) := by decide +kernel
theorem dX13_calls_70 : decode cX13_calls 70 = .ok (.istore 6, 2) := by decide +kernel
theorem dX13_calls_72 : decode cX13_calls 72 = .ok (.iload 6, 2) := by decide +kernel
theorem dX13_calls_74 : decode cX13_calls 74 = .ok (.aload_n 0, 1) := by decide +kernel
theorem dX13_calls_75 : decode cX13_calls 75 = .ok (.getfield 68, 3) := by decide +kernel
theorem dX13_calls_78 : decode cX13_calls 78 = .ok (.iload_n 1, 1) := by decide +kernel
theorem dX13_calls_79 : decode cX13_calls 79 = .ok (.iaload, 1) := by decide +kernel
theorem dX13_calls_80 : decode cX13_calls 80 = .ok (.if_icmp .ge 36, 3) := by decide +kernel
theorem dX13_calls_83 : decode cX13_calls 83 = .ok (.iload 5, 2) := by decide +kernel
theorem dX13_calls_85 : decode cX13_calls 85 = .ok (.aload_n 0, 1) := by decide +kernel
theorem dX13_calls_86 : decode cX13_calls 86 = .ok (.getfield 89, 3) := by decide +kernel
theorem dX13_calls_89 : decode cX13_calls 89 = .ok (.aload_n 0, 1) := by decide +kernel
theorem dX13_calls_90 : decode cX13_calls 90 = .ok (.getfield 80, 3) := by decide +kernel
theorem dX13_calls_93 : decode cX13_calls 93 = .ok (.iload_n 1, 1) := by decide +kernel
theorem dX13_calls_94 : decode cX13_calls 94 = .ok (.iaload, 1) := by decide +kernel
theorem dX13_calls_95 : decode cX13_calls 95 = .ok (.iload 6, 2) := by decide +kernel
theorem dX13_calls_97 : decode cX13_calls 97 = .ok (.iadd, 1) := by decide +kernel
theorem dX13_calls_98 : decode cX13_calls 98 = .ok (.iaload, 1) := by decide +kernel
theorem dX13_calls_99 : decode cX13_calls 99 = .ok (.ifCond .ne 7, 3) := by decide +kernel
theorem dX13_calls_102 : decode cX13_calls 102 = .ok (.iconst 1, 1) := by decide +kernel
theorem dX13_calls_103 : decode cX13_calls 103 = .ok (.goto 4, 3) := by decide +kernel
theorem dX13_calls_106 : decode cX13_calls 106 = .ok (.iconst 2, 1) := by decide +kernel
theorem dX13_calls_107 : decode cX13_calls 107 = .ok (.iadd, 1) := by decide +kernel
theorem dX13_calls_108 : decode cX13_calls 108 = .ok (.istore 5, 2) := by decide +kernel
theorem dX13_calls_110 : decode cX13_calls 110 = .ok (.iinc 6 1, 3) := by decide +kernel
theorem dX13_calls_113 : decode cX13_calls 113 = .ok (.goto (-41), 3) := by decide +kernel
theorem dX13_calls_116 : decode cX13_calls 116 = .ok (.aload_n 0, 1) := by decide +kernel
theorem dX13_calls_117 : decode cX13_calls 117 = .ok (.dup, 1) := by decide +kernel
theorem dX13_calls_118 : decode cX13_calls 118 = .ok (.getfield 497, 3) := by decide +kernel
theorem dX13_calls_121 : decode cX13_calls 121 = .ok (.iload 5, 2) := by decide +kernel
theorem dX13_calls_123 : decode cX13_calls 123 = .ok (.isub, 1) := by decide +kernel
theorem dX13_calls_124 : decode cX13_calls 124 = .ok (.putfield 497, 3) := by decide +kernel
theorem dX13_calls_127 : decode cX13_calls 127 = .ok (.iconst 0, 1) := by decide +kernel
theorem dX13_calls_128 : decode cX13_calls 128 = .ok (.istore 6, 2) := by decide +kernel
theorem dX13_calls_130 : decode cX13_calls 130 = .ok (.iload 6, 2) := by decide +kernel
theorem dX13_calls_132 : decode cX13_calls 132 = .ok (.aload_n 0, 1) := by decide +kernel
theorem dX13_calls_133 : decode cX13_calls 133 = .ok (.getfield 74, 3) := by decide +kernel
theorem dX13_calls_136 : decode cX13_calls 136 = .ok (.iload_n 1, 1) := by decide +kernel
theorem dX13_calls_137 : decode cX13_calls 137 = .ok (.iaload, 1) := by decide +kernel
theorem dX13_calls_138 : decode cX13_calls 138 = .ok (.if_icmp .ge 42, 3) := by decide +kernel
theorem dX13_calls_141 : decode cX13_calls 141 = .ok (.aload_n 0, 1) := by decide +kernel
theorem dX13_calls_142 : decode cX13_calls 142 = .ok (.getfield 135, 3) := by decide +kernel
theorem dX13_calls_145 : decode cX13_calls 145 = .ok (.iload 4, 2) := by decide +kernel
theorem dX13_calls_147 : decode cX13_calls 147 = .ok (.iload 6, 2) := by decide +kernel
theorem dX13_calls_149 : decode cX13_calls 149 = .ok (.iadd, 1) := by decide +kernel
theorem dX13_calls_150 : decode cX13_calls 150 = .ok (.iload 6, 2) := by decide +kernel
theorem dX13_calls_152 : decode cX13_calls 152 = .ok (.iload 5, 2) := by decide +kernel
theorem dX13_calls_154 : decode cX13_calls 154 = .ok (.if_icmp .ge 18, 3) := by decide +kernel
theorem dX13_calls_157 : decode cX13_calls 157 = .ok (.aload_n 0, 1) := by decide +kernel
theorem dX13_calls_158 : decode cX13_calls 158 = .ok (.getfield 126, 3) := by decide +kernel
theorem dX13_calls_161 : decode cX13_calls 161 = .ok (.aload_n 0, 1) := by decide +kernel
theorem dX13_calls_162 : decode cX13_calls 162 = .ok (.getfield 497, 3) := by decide +kernel
theorem dX13_calls_165 : decode cX13_calls 165 = .ok (.iload 6, 2) := by decide +kernel
theorem dX13_calls_167 : decode cX13_calls 167 = .ok (.iadd, 1) := by decide +kernel
theorem dX13_calls_168 : decode cX13_calls 168 = .ok (.iaload, 1) := by decide +kernel
theorem dX13_calls_169 : decode cX13_calls 169 = .ok (.goto 4, 3) := by decide +kernel
theorem dX13_calls_172 : decode cX13_calls 172 = .ok (.iconst 0, 1) := by decide +kernel
theorem dX13_calls_173 : decode cX13_calls 173 = .ok (.iastore, 1) := by decide +kernel
theorem dX13_calls_174 : decode cX13_calls 174 = .ok (.iinc 6 1, 3) := by decide +kernel
theorem dX13_calls_177 : decode cX13_calls 177 = .ok (.goto (-47), 3) := by decide +kernel
theorem dX13_calls_180 : decode cX13_calls 180 = .ok (.aload_n 0, 1) := by decide +kernel
theorem dX13_calls_181 : decode cX13_calls 181 = .ok (.getfield 138, 3) := by decide +kernel
theorem dX13_calls_184 : decode cX13_calls 184 = .ok (.aload_n 0, 1) := by decide +kernel
theorem dX13_calls_185 : decode cX13_calls 185 = .ok (.getfield 533, 3) := by decide +kernel
theorem dX13_calls_188 : decode cX13_calls 188 = .ok (.iload_n 1, 1) := by decide +kernel
theorem dX13_calls_189 : decode cX13_calls 189 = .ok (.iastore, 1) := by decide +kernel
theorem dX13_calls_190 : decode cX13_calls 190 = .ok (.aload_n 0, 1) := by decide +kernel
theorem dX13_calls_191 : decode cX13_calls 191 = .ok (.getfield 141, 3) := by decide +kernel
theorem dX13_calls_194 : decode cX13_calls 194 = .ok (.aload_n 0, 1) := by decide +kernel
theorem dX13_calls_195 : decode cX13_calls 195 = .ok (.getfield 533, 3) := by decide +kernel
theorem dX13_calls_198 : decode cX13_calls 198 = .ok (.iload_n 3, 1) := by decide +kernel
theorem dX13_calls_199 : decode cX13_calls 199 = .ok (.iastore, 1) := by decide +kernel
theorem dX13_calls_200 : decode cX13_calls 200 = .ok (.aload_n 0, 1) := by decide +kernel
theorem dX13_calls_201 : decode cX13_calls 201 = .ok (.getfield 144, 3) := by decide +kernel
theorem dX13_calls_204 : decode cX13_calls 204 = .ok (.aload_n 0, 1) := by decide +kernel
theorem dX13_calls_205 : decode cX13_calls 205 = .ok (.getfield 533, 3) := by decide +kernel
theorem dX13_calls_208 : decode cX13_calls 208 = .ok (.iload 4, 2) := by decide +kernel
theorem dX13_calls_210 : decode cX13_calls 210 = .ok (.iastore, 1) := by decide +kernel
theorem dX13_calls_211 : decode cX13_calls 211 = .ok (.aload_n 0, 1) := by decide +kernel
theorem dX13_calls_212 : decode cX13_calls 212 = .ok (.dup, 1) := by decide +kernel
theorem dX13_calls_213 : decode cX13_calls 213 = .ok (.getfield 533, 3) := by decide +kernel
theorem dX13_calls_216 : decode cX13_calls 216 = .ok (.iconst 1, 1) := by decide +kernel
theorem dX13_calls_217 : decode cX13_calls 217 = .ok (.iadd, 1) := by decide +kernel
theorem dX13_calls_218 : decode cX13_calls 218 = .ok (.putfield 533, 3) := by decide +kernel
theorem dX13_calls_221 : decode cX13_calls 221 = .ok (.aload_n 0, 1) := by decide +kernel
theorem dX13_calls_222 : decode cX13_calls 222 = .ok (.iload 4, 2) := by decide +kernel
theorem dX13_calls_224 : decode cX13_calls 224 = .ok (.putfield 550, 3) := by decide +kernel
theorem dX13_calls_227 : decode cX13_calls 227 = .ok (.aload_n 0, 1) := by decide +kernel
theorem dX13_calls_228 : decode cX13_calls 228 = .ok (.iload 4, 2) := by decide +kernel
theorem dX13_calls_230 : decode cX13_calls 230 = .ok (.aload_n 0, 1) := by decide +kernel
theorem dX13_calls_231 : decode cX13_calls 231 = .ok (.getfield 74, 3) := by decide +kernel
theorem dX13_calls_234 : decode cX13_calls 234 = .ok (.iload_n 1, 1) := by decide +kernel
theorem dX13_calls_235 : decode cX13_calls 235 = .ok (.iaload, 1) := by decide +kernel
theorem dX13_calls_236 : decode cX13_calls 236 = .ok (.iadd, 1) := by decide +kernel
theorem dX13_calls_237 : decode cX13_calls 237 = .ok (.putfield 547, 3) := by decide +kernel
theorem dX13_calls_240 : decode cX13_calls 240 = .ok (.aload_n 0, 1) := by decide +kernel
theorem dX13_calls_241 : decode cX13_calls 241 = .ok (.aload_n 0, 1) := by decide +kernel
theorem dX13_calls_242 : decode cX13_calls 242 = .ok (.getfield 77, 3) := by decide +kernel
theorem dX13_calls_245 : decode cX13_calls 245 = .ok (.iload_n 1, 1) := by decide +kernel
theorem dX13_calls_246 : decode cX13_calls 246 = .ok (.iaload, 1) := by decide +kernel
theorem dX13_calls_247 : decode cX13_calls 247 = .ok (.putfield 553, 3) := by decide +kernel
theorem dX13_calls_250 : decode cX13_calls 250 = .ok (.iconst 1, 1) := by decide +kernel
theorem dX13_calls_251 : decode cX13_calls 251 = .ok (.ireturn, 1) := by decide +kernel
