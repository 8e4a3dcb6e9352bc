/-! names: X13_element X13_named X13_level X13_binds X13_reckon X13_plainly X13_doing X13_over X13_rest X13_alone X13_twice X13_declare (tools/names.py) -/
set_option maxRecDepth 100000
theorem q3071 : (Jvm.Cond.fieldLink "CompiledHouseModel" (497 : Nat) "CompiledHouseModel" "top" "I") ∈ lw_all := lw_g (lw_at lw_m12 235 rfl) rfl
theorem f_X13_497_12 : xF RX13 497 12 72 := ⟨_, "CompiledHouseModel", rfl, by decide, Or.inl q3071, Or.inl rfl⟩
theorem q3477 : (Jvm.Cond.methodLink "CompiledHouseModel" (506 : Nat) ({ cls := "CompiledHouseModel", name := "plainly", desc := "(I)I" } : Jvm.MethodName)) ∈ lw_all := lw_g (lw_at lw_m14 161 rfl) rfl
abbrev cX13_plainly : ByteArray := prog_39_method_74_code
def yX13_plainly : MethodName := ⟨RX13, "plainly", "(I)I"⟩
theorem q3480 : (Jvm.Cond.code ({ cls := "CompiledHouseModel", name := "plainly", desc := "(I)I" } : Jvm.MethodName) prog_39_method_74_code (3 : Nat) (Option.some Jvm.ClassFile.FieldType.int)) ∈ lw_all := lw_g (lw_at lw_m14 164 rfl) rfl
def kX13_plainly : xK := (yX13_plainly, cX13_plainly, 3, some .int, [])
theorem me_X13_plainly : xMe kX13_plainly 1 := ⟨q3480, q216, by decide, by decide, by decide +kernel⟩
theorem q3479 : (Jvm.Cond.instanceMethod ({ cls := "CompiledHouseModel", name := "plainly", desc := "(I)I" } : Jvm.MethodName)) ∈ lw_all := lw_g (lw_at lw_m14 163 rfl) rfl
theorem is_X13_plainly : Cond.instanceMethod kX13_plainly.y ∈ lw_all := q3479
theorem se_X13_plainly : Cond.selects RX13 kX13_plainly.y kX13_plainly.y ∈ lw_all := qs157
theorem lk_X13_506 : xLk RX13 506 yX13_plainly := Or.inl q3477
theorem q3481 : (Jvm.Cond.methodLink "CompiledHouseModel" (500 : Nat) ({ cls := "CompiledHouseModel", name := "doing", desc := "(III)I" } : Jvm.MethodName)) ∈ lw_all := lw_g (lw_at lw_m14 165 rfl) rfl
abbrev cX13_doing : ByteArray := prog_39_method_72_code
def yX13_doing : MethodName := ⟨RX13, "doing", "(III)I"⟩
theorem q3483 : (Jvm.Cond.code ({ cls := "CompiledHouseModel", name := "doing", desc := "(III)I" } : Jvm.MethodName) prog_39_method_72_code (3 : Nat) (Option.some Jvm.ClassFile.FieldType.int)) ∈ lw_all := lw_g (lw_at lw_m14 167 rfl) rfl
def kX13_doing : xK := (yX13_doing, cX13_doing, 3, some .int, [])
theorem me_X13_doing : xMe kX13_doing 3 := ⟨q3483, q216, by decide, by decide, by decide +kernel⟩
theorem q3482 : (Jvm.Cond.static ({ cls := "CompiledHouseModel", name := "doing", desc := "(III)I" } : Jvm.MethodName)) ∈ lw_all := lw_g (lw_at lw_m14 166 rfl) rfl
theorem st_X13_doing : Cond.static kX13_doing.y ∈ lw_all := q3482
theorem lk_X13_500 : xLk RX13 500 yX13_doing := Or.inl q3481
theorem q3491 : (Jvm.Cond.methodLink "CompiledHouseModel" (503 : Nat) ({ cls := "CompiledHouseModel", name := "alone", desc := "(II)I" } : Jvm.MethodName)) ∈ lw_all := lw_g (lw_at lw_m14 175 rfl) rfl
abbrev cX13_alone : ByteArray := prog_39_method_73_code
def yX13_alone : MethodName := ⟨RX13, "alone", "(II)I"⟩
theorem q3493 : (Jvm.Cond.code ({ cls := "CompiledHouseModel", name := "alone", desc := "(II)I" } : Jvm.MethodName) prog_39_method_73_code (2 : Nat) (Option.some Jvm.ClassFile.FieldType.int)) ∈ lw_all := lw_g (lw_at lw_m14 177 rfl) rfl
def kX13_alone : xK := (yX13_alone, cX13_alone, 2, some .int, [])
theorem me_X13_alone : xMe kX13_alone 2 := ⟨q3493, q216, by decide, by decide, by decide +kernel⟩
theorem q3492 : (Jvm.Cond.static ({ cls := "CompiledHouseModel", name := "alone", desc := "(II)I" } : Jvm.MethodName)) ∈ lw_all := lw_g (lw_at lw_m14 176 rfl) rfl
theorem st_X13_alone : Cond.static kX13_alone.y ∈ lw_all := q3492
theorem lk_X13_503 : xLk RX13 503 yX13_alone := Or.inl q3491
theorem q3484 : (Jvm.Cond.methodLink "CompiledHouseModel" (491 : Nat) ({ cls := "CompiledHouseModel", name := "over", desc := "(II)I" } : Jvm.MethodName)) ∈ lw_all := lw_g (lw_at lw_m14 168 rfl) rfl
abbrev cX13_over : ByteArray := prog_39_method_70_code
def yX13_over : MethodName := ⟨RX13, "over", "(II)I"⟩
theorem q3486 : (Jvm.Cond.code ({ cls := "CompiledHouseModel", name := "over", desc := "(II)I" } : Jvm.MethodName) prog_39_method_70_code (2 : Nat) (Option.some Jvm.ClassFile.FieldType.int)) ∈ lw_all := lw_g (lw_at lw_m14 170 rfl) rfl
def kX13_over : xK := (yX13_over, cX13_over, 2, some .int, [])
theorem me_X13_over : xMe kX13_over 2 := ⟨q3486, q216, by decide, by decide, by decide +kernel⟩
theorem q3485 : (Jvm.Cond.static ({ cls := "CompiledHouseModel", name := "over", desc := "(II)I" } : Jvm.MethodName)) ∈ lw_all := lw_g (lw_at lw_m14 169 rfl) rfl
theorem st_X13_over : Cond.static kX13_over.y ∈ lw_all := q3485
theorem lk_X13_491 : xLk RX13 491 yX13_over := Or.inl q3484
theorem q3488 : (Jvm.Cond.methodLink "CompiledHouseModel" (494 : Nat) ({ cls := "CompiledHouseModel", name := "rest", desc := "(II)I" } : Jvm.MethodName)) ∈ lw_all := lw_g (lw_at lw_m14 172 rfl) rfl
abbrev cX13_rest : ByteArray := prog_39_method_71_code
def yX13_rest : MethodName := ⟨RX13, "rest", "(II)I"⟩
theorem q3490 : (Jvm.Cond.code ({ cls := "CompiledHouseModel", name := "rest", desc := "(II)I" } : Jvm.MethodName) prog_39_method_71_code (2 : Nat) (Option.some Jvm.ClassFile.FieldType.int)) ∈ lw_all := lw_g (lw_at lw_m14 174 rfl) rfl
def kX13_rest : xK := (yX13_rest, cX13_rest, 2, some .int, [])
theorem me_X13_rest : xMe kX13_rest 2 := ⟨q3490, q216, by decide, by decide, by decide +kernel⟩
theorem q3489 : (Jvm.Cond.static ({ cls := "CompiledHouseModel", name := "rest", desc := "(II)I" } : Jvm.MethodName)) ∈ lw_all := lw_g (lw_at lw_m14 173 rfl) rfl
theorem st_X13_rest : Cond.static kX13_rest.y ∈ lw_all := q3489
theorem lk_X13_494 : xLk RX13 494 yX13_rest := Or.inl q3488
theorem q3487 : (Jvm.Cond.constant "CompiledHouseModel" (490 : Nat) (-2147483648 : Int32)) ∈ lw_all := lw_g (lw_at lw_m14 171 rfl) rfl
theorem dX13_element_0 : decode cX13_element 0 = .ok (.aload_n 0, 1) := by decide +kernel
theorem dX13_element_1 : decode cX13_element 1 = .ok (.getfield 22, 3) := by decide +kernel
theorem dX13_element_4 : decode cX13_element 4 = .ok (.aload_n 0, 1) := by decide +kernel
theorem dX13_element_5 : decode cX13_element 5 = .ok (.getfield 233, 3) := by decide +kernel
theorem dX13_element_8 : decode cX13_element 8 = .ok (.iaload, 1) := by decide +kernel
theorem dX13_element_9 : decode cX13_element 9 = .ok (.istore_n 2, 1) := by decide +kernel
theorem dX13_element_10 : decode cX13_element 10 = .ok (.iload_n 1, 1) := by decide +kernel
theorem dX13_element_11 : decode cX13_element 11 = .ok (.iconst (-1), 1) := by decide +kernel
theorem dX13_element_12 : decode cX13_element 12 = .ok (.if_icmp .ne 7, 3) := by decide +kernel
theorem dX13_element_15 : decode cX13_element 15 = .ok (.iconst 0, 1) := by decide +kernel
theorem dX13_element_16 : decode cX13_element 16 = .ok (.goto 9, 3) := by decide +kernel
theorem dX13_element_19 : decode cX13_element 19 = .ok (.aload_n 0, 1) := by decide +kernel
theorem dX13_element_20 : decode cX13_element 20 = .ok (.getfield 49, 3) := by decide +kernel
theorem dX13_element_23 : decode cX13_element 23 = .ok (.iload_n 1, 1) := by decide +kernel
theorem dX13_element_24 : decode cX13_element 24 = .ok (.iaload, 1) := by decide +kernel
theorem dX13_element_25 : decode cX13_element 25 = .ok (.istore_n 3, 1) := by decide +kernel
theorem dX13_element_26 : decode cX13_element 26 = .ok (.iload_n 1, 1) := by decide +kernel
theorem dX13_element_27 : decode cX13_element 27 = .ok (.iconst (-1), 1) := by decide +kernel
theorem dX13_element_28 : decode cX13_element 28 = .ok (.if_icmp .ne 7, 3) := by decide +kernel
theorem dX13_element_31 : decode cX13_element 31 = .ok (.iconst 1, 1) := by decide +kernel
theorem dX13_element_32 : decode cX13_element 32 = .ok (.goto 9, 3) := by decide +kernel
theorem dX13_element_35 : decode cX13_element 35 = .ok (.aload_n 0, 1) := by decide +kernel
theorem dX13_element_36 : decode cX13_element 36 = .ok (.getfield 52, 3) := by decide +kernel
theorem dX13_element_39 : decode cX13_element 39 = .ok (.iload_n 1, 1) := by decide +kernel
theorem dX13_element_40 : decode cX13_element 40 = .ok (.iaload, 1) := by decide +kernel
theorem dX13_element_41 : decode cX13_element 41 = .ok (.istore 4, 2) := by decide +kernel
theorem dX13_element_43 : decode cX13_element 43 = .ok (.iload_n 1, 1) := by decide +kernel
theorem dX13_element_44 : decode cX13_element 44 = .ok (.iconst (-1), 1) := by decide +kernel
theorem dX13_element_45 : decode cX13_element 45 = .ok (.if_icmp .eq 16, 3) := by decide +kernel
theorem dX13_element_48 : decode cX13_element 48 = .ok (.aload_n 0, 1) := by decide +kernel
theorem dX13_element_49 : decode cX13_element 49 = .ok (.getfield 59, 3) := by decide +kernel
theorem dX13_element_52 : decode cX13_element 52 = .ok (.iload_n 1, 1) := by decide +kernel
theorem dX13_element_53 : decode cX13_element 53 = .ok (.baload, 1) := by decide +kernel
theorem dX13_element_54 : decode cX13_element 54 = .ok (.ifCond .eq 7, 3) := by decide +kernel
theorem dX13_element_57 : decode cX13_element 57 = .ok (.iconst 1, 1) := by decide +kernel
theorem dX13_element_58 : decode cX13_element 58 = .ok (.goto 4, 3) := by decide +kernel
theorem dX13_element_61 : decode cX13_element 61 = .ok (.iconst 0, 1) := by decide +kernel
theorem dX13_element_62 : decode cX13_element 62 = .ok (.istore 5, 2) := by decide +kernel
theorem dX13_element_64 : decode cX13_element 64 = .ok (.aload_n 0, 1) := by decide +kernel
theorem dX13_element_65 : decode cX13_element 65 = .ok (.bipush 24, 2) := by decide +kernel
theorem dX13_element_67 : decode cX13_element 67 = .ok (.invokevirtual 356, 3) := by decide +kernel
theorem dX13_element_70 : decode cX13_element 70 = .ok (.ifCond .eq 19, 3) := by decide +kernel
theorem dX13_element_73 : decode cX13_element 73 = .ok (.aload_n 0, 1) := by decide +kernel
theorem dX13_element_74 : decode cX13_element 74 = .ok (.invokevirtual 368, 3) := by decide +kernel
theorem dX13_element_77 : decode cX13_element 77 = .ok (.ifCond .eq 12, 3) := by decide +kernel
theorem dX13_element_80 : decode cX13_element 80 = .ok (.aload_n 0, 1) := by decide +kernel
theorem dX13_element_81 : decode cX13_element 81 = .ok (.bipush 25, 2) := by decide +kernel
theorem dX13_element_83 : decode cX13_element 83 = .ok (.invokevirtual 362, 3) := by decide +kernel
theorem dX13_element_86 : decode cX13_element 86 = .ok (.ifCond .ne 5, 3) := by decide +kernel
theorem dX13_element_89 : decode cX13_element 89 = .ok (.iconst 0, 1) := by decide +kernel
theorem dX13_element_90 : decode cX13_element 90 = .ok (.ireturn, 1) := by decide +kernel
theorem dX13_element_91 : decode cX13_element 91 = .ok (.aload_n 0, 1) := by decide +kernel
theorem dX13_element_92 : decode cX13_element 92 = .ok (.bipush 6, 2) := by decide +kernel
theorem dX13_element_94 : decode cX13_element 94 = .ok (.iload_n 3, 1) := by decide +kernel
theorem dX13_element_95 : decode cX13_element 95 = .ok (.iload 4, 2) := by decide +kernel
theorem dX13_element_97 : decode cX13_element 97 = .ok (.invokevirtual 401, 3) := by decide +kernel
theorem dX13_element_100 : decode cX13_element 100 = .ok (.istore 6, 2) := by decide +kernel
theorem dX13_element_102 : decode cX13_element 102 = .ok (.aload_n 0, 1) := by decide +kernel
theorem dX13_element_103 : decode cX13_element 103 = .ok (.getfield 113, 3) := by decide +kernel
theorem dX13_element_106 : decode cX13_element 106 = .ok (.iload 6, 2) := by decide +kernel
theorem dX13_element_108 : decode cX13_element 108 = .ok (.iconst 2, 1) := by decide +kernel
theorem dX13_element_109 : decode cX13_element 109 = .ok (.iload_n 2, 1) := by decide +kernel
theorem dX13_element_110 : decode cX13_element 110 = .ok (.imul, 1) := by decide +kernel
theorem dX13_element_111 : decode cX13_element 111 = .ok (.iload 5, 2) := by decide +kernel
theorem dX13_element_113 : decode cX13_element 113 = .ok (.ifCond .eq 7, 3) := by decide +kernel
theorem dX13_element_116 : decode cX13_element 116 = .ok (.iconst 1, 1) := by decide +kernel
theorem dX13_element_117 : decode cX13_element 117 = .ok (.goto 4, 3) := by decide +kernel
theorem dX13_element_120 : decode cX13_element 120 = .ok (.iconst 0, 1) := by decide +kernel
theorem dX13_element_121 : decode cX13_element 121 = .ok (.iadd, 1) := by decide +kernel
theorem dX13_element_122 : decode cX13_element 122 = .ok (.iastore, 1) := by decide +kernel
theorem dX13_element_123 : decode cX13_element 123 = .ok (.iconst 1, 1) := by decide +kernel
theorem dX13_element_124 : decode cX13_element 124 = .ok (.ireturn, 1) := by decide +kernel
theorem dX13_named_0 : decode cX13_named 0 = .ok (.aload_n 0, 1) := by decide +kernel
theorem dX13_named_1 : decode cX13_named 1 = .ok (.bipush 22, 2) := by decide +kernel
theorem dX13_named_3 : decode cX13_named 3 = .ok (.invokevirtual 257, 3) := by decide +kernel
theorem dX13_named_6 : decode cX13_named 6 = .ok (.ifCond .eq 10, 3) := by decide +kernel
theorem dX13_named_9 : decode cX13_named 9 = .ok (.aload_n 0, 1) := by decide +kernel
theorem dX13_named_10 : decode cX13_named 10 = .ok (.iload_n 1, 1) := by decide +kernel
theorem dX13_named_11 : decode cX13_named 11 = .ok (.iconst 1, 1) := by decide +kernel
theorem dX13_named_12 : decode cX13_named 12 = .ok (.invokevirtual 454, 3) := by decide +kernel
theorem dX13_named_15 : decode cX13_named 15 = .ok (.ireturn, 1) := by decide +kernel
theorem dX13_named_16 : decode cX13_named 16 = .ok (.aload_n 0, 1) := by decide +kernel
theorem dX13_named_17 : decode cX13_named 17 = .ok (.getfield 245, 3) := by decide +kernel
theorem dX13_named_20 : decode cX13_named 20 = .ok (.ifCond .ne 7, 3) := by decide +kernel
theorem dX13_named_23 : decode cX13_named 23 = .ok (.iconst (-1), 1) := by decide +kernel
theorem dX13_named_24 : decode cX13_named 24 = .ok (.goto 8, 3) := by decide +kernel
theorem dX13_named_27 : decode cX13_named 27 = .ok (.aload_n 0, 1) := by decide +kernel
theorem dX13_named_28 : decode cX13_named 28 = .ok (.iload_n 1, 1) := by decide +kernel
theorem dX13_named_29 : decode cX13_named 29 = .ok (.invokevirtual 457, 3) := by decide +kernel
theorem dX13_named_32 : decode cX13_named 32 = .ok (.istore_n 2, 1) := by decide +kernel
theorem dX13_named_33 : decode cX13_named 33 = .ok (.iload_n 2, 1) := by decide +kernel
theorem dX13_named_34 : decode cX13_named 34 = .ok (.iconst (-1), 1) := by decide +kernel
theorem dX13_named_35 : decode cX13_named 35 = .ok (.if_icmp .ne 15, 3) := by decide +kernel
theorem dX13_named_38 : decode cX13_named 38 = .ok (.aload_n 0, 1) := by decide +kernel
theorem dX13_named_39 : decode cX13_named 39 = .ok (.getfield 374, 3) := by decide +kernel
theorem dX13_named_42 : decode cX13_named 42 = .ok (.iconst (-1), 1) := by decide +kernel
theorem dX13_named_43 : decode cX13_named 43 = .ok (.if_icmp .ne 7, 3) := by decide +kernel
theorem dX13_named_46 : decode cX13_named 46 = .ok (.iconst 1, 1) := by decide +kernel
theorem dX13_named_47 : decode cX13_named 47 = .ok (.goto 4, 3) := by decide +kernel
theorem dX13_named_50 : decode cX13_named 50 = .ok (.iconst 0, 1) := by decide +kernel
theorem dX13_named_51 : decode cX13_named 51 = .ok (.istore_n 3, 1) := by decide +kernel
theorem dX13_named_52 : decode cX13_named 52 = .ok (.aload_n 0, 1) := by decide +kernel
theorem dX13_named_53 : decode cX13_named 53 = .ok (.bipush 24, 2) := by decide +kernel
theorem dX13_named_55 : decode cX13_named 55 = .ok (.invokevirtual 257, 3) := by decide +kernel
theorem dX13_named_58 : decode cX13_named 58 = .ok (.istore 4, 2) := by decide +kernel
theorem dX13_named_60 : decode cX13_named 60 = .ok (.iload_n 3, 1) := by decide +kernel
theorem dX13_named_61 : decode cX13_named 61 = .ok (.ifCond .eq 17, 3) := by decide +kernel
theorem dX13_named_64 : decode cX13_named 64 = .ok (.aload_n 0, 1) := by decide +kernel
theorem dX13_named_65 : decode cX13_named 65 = .ok (.iconst 4, 1) := by decide +kernel
theorem dX13_named_66 : decode cX13_named 66 = .ok (.aload_n 0, 1) := by decide +kernel
theorem dX13_named_67 : decode cX13_named 67 = .ok (.getfield 22, 3) := by decide +kernel
theorem dX13_named_70 : decode cX13_named 70 = .ok (.iload_n 1, 1) := by decide +kernel
theorem dX13_named_71 : decode cX13_named 71 = .ok (.iaload, 1) := by decide +kernel
theorem dX13_named_72 : decode cX13_named 72 = .ok (.invokevirtual 352, 3) := by decide +kernel
theorem dX13_named_75 : decode cX13_named 75 = .ok (.goto 40, 3) := by decide +kernel
theorem dX13_named_78 : decode cX13_named 78 = .ok (.iload_n 2, 1) := by decide +kernel
theorem dX13_named_79 : decode cX13_named 79 = .ok (.iconst (-1), 1) := by decide +kernel
theorem dX13_named_80 : decode cX13_named 80 = .ok (.if_icmp .eq 23, 3) := by decide +kernel
theorem dX13_named_83 : decode cX13_named 83 = .ok (.iload 4, 2) := by decide +kernel
theorem dX13_named_85 : decode cX13_named 85 = .ok (.aload_n 0, 1) := by decide +kernel
theorem dX13_named_86 : decode cX13_named 86 = .ok (.getfield 40, 3) := by decide +kernel
theorem dX13_named_89 : decode cX13_named 89 = .ok (.iload_n 2, 1) := by decide +kernel
theorem dX13_named_90 : decode cX13_named 90 = .ok (.iaload, 1) := by decide +kernel
theorem dX13_named_91 : decode cX13_named 91 = .ok (.iconst 2, 1) := by decide +kernel
theorem dX13_named_92 : decode cX13_named 92 = .ok (.if_icmp .ne 7, 3) := by decide +kernel
theorem dX13_named_95 : decode cX13_named 95 = .ok (.iconst 1, 1) := by decide +kernel
theorem dX13_named_96 : decode cX13_named 96 = .ok (.goto 4, 3) := by decide +kernel
theorem dX13_named_99 : decode cX13_named 99 = .ok (.iconst 0, 1) := by decide +kernel
theorem dX13_named_100 : decode cX13_named 100 = .ok (.if_icmp .eq 15, 3) := by decide +kernel
theorem dX13_named_103 : decode cX13_named 103 = .ok (.aload_n 0, 1) := by decide +kernel
theorem dX13_named_104 : decode cX13_named 104 = .ok (.bipush 6, 2) := by decide +kernel
theorem dX13_named_106 : decode cX13_named 106 = .ok (.aload_n 0, 1) := by decide +kernel
theorem dX13_named_107 : decode cX13_named 107 = .ok (.getfield 22, 3) := by decide +kernel
theorem dX13_named_110 : decode cX13_named 110 = .ok (.iload_n 1, 1) := by decide +kernel
theorem dX13_named_111 : decode cX13_named 111 = .ok (.iaload, 1) := by decide +kernel
theorem dX13_named_112 : decode cX13_named 112 = .ok (.invokevirtual 352, 3) := by decide +kernel
theorem dX13_named_115 : decode cX13_named 115 = .ok (.iload 4, 2) := by decide +kernel
theorem dX13_named_117 : decode cX13_named 117 = .ok (.ifCond .eq 25, 3) := by decide +kernel
theorem dX13_named_120 : decode cX13_named 120 = .ok (.aload_n 0, 1) := by decide +kernel
theorem dX13_named_121 : decode cX13_named 121 = .ok (.iload_n 2, 1) := by decide +kernel
theorem dX13_named_122 : decode cX13_named 122 = .ok (.invokevirtual 460, 3) := by decide +kernel
theorem dX13_named_125 : decode cX13_named 125 = .ok (.ifCond .ne 5, 3) := by decide +kernel
theorem dX13_named_128 : decode cX13_named 128 = .ok (.iconst 0, 1) := by decide +kernel
theorem dX13_named_129 : decode cX13_named 129 = .ok (.ireturn, 1) := by decide +kernel
theorem dX13_named_130 : decode cX13_named 130 = .ok (.aload_n 0, 1) := by decide +kernel
theorem dX13_named_131 : decode cX13_named 131 = .ok (.bipush 7, 2) := by decide +kernel
theorem dX13_named_133 : decode cX13_named 133 = .ok (.iconst 0, 1) := by decide +kernel
theorem dX13_named_134 : decode cX13_named 134 = .ok (.iconst 0, 1) := by decide +kernel
theorem dX13_named_135 : decode cX13_named 135 = .ok (.invokevirtual 401, 3) := by decide +kernel
theorem dX13_named_138 : decode cX13_named 138 = .ok (.pop, 1) := by decide +kernel
theorem dX13_named_139 : decode cX13_named 139 = .ok (.goto 73, 3) := by decide +kernel
theorem dX13_named_142 : decode cX13_named 142 = .ok (.iload_n 2, 1) := by decide +kernel
theorem dX13_named_143 : decode cX13_named 143 = .ok (.iconst (-1), 1) := by decide +kernel
theorem dX13_named_144 : decode cX13_named 144 = .ok (.if_icmp .eq 28, 3) := by decide +kernel
theorem dX13_named_147 : decode cX13_named 147 = .ok (.aload_n 0, 1) := by decide +kernel
theorem dX13_named_148 : decode cX13_named 148 = .ok (.getfield 40, 3) := by decide +kernel
theorem dX13_named_151 : decode cX13_named 151 = .ok (.iload_n 2, 1) := by decide +kernel
theorem dX13_named_152 : decode cX13_named 152 = .ok (.iaload, 1) := by decide +kernel
theorem dX13_named_153 : decode cX13_named 153 = .ok (.ifCond .ne 19, 3) := by decide +kernel
theorem dX13_named_156 : decode cX13_named 156 = .ok (.aload_n 0, 1) := by decide +kernel
theorem dX13_named_157 : decode cX13_named 157 = .ok (.iconst 0, 1) := by decide +kernel
theorem dX13_named_158 : decode cX13_named 158 = .ok (.aload_n 0, 1) := by decide +kernel
theorem dX13_named_159 : decode cX13_named 159 = .ok (.getfield 49, 3) := by decide +kernel
theorem dX13_named_162 : decode cX13_named 162 = .ok (.iload_n 2, 1) := by decide +kernel
theorem dX13_named_163 : decode cX13_named 163 = .ok (.iaload, 1) := by decide +kernel
theorem dX13_named_164 : decode cX13_named 164 = .ok (.iconst 0, 1) := by decide +kernel
theorem dX13_named_165 : decode cX13_named 165 = .ok (.invokevirtual 401, 3) := by decide +kernel
theorem dX13_named_168 : decode cX13_named 168 = .ok (.pop, 1) := by decide +kernel
theorem dX13_named_169 : decode cX13_named 169 = .ok (.goto 43, 3) := by decide +kernel
theorem dX13_named_172 : decode cX13_named 172 = .ok (.aload_n 0, 1) := by decide +kernel
theorem dX13_named_173 : decode cX13_named 173 = .ok (.iload_n 2, 1) := by decide +kernel
theorem dX13_named_174 : decode cX13_named 174 = .ok (.iconst (-1), 1) := by decide +kernel
theorem dX13_named_175 : decode cX13_named 175 = .ok (.if_icmp .eq 16, 3) := by decide +kernel
theorem dX13_named_178 : decode cX13_named 178 = .ok (.aload_n 0, 1) := by decide +kernel
theorem dX13_named_179 : decode cX13_named 179 = .ok (.getfield 59, 3) := by decide +kernel
theorem dX13_named_182 : decode cX13_named 182 = .ok (.iload_n 2, 1) := by decide +kernel
theorem dX13_named_183 : decode cX13_named 183 = .ok (.baload, 1) := by decide +kernel
theorem dX13_named_184 : decode cX13_named 184 = .ok (.ifCond .eq 7, 3) := by decide +kernel
theorem dX13_named_187 : decode cX13_named 187 = .ok (.iconst 1, 1) := by decide +kernel
theorem dX13_named_188 : decode cX13_named 188 = .ok (.goto 4, 3) := by decide +kernel
theorem dX13_named_191 : decode cX13_named 191 = .ok (.iconst 3, 1) := by decide +kernel
theorem dX13_named_192 : decode cX13_named 192 = .ok (.iload_n 2, 1) := by decide +kernel
theorem dX13_named_193 : decode cX13_named 193 = .ok (.iconst (-1), 1) := by decide +kernel
theorem dX13_named_194 : decode cX13_named 194 = .ok (.if_icmp .ne 7, 3) := by decide +kernel
theorem dX13_named_197 : decode cX13_named 197 = .ok (.iconst 0, 1) := by decide +kernel
theorem dX13_named_198 : decode cX13_named 198 = .ok (.goto 9, 3) := by decide +kernel
theorem dX13_named_201 : decode cX13_named 201 = .ok (.aload_n 0, 1) := by decide +kernel
theorem dX13_named_202 : decode cX13_named 202 = .ok (.getfield 49, 3) := by decide +kernel
theorem dX13_named_205 : decode cX13_named 205 = .ok (.iload_n 2, 1) := by decide +kernel
theorem dX13_named_206 : decode cX13_named 206 = .ok (.iaload, 1) := by decide +kernel
theorem dX13_named_207 : decode cX13_named 207 = .ok (.iconst 0, 1) := by decide +kernel
theorem dX13_named_208 : decode cX13_named 208 = .ok (.invokevirtual 401, 3) := by decide +kernel
theorem dX13_named_211 : decode cX13_named 211 = .ok (.pop, 1) := by decide +kernel
theorem dX13_named_212 : decode cX13_named 212 = .ok (.iconst 1, 1) := by decide +kernel
theorem dX13_named_213 : decode cX13_named 213 = .ok (.ireturn, 1) := by decide +kernel
theorem dX13_level_0 : decode cX13_level 0 = .ok (.aload_n 0, 1) := by decide +kernel
theorem dX13_level_1 : decode cX13_level 1 = .ok (.getfield 16, 3) := by decide +kernel
theorem dX13_level_4 : decode cX13_level 4 = .ok (.aload_n 0, 1) := by decide +kernel
theorem dX13_level_5 : decode cX13_level 5 = .ok (.getfield 233, 3) := by decide +kernel
theorem dX13_level_8 : decode cX13_level 8 = .ok (.iaload, 1) := by decide +kernel
theorem dX13_level_9 : decode cX13_level 9 = .ok (.iconst 4, 1) := by decide +kernel
theorem dX13_level_10 : decode cX13_level 10 = .ok (.if_icmp .eq 5, 3) := by decide +kernel
theorem dX13_level_13 : decode cX13_level 13 = .ok (.iconst (-1), 1) := by decide +kernel
theorem dX13_level_14 : decode cX13_level 14 = .ok (.ireturn, 1) := by decide +kernel
theorem dX13_level_15 : decode cX13_level 15 = .ok (.aload_n 0, 1) := by decide +kernel
theorem dX13_level_16 : decode cX13_level 16 = .ok (.getfield 19, 3) := by decide +kernel
theorem dX13_level_19 : decode cX13_level 19 = .ok (.aload_n 0, 1) := by decide +kernel
theorem dX13_level_20 : decode cX13_level 20 = .ok (.getfield 233, 3) := by decide +kernel
theorem dX13_level_23 : decode cX13_level 23 = .ok (.iaload, 1) := by decide +kernel
theorem dX13_level_24 : decode cX13_level 24 = .ok (.tableswitch 208 1 42 #[199, 208, 208, 208, 208, 208, 208, 208, 208, 208, 208, 208, 208, 184, 186, 194, 194, 196, 196, 199, 199, 208, 208, 208, 208, 208, 208, 208, 208, 208, 208, 208, 188, 190, 192, 196, 196, 202, 202, 205, 205, 205], 184) := by decide +kernel
theorem dX13_level_208 : decode cX13_level 208 = .ok (.iconst 0, 1) := by decide +kernel
theorem dX13_level_209 : decode cX13_level 209 = .ok (.ireturn, 1) := by decide +kernel
theorem dX13_level_210 : decode cX13_level 210 = .ok (.iconst 1, 1) := by decide +kernel
theorem dX13_level_211 : decode cX13_level 211 = .ok (.ireturn, 1) := by decide +kernel
theorem dX13_level_212 : decode cX13_level 212 = .ok (.iconst 2, 1) := by decide +kernel
theorem dX13_level_213 : decode cX13_level 213 = .ok (.ireturn, 1) := by decide +kernel
theorem dX13_level_214 : decode cX13_level 214 = .ok (.iconst 3, 1) := by decide +kernel
theorem dX13_level_215 : decode cX13_level 215 = .ok (.ireturn, 1) := by decide +kernel
theorem dX13_level_216 : decode cX13_level 216 = .ok (.iconst 4, 1) := by decide +kernel
theorem dX13_level_217 : decode cX13_level 217 = .ok (.ireturn, 1) := by decide +kernel
theorem dX13_level_218 : decode cX13_level 218 = .ok (.iconst 5, 1) := by decide +kernel
theorem dX13_level_219 : decode cX13_level 219 = .ok (.ireturn, 1) := by decide +kernel
theorem dX13_level_220 : decode cX13_level 220 = .ok (.bipush 6, 2) := by decide +kernel
theorem dX13_level_222 : decode cX13_level 222 = .ok (.ireturn, 1) := by decide +kernel
theorem dX13_level_223 : decode cX13_level 223 = .ok (.bipush 7, 2) := by decide +kernel
theorem dX13_level_225 : decode cX13_level 225 = .ok (.ireturn, 1) := by decide +kernel
theorem dX13_level_226 : decode cX13_level 226 = .ok (.bipush 8, 2) := by decide +kernel
theorem dX13_level_228 : decode cX13_level 228 = .ok (.ireturn, 1) := by decide +kernel
theorem dX13_level_229 : decode cX13_level 229 = .ok (.bipush 9, 2) := by decide +kernel
theorem dX13_level_231 : decode cX13_level 231 = .ok (.ireturn, 1) := by decide +kernel
theorem dX13_level_232 : decode cX13_level 232 = .ok (.iconst (-1), 1) := by decide +kernel
theorem dX13_level_233 : decode cX13_level 233 = .ok (.ireturn, 1) := by decide +kernel
theorem dX13_binds_0 : decode cX13_binds 0 = .ok (.aload_n 0, 1) := by decide +kernel
theorem dX13_binds_1 : decode cX13_binds 1 = .ok (.dup, 1) := by decide +kernel
theorem dX13_binds_2 : decode cX13_binds 2 = .ok (.getfield 285, 3) := by decide +kernel
theorem dX13_binds_5 : decode cX13_binds 5 = .ok (.iconst 1, 1) := by decide +kernel
theorem dX13_binds_6 : decode cX13_binds 6 = .ok (.isub, 1) := by decide +kernel
theorem dX13_binds_7 : decode cX13_binds 7 = .ok (.putfield 285, 3) := by decide +kernel
theorem dX13_binds_10 : decode cX13_binds 10 = .ok (.aload_n 0, 1) := by decide +kernel
theorem dX13_binds_11 : decode cX13_binds 11 = .ok (.getfield 119, 3) := by decide +kernel
theorem dX13_binds_14 : decode cX13_binds 14 = .ok (.aload_n 0, 1) := by decide +kernel
theorem dX13_binds_15 : decode cX13_binds 15 = .ok (.getfield 285, 3) := by decide +kernel
theorem dX13_binds_18 : decode cX13_binds 18 = .ok (.iaload, 1) := by decide +kernel
theorem dX13_binds_19 : decode cX13_binds 19 = .ok (.istore_n 1, 1) := by decide +kernel
theorem dX13_binds_20 : decode cX13_binds 20 = .ok (.iload_n 1, 1) := by decide +kernel
theorem dX13_binds_21 : decode cX13_binds 21 = .ok (.iconst 1, 1) := by decide +kernel
theorem dX13_binds_22 : decode cX13_binds 22 = .ok (.if_icmp .le 21, 3) := by decide +kernel
theorem dX13_binds_25 : decode cX13_binds 25 = .ok (.aload_n 0, 1) := by decide +kernel
theorem dX13_binds_26 : decode cX13_binds 26 = .ok (.bipush 10, 2) := by decide +kernel
theorem dX13_binds_28 : decode cX13_binds 28 = .ok (.aload_n 0, 1) := by decide +kernel
theorem dX13_binds_29 : decode cX13_binds 29 = .ok (.getfield 116, 3) := by decide +kernel
theorem dX13_binds_32 : decode cX13_binds 32 = .ok (.aload_n 0, 1) := by decide +kernel
theorem dX13_binds_33 : decode cX13_binds 33 = .ok (.getfield 285, 3) := by decide +kernel
theorem dX13_binds_36 : decode cX13_binds 36 = .ok (.iaload, 1) := by decide +kernel
theorem dX13_binds_37 : decode cX13_binds 37 = .ok (.iconst 0, 1) := by decide +kernel
theorem dX13_binds_38 : decode cX13_binds 38 = .ok (.invokevirtual 401, 3) := by decide +kernel
theorem dX13_binds_41 : decode cX13_binds 41 = .ok (.pop, 1) := by decide +kernel
theorem dX13_binds_42 : decode cX13_binds 42 = .ok (.return_, 1) := by decide +kernel
theorem dX13_binds_43 : decode cX13_binds 43 = .ok (.aload_n 0, 1) := by decide +kernel
theorem dX13_binds_44 : decode cX13_binds 44 = .ok (.bipush 23, 2) := by decide +kernel
theorem dX13_binds_46 : decode cX13_binds 46 = .ok (.iconst 0, 1) := by decide +kernel
theorem dX13_binds_47 : decode cX13_binds 47 = .ok (.iconst 0, 1) := by decide +kernel
theorem dX13_binds_48 : decode cX13_binds 48 = .ok (.invokevirtual 401, 3) := by decide +kernel
theorem dX13_binds_51 : decode cX13_binds 51 = .ok (.pop, 1) := by decide +kernel
theorem dX13_binds_52 : decode cX13_binds 52 = .ok (.aload_n 0, 1) := by decide +kernel
theorem dX13_binds_53 : decode cX13_binds 53 = .ok (.bipush 12, 2) := by decide +kernel
theorem dX13_binds_55 : decode cX13_binds 55 = .ok (.iconst 0, 1) := by decide +kernel
theorem dX13_binds_56 : decode cX13_binds 56 = .ok (.iconst 0, 1) := by decide +kernel
theorem dX13_binds_57 : decode cX13_binds 57 = .ok (.invokevirtual 401, 3) := by decide +kernel
theorem dX13_binds_60 : decode cX13_binds 60 = .ok (.istore_n 2, 1) := by decide +kernel
theorem dX13_binds_61 : decode cX13_binds 61 = .ok (.aload_n 0, 1) := by decide +kernel
theorem dX13_binds_62 : decode cX13_binds 62 = .ok (.getfield 107, 3) := by decide +kernel
theorem dX13_binds_65 : decode cX13_binds 65 = .ok (.aload_n 0, 1) := by decide +kernel
theorem dX13_binds_66 : decode cX13_binds 66 = .ok (.getfield 122, 3) := by decide +kernel
theorem dX13_binds_69 : decode cX13_binds 69 = .ok (.aload_n 0, 1) := by decide +kernel
theorem dX13_binds_70 : decode cX13_binds 70 = .ok (.getfield 285, 3) := by decide +kernel
theorem dX13_binds_73 : decode cX13_binds 73 = .ok (.iaload, 1) := by decide +kernel
theorem dX13_binds_74 : decode cX13_binds 74 = .ok (.aload_n 0, 1) := by decide +kernel
theorem dX13_binds_75 : decode cX13_binds 75 = .ok (.getfield 276, 3) := by decide +kernel
theorem dX13_binds_78 : decode cX13_binds 78 = .ok (.iastore, 1) := by decide +kernel
theorem dX13_binds_79 : decode cX13_binds 79 = .ok (.aload_n 0, 1) := by decide +kernel
theorem dX13_binds_80 : decode cX13_binds 80 = .ok (.iconst 0, 1) := by decide +kernel
theorem dX13_binds_81 : decode cX13_binds 81 = .ok (.iconst 1, 1) := by decide +kernel
theorem dX13_binds_82 : decode cX13_binds 82 = .ok (.iload_n 1, 1) := by decide +kernel
theorem dX13_binds_83 : decode cX13_binds 83 = .ok (.isub, 1) := by decide +kernel
theorem dX13_binds_84 : decode cX13_binds 84 = .ok (.iconst 0, 1) := by decide +kernel
theorem dX13_binds_85 : decode cX13_binds 85 = .ok (.invokevirtual 401, 3) := by decide +kernel
theorem dX13_binds_88 : decode cX13_binds 88 = .ok (.pop, 1) := by decide +kernel
theorem dX13_binds_89 : decode cX13_binds 89 = .ok (.aload_n 0, 1) := by decide +kernel
theorem dX13_binds_90 : decode cX13_binds 90 = .ok (.getfield 107, 3) := by decide +kernel
theorem dX13_binds_93 : decode cX13_binds 93 = .ok (.iload_n 2, 1) := by decide +kernel
theorem dX13_binds_94 : decode cX13_binds 94 = .ok (.aload_n 0, 1) := by decide +kernel
theorem dX13_binds_95 : decode cX13_binds 95 = .ok (.getfield 276, 3) := by decide +kernel
theorem dX13_binds_98 : decode cX13_binds 98 = .ok (.iastore, 1) := by decide +kernel
theorem dX13_binds_99 : decode cX13_binds 99 = .ok (.return_, 1) := by decide +kernel
theorem dX13_reckon_0 : decode cX13_reckon 0 = .ok (.aload_n 0, 1) := by decide +kernel
theorem dX13_reckon_1 : decode cX13_reckon 1 = .ok (.iconst 0, 1) := by decide +kernel
theorem dX13_reckon_2 : decode cX13_reckon 2 = .ok (.putfield 497, 3) := by decide +kernel
theorem dX13_reckon_5 : decode cX13_reckon 5 = .ok (.iload_n 1, 1) := by decide +kernel
theorem dX13_reckon_6 : decode cX13_reckon 6 = .ok (.istore_n 2, 1) := by decide +kernel
theorem dX13_reckon_7 : decode cX13_reckon 7 = .ok (.iload_n 2, 1) := by decide +kernel
theorem dX13_reckon_8 : decode cX13_reckon 8 = .ok (.aload_n 0, 1) := by decide +kernel
theorem dX13_reckon_9 : decode cX13_reckon 9 = .ok (.getfield 276, 3) := by decide +kernel
theorem dX13_reckon_12 : decode cX13_reckon 12 = .ok (.if_icmp .ge 12, 3) := by decide +kernel
theorem dX13_reckon_15 : decode cX13_reckon 15 = .ok (.aload_n 0, 1) := by decide +kernel
theorem dX13_reckon_16 : decode cX13_reckon 16 = .ok (.iload_n 2, 1) := by decide +kernel
theorem dX13_reckon_17 : decode cX13_reckon 17 = .ok (.invokevirtual 506, 3) := by decide +kernel
theorem dX13_reckon_20 : decode cX13_reckon 20 = .ok (.istore_n 2, 1) := by decide +kernel
theorem dX13_reckon_21 : decode cX13_reckon 21 = .ok (.goto (-14), 3) := by decide +kernel
theorem dX13_reckon_24 : decode cX13_reckon 24 = .ok (.aload_n 0, 1) := by decide +kernel
theorem dX13_reckon_25 : decode cX13_reckon 25 = .ok (.getfield 126, 3) := by decide +kernel
theorem dX13_reckon_28 : decode cX13_reckon 28 = .ok (.iconst 0, 1) := by decide +kernel
theorem dX13_reckon_29 : decode cX13_reckon 29 = .ok (.iaload, 1) := by decide +kernel
theorem dX13_reckon_30 : decode cX13_reckon 30 = .ok (.ireturn, 1) := by decide +kernel
theorem dX13_plainly_0 : decode cX13_plainly 0 = .ok (.aload_n 0, 1) := by decide +kernel
theorem dX13_plainly_1 : decode cX13_plainly 1 = .ok (.getfield 107, 3) := by decide +kernel
theorem dX13_plainly_4 : decode cX13_plainly 4 = .ok (.iload_n 1, 1) := by decide +kernel
theorem dX13_plainly_5 : decode cX13_plainly 5 = .ok (.iaload, 1) := by decide +kernel
theorem dX13_plainly_6 : decode cX13_plainly 6 = .ok (.istore_n 2, 1) := by decide +kernel
theorem dX13_plainly_7 : decode cX13_plainly 7 = .ok (.aload_n 0, 1) := by decide +kernel
theorem dX13_plainly_8 : decode cX13_plainly 8 = .ok (.getfield 104, 3) := by decide +kernel
theorem dX13_plainly_11 : decode cX13_plainly 11 = .ok (.iload_n 1, 1) := by decide +kernel
theorem dX13_plainly_12 : decode cX13_plainly 12 = .ok (.iaload, 1) := by decide +kernel
theorem dX13_plainly_13 : decode cX13_plainly 13 = .ok (.lookupswitch 228 #[(0, 59), (10, 83), (11, 132), (12, 196), (14, 198), (23, 162)], 59) := by decide +kernel
theorem dX13_plainly_72 : decode cX13_plainly 72 = .ok (.aload_n 0, 1) := by decide +kernel
theorem dX13_plainly_73 : decode cX13_plainly 73 = .ok (.getfield 126, 3) := by decide +kernel
theorem dX13_plainly_76 : decode cX13_plainly 76 = .ok (.aload_n 0, 1) := by decide +kernel
theorem dX13_plainly_77 : decode cX13_plainly 77 = .ok (.getfield 497, 3) := by decide +kernel
theorem dX13_plainly_80 : decode cX13_plainly 80 = .ok (.iload_n 2, 1) := by decide +kernel
theorem dX13_plainly_81 : decode cX13_plainly 81 = .ok (.iastore, 1) := by decide +kernel
theorem dX13_plainly_82 : decode cX13_plainly 82 = .ok (.aload_n 0, 1) := by decide +kernel
theorem dX13_plainly_83 : decode cX13_plainly 83 = .ok (.dup, 1) := by decide +kernel
theorem dX13_plainly_84 : decode cX13_plainly 84 = .ok (.getfield 497, 3) := by decide +kernel
theorem dX13_plainly_87 : decode cX13_plainly 87 = .ok (.iconst 1, 1) := by decide +kernel
theorem dX13_plainly_88 : decode cX13_plainly 88 = .ok (.iadd, 1) := by decide +kernel
theorem dX13_plainly_89 : decode cX13_plainly 89 = .ok (.putfield 497, 3) := by decide +kernel
theorem dX13_plainly_92 : decode cX13_plainly 92 = .ok (.iload_n 1, 1) := by decide +kernel
theorem dX13_plainly_93 : decode cX13_plainly 93 = .ok (.iconst 1, 1) := by decide +kernel
theorem dX13_plainly_94 : decode cX13_plainly 94 = .ok (.iadd, 1) := by decide +kernel
theorem dX13_plainly_95 : decode cX13_plainly 95 = .ok (.ireturn, 1) := by decide +kernel
theorem dX13_plainly_96 : decode cX13_plainly 96 = .ok (.aload_n 0, 1) := by decide +kernel
theorem dX13_plainly_97 : decode cX13_plainly 97 = .ok (.dup, 1) := by decide +kernel
theorem dX13_plainly_98 : decode cX13_plainly 98 = .ok (.getfield 497, 3) := by decide +kernel
theorem dX13_plainly_101 : decode cX13_plainly 101 = .ok (.iconst 1, 1) := by decide +kernel
theorem dX13_plainly_102 : decode cX13_plainly 102 = .ok (.isub, 1) := by decide +kernel
theorem dX13_plainly_103 : decode cX13_plainly 103 = .ok (.putfield 497, 3) := by decide +kernel
theorem dX13_plainly_106 : decode cX13_plainly 106 = .ok (.aload_n 0, 1) := by decide +kernel
theorem dX13_plainly_107 : decode cX13_plainly 107 = .ok (.getfield 126, 3) := by decide +kernel
theorem dX13_plainly_110 : decode cX13_plainly 110 = .ok (.aload_n 0, 1) := by decide +kernel
theorem dX13_plainly_111 : decode cX13_plainly 111 = .ok (.getfield 497, 3) := by decide +kernel
theorem dX13_plainly_114 : decode cX13_plainly 114 = .ok (.iconst 1, 1) := by decide +kernel
theorem dX13_plainly_115 : decode cX13_plainly 115 = .ok (.isub, 1) := by decide +kernel
theorem dX13_plainly_116 : decode cX13_plainly 116 = .ok (.iload_n 2, 1) := by decide +kernel
theorem dX13_plainly_117 : decode cX13_plainly 117 = .ok (.aload_n 0, 1) := by decide +kernel
theorem dX13_plainly_118 : decode cX13_plainly 118 = .ok (.getfield 126, 3) := by decide +kernel
theorem dX13_plainly_121 : decode cX13_plainly 121 = .ok (.aload_n 0, 1) := by decide +kernel
theorem dX13_plainly_122 : decode cX13_plainly 122 = .ok (.getfield 497, 3) := by decide +kernel
theorem dX13_plainly_125 : decode cX13_plainly 125 = .ok (.iconst 1, 1) := by decide +kernel
theorem dX13_plainly_126 : decode cX13_plainly 126 = .ok (.isub, 1) := by decide +kernel
theorem dX13_plainly_127 : decode cX13_plainly 127 = .ok (.iaload, 1) := by decide +kernel
theorem dX13_plainly_128 : decode cX13_plainly 128 = .ok (.aload_n 0, 1) := by decide +kernel
theorem dX13_plainly_129 : decode cX13_plainly 129 = .ok (.getfield 126, 3) := by decide +kernel
theorem dX13_plainly_132 : decode cX13_plainly 132 = .ok (.aload_n 0, 1) := by decide +kernel
theorem dX13_plainly_133 : decode cX13_plainly 133 = .ok (.getfield 497, 3) := by decide +kernel
theorem dX13_plainly_136 : decode cX13_plainly 136 = .ok (.iaload, 1) := by decide +kernel
theorem dX13_plainly_137 : decode cX13_plainly 137 = .ok (.invokestatic 500, 3) := by decide +kernel
theorem dX13_plainly_140 : decode cX13_plainly 140 = .ok (.iastore, 1) := by decide +kernel
theorem dX13_plainly_141 : decode cX13_plainly 141 = .ok (.iload_n 1, 1) := by decide +kernel
theorem dX13_plainly_142 : decode cX13_plainly 142 = .ok (.iconst 1, 1) := by decide +kernel
theorem dX13_plainly_143 : decode cX13_plainly 143 = .ok (.iadd, 1) := by decide +kernel
theorem dX13_plainly_144 : decode cX13_plainly 144 = .ok (.ireturn, 1) := by decide +kernel
theorem dX13_plainly_145 : decode cX13_plainly 145 = .ok (.aload_n 0, 1) := by decide +kernel
theorem dX13_plainly_146 : decode cX13_plainly 146 = .ok (.getfield 126, 3) := by decide +kernel
theorem dX13_plainly_149 : decode cX13_plainly 149 = .ok (.aload_n 0, 1) := by decide +kernel
theorem dX13_plainly_150 : decode cX13_plainly 150 = .ok (.getfield 497, 3) := by decide +kernel
theorem dX13_plainly_153 : decode cX13_plainly 153 = .ok (.iconst 1, 1) := by decide +kernel
theorem dX13_plainly_154 : decode cX13_plainly 154 = .ok (.isub, 1) := by decide +kernel
theorem dX13_plainly_155 : decode cX13_plainly 155 = .ok (.iload_n 2, 1) := by decide +kernel
theorem dX13_plainly_156 : decode cX13_plainly 156 = .ok (.aload_n 0, 1) := by decide +kernel
theorem dX13_plainly_157 : decode cX13_plainly 157 = .ok (.getfield 126, 3) := by decide +kernel
theorem dX13_plainly_160 : decode cX13_plainly 160 = .ok (.aload_n 0, 1) := by decide +kernel
theorem dX13_plainly_161 : decode cX13_plainly 161 = .ok (.getfield 497, 3) := by decide +kernel
theorem dX13_plainly_164 : decode cX13_plainly 164 = .ok (.iconst 1, 1) := by decide +kernel
theorem dX13_plainly_165 : decode cX13_plainly 165 = .ok (.isub, 1) := by decide +kernel
theorem dX13_plainly_166 : decode cX13_plainly 166 = .ok (.iaload, 1) := by decide +kernel
theorem dX13_plainly_167 : decode cX13_plainly 167 = .ok (.invokestatic 503, 3) := by decide +kernel
theorem dX13_plainly_170 : decode cX13_plainly 170 = .ok (.iastore, 1) := by decide +kernel
theorem dX13_plainly_171 : decode cX13_plainly 171 = .ok (.iload_n 1, 1) := by decide +kernel
theorem dX13_plainly_172 : decode cX13_plainly 172 = .ok (.iconst 1, 1) := by decide +kernel
theorem dX13_plainly_173 : decode cX13_plainly 173 = .ok (.iadd, 1) := by decide +kernel
theorem dX13_plainly_174 : decode cX13_plainly 174 = .ok (.ireturn, 1) := by decide +kernel
theorem dX13_plainly_175 : decode cX13_plainly 175 = .ok (.aload_n 0, 1) := by decide +kernel
theorem dX13_plainly_176 : decode cX13_plainly 176 = .ok (.getfield 126, 3) := by decide +kernel
theorem dX13_plainly_179 : decode cX13_plainly 179 = .ok (.aload_n 0, 1) := by decide +kernel
theorem dX13_plainly_180 : decode cX13_plainly 180 = .ok (.getfield 497, 3) := by decide +kernel
theorem dX13_plainly_183 : decode cX13_plainly 183 = .ok (.iconst 1, 1) := by decide +kernel
theorem dX13_plainly_184 : decode cX13_plainly 184 = .ok (.isub, 1) := by decide +kernel
theorem dX13_plainly_185 : decode cX13_plainly 185 = .ok (.aload_n 0, 1) := by decide +kernel
theorem dX13_plainly_186 : decode cX13_plainly 186 = .ok (.getfield 126, 3) := by decide +kernel
theorem dX13_plainly_189 : decode cX13_plainly 189 = .ok (.aload_n 0, 1) := by decide +kernel
theorem dX13_plainly_190 : decode cX13_plainly 190 = .ok (.getfield 497, 3) := by decide +kernel
theorem dX13_plainly_193 : decode cX13_plainly 193 = .ok (.iconst 1, 1) := by decide +kernel
theorem dX13_plainly_194 : decode cX13_plainly 194 = .ok (.isub, 1) := by decide +kernel
theorem dX13_plainly_195 : decode cX13_plainly 195 = .ok (.iaload, 1) := by decide +kernel
theorem dX13_plainly_196 : decode cX13_plainly 196 = .ok (.ifCond .eq 7, 3) := by decide +kernel
theorem dX13_plainly_199 : decode cX13_plainly 199 = .ok (.iconst 1, 1) := by decide +kernel
theorem dX13_plainly_200 : decode cX13_plainly 200 = .ok (.goto 4, 3) := by decide +kernel
theorem dX13_plainly_203 : decode cX13_plainly 203 = .ok (.iconst 0, 1) := by decide +kernel
theorem dX13_plainly_204 : decode cX13_plainly 204 = .ok (.iastore, 1) := by decide +kernel
theorem dX13_plainly_205 : decode cX13_plainly 205 = .ok (.iload_n 1, 1) := by decide +kernel
theorem dX13_plainly_206 : decode cX13_plainly 206 = .ok (.iconst 1, 1) := by decide +kernel
theorem dX13_plainly_207 : decode cX13_plainly 207 = .ok (.iadd, 1) := by decide +kernel
theorem dX13_plainly_208 : decode cX13_plainly 208 = .ok (.ireturn, 1) := by decide +kernel
theorem dX13_plainly_209 : decode cX13_plainly 209 = .ok (.iload_n 2, 1) := by decide +kernel
theorem dX13_plainly_210 : decode cX13_plainly 210 = .ok (.ireturn, 1) := by decide +kernel
theorem dX13_plainly_211 : decode cX13_plainly 211 = .ok (.aload_n 0, 1) := by decide +kernel
theorem dX13_plainly_212 : decode cX13_plainly 212 = .ok (.dup, 1) := by decide +kernel
theorem dX13_plainly_213 : decode cX13_plainly 213 = .ok (.getfield 497, 3) := by decide +kernel
theorem dX13_plainly_216 : decode cX13_plainly 216 = .ok (.iconst 1, 1) := by decide +kernel
theorem dX13_plainly_217 : decode cX13_plainly 217 = .ok (.isub, 1) := by decide +kernel
theorem dX13_plainly_218 : decode cX13_plainly 218 = .ok (.putfield 497, 3) := by decide +kernel
theorem dX13_plainly_221 : decode cX13_plainly 221 = .ok (.aload_n 0, 1) := by decide +kernel
theorem dX13_plainly_222 : decode cX13_plainly 222 = .ok (.getfield 126, 3) := by decide +kernel
theorem dX13_plainly_225 : decode cX13_plainly 225 = .ok (.aload_n 0, 1) := by decide +kernel
theorem dX13_plainly_226 : decode cX13_plainly 226 = .ok (.getfield 497, 3) := by decide +kernel
theorem dX13_plainly_229 : decode cX13_plainly 229 = .ok (.iaload, 1) := by decide +kernel
theorem dX13_plainly_230 : decode cX13_plainly 230 = .ok (.ifCond .eq 7, 3) := by decide +kernel
theorem dX13_plainly_233 : decode cX13_plainly 233 = .ok (.iload_n 2, 1) := by decide +kernel
theorem dX13_plainly_234 : decode cX13_plainly 234 = .ok (.goto 6, 3) := by decide +kernel
theorem dX13_plainly_237 : decode cX13_plainly 237 = .ok (.iload_n 1, 1) := by decide +kernel
theorem dX13_plainly_238 : decode cX13_plainly 238 = .ok (.iconst 1, 1) := by decide +kernel
theorem dX13_plainly_239 : decode cX13_plainly 239 = .ok (.iadd, 1) := by decide +kernel
theorem dX13_plainly_240 : decode cX13_plainly 240 = .ok (.ireturn, 1) := by decide +kernel
theorem dX13_plainly_241 : decode cX13_plainly 241 = .ok (.aload_n 0, 1) := by decide +kernel
theorem dX13_plainly_242 : decode cX13_plainly 242 = .ok (.dup, 1) := by decide +kernel
theorem dX13_plainly_243 : decode cX13_plainly 243 = .ok (.getfield 497, 3) := by decide +kernel
theorem dX13_plainly_246 : decode cX13_plainly 246 = .ok (.iconst 1, 1) := by decide +kernel
theorem dX13_plainly_247 : decode cX13_plainly 247 = .ok (.isub, 1) := by decide +kernel
theorem dX13_plainly_248 : decode cX13_plainly 248 = .ok (.putfield 497, 3) := by decide +kernel
theorem dX13_plainly_251 : decode cX13_plainly 251 = .ok (.aload_n 0, 1) := by decide +kernel
theorem dX13_plainly_252 : decode cX13_plainly 252 = .ok (.getfield 126, 3) := by decide +kernel
theorem dX13_plainly_255 : decode cX13_plainly 255 = .ok (.aload_n 0, 1) := by decide +kernel
theorem dX13_plainly_256 : decode cX13_plainly 256 = .ok (.getfield 497, 3) := by decide +kernel
theorem dX13_plainly_259 : decode cX13_plainly 259 = .ok (.iaload, 1) := by decide +kernel
theorem dX13_plainly_260 : decode cX13_plainly 260 = .ok (.ifCond .ne 7, 3) := by decide +kernel
theorem dX13_plainly_263 : decode cX13_plainly 263 = .ok (.iload_n 2, 1) := by decide +kernel
theorem dX13_plainly_264 : decode cX13_plainly 264 = .ok (.goto 6, 3) := by decide +kernel
theorem dX13_plainly_267 : decode cX13_plainly 267 = .ok (.iload_n 1, 1) := by decide +kernel
theorem dX13_plainly_268 : decode cX13_plainly 268 = .ok (.iconst 1, 1) := by decide +kernel
theorem dX13_plainly_269 : decode cX13_plainly 269 = .ok (.iadd, 1) := by decide +kernel
theorem dX13_plainly_270 : decode cX13_plainly 270 = .ok (.ireturn, 1) := by decide +kernel
theorem dX13_doing_0 : decode cX13_doing 0 = .ok (.iload_n 0, 1) := by decide +kernel
theorem dX13_doing_1 : decode cX13_doing 1 = .ok (.tableswitch 296 1 41 #[271, 296, 296, 296, 296, 296, 296, 296, 296, 296, 296, 296, 296, 296, 296, 191, 202, 224, 246, 257, 264, 296, 296, 296, 296, 296, 296, 296, 296, 296, 296, 296, 179, 183, 187, 213, 235, 278, 282, 286, 290], 179) := by decide +kernel
theorem dX13_doing_180 : decode cX13_doing 180 = .ok (.iload_n 1, 1) := by decide +kernel
theorem dX13_doing_181 : decode cX13_doing 181 = .ok (.iload_n 2, 1) := by decide +kernel
theorem dX13_doing_182 : decode cX13_doing 182 = .ok (.ior, 1) := by decide +kernel
theorem dX13_doing_183 : decode cX13_doing 183 = .ok (.ireturn, 1) := by decide +kernel
theorem dX13_doing_184 : decode cX13_doing 184 = .ok (.iload_n 1, 1) := by decide +kernel
theorem dX13_doing_185 : decode cX13_doing 185 = .ok (.iload_n 2, 1) := by decide +kernel
theorem dX13_doing_186 : decode cX13_doing 186 = .ok (.ixor, 1) := by decide +kernel
theorem dX13_doing_187 : decode cX13_doing 187 = .ok (.ireturn, 1) := by decide +kernel
theorem dX13_doing_188 : decode cX13_doing 188 = .ok (.iload_n 1, 1) := by decide +kernel
theorem dX13_doing_189 : decode cX13_doing 189 = .ok (.iload_n 2, 1) := by decide +kernel
theorem dX13_doing_190 : decode cX13_doing 190 = .ok (.iand, 1) := by decide +kernel
theorem dX13_doing_191 : decode cX13_doing 191 = .ok (.ireturn, 1) := by decide +kernel
theorem dX13_doing_192 : decode cX13_doing 192 = .ok (.iload_n 1, 1) := by decide +kernel
theorem dX13_doing_193 : decode cX13_doing 193 = .ok (.iload_n 2, 1) := by decide +kernel
theorem dX13_doing_194 : decode cX13_doing 194 = .ok (.if_icmp .ne 7, 3) := by decide +kernel
theorem dX13_doing_197 : decode cX13_doing 197 = .ok (.iconst 1, 1) := by decide +kernel
theorem dX13_doing_198 : decode cX13_doing 198 = .ok (.goto 4, 3) := by decide +kernel
theorem dX13_doing_201 : decode cX13_doing 201 = .ok (.iconst 0, 1) := by decide +kernel
theorem dX13_doing_202 : decode cX13_doing 202 = .ok (.ireturn, 1) := by decide +kernel
theorem dX13_doing_203 : decode cX13_doing 203 = .ok (.iload_n 1, 1) := by decide +kernel
theorem dX13_doing_204 : decode cX13_doing 204 = .ok (.iload_n 2, 1) := by decide +kernel
theorem dX13_doing_205 : decode cX13_doing 205 = .ok (.if_icmp .eq 7, 3) := by decide +kernel
theorem dX13_doing_208 : decode cX13_doing 208 = .ok (.iconst 1, 1) := by decide +kernel
theorem dX13_doing_209 : decode cX13_doing 209 = .ok (.goto 4, 3) := by decide +kernel
theorem dX13_doing_212 : decode cX13_doing 212 = .ok (.iconst 0, 1) := by decide +kernel
theorem dX13_doing_213 : decode cX13_doing 213 = .ok (.ireturn, 1) := by decide +kernel
theorem dX13_doing_214 : decode cX13_doing 214 = .ok (.iload_n 1, 1) := by decide +kernel
theorem dX13_doing_215 : decode cX13_doing 215 = .ok (.iload_n 2, 1) := by decide +kernel
theorem dX13_doing_216 : decode cX13_doing 216 = .ok (.if_icmp .ge 7, 3) := by decide +kernel
theorem dX13_doing_219 : decode cX13_doing 219 = .ok (.iconst 1, 1) := by decide +kernel
theorem dX13_doing_220 : decode cX13_doing 220 = .ok (.goto 4, 3) := by decide +kernel
theorem dX13_doing_223 : decode cX13_doing 223 = .ok (.iconst 0, 1) := by decide +kernel
theorem dX13_doing_224 : decode cX13_doing 224 = .ok (.ireturn, 1) := by decide +kernel
theorem dX13_doing_225 : decode cX13_doing 225 = .ok (.iload_n 1, 1) := by decide +kernel
theorem dX13_doing_226 : decode cX13_doing 226 = .ok (.iload_n 2, 1) := by decide +kernel
theorem dX13_doing_227 : decode cX13_doing 227 = .ok (.if_icmp .gt 7, 3) := by decide +kernel
theorem dX13_doing_230 : decode cX13_doing 230 = .ok (.iconst 1, 1) := by decide +kernel
theorem dX13_doing_231 : decode cX13_doing 231 = .ok (.goto 4, 3) := by decide +kernel
theorem dX13_doing_234 : decode cX13_doing 234 = .ok (.iconst 0, 1) := by decide +kernel
theorem dX13_doing_235 : decode cX13_doing 235 = .ok (.ireturn, 1) := by decide +kernel
theorem dX13_doing_236 : decode cX13_doing 236 = .ok (.iload_n 1, 1) := by decide +kernel
theorem dX13_doing_237 : decode cX13_doing 237 = .ok (.iload_n 2, 1) := by decide +kernel
theorem dX13_doing_238 : decode cX13_doing 238 = .ok (.if_icmp .le 7, 3) := by decide +kernel
theorem dX13_doing_241 : decode cX13_doing 241 = .ok (.iconst 1, 1) := by decide +kernel
theorem dX13_doing_242 : decode cX13_doing 242 = .ok (.goto 4, 3) := by decide +kernel
theorem dX13_doing_245 : decode cX13_doing 245 = .ok (.iconst 0, 1) := by decide +kernel
theorem dX13_doing_246 : decode cX13_doing 246 = .ok (.ireturn, 1) := by decide +kernel
theorem dX13_doing_247 : decode cX13_doing 247 = .ok (.iload_n 1, 1) := by decide +kernel
theorem dX13_doing_248 : decode cX13_doing 248 = .ok (.iload_n 2, 1) := by decide +kernel
theorem dX13_doing_249 : decode cX13_doing 249 = .ok (.if_icmp .lt 7, 3) := by decide +kernel
theorem dX13_doing_252 : decode cX13_doing 252 = .ok (.iconst 1, 1) := by decide +kernel
theorem dX13_doing_253 : decode cX13_doing 253 = .ok (.goto 4, 3) := by decide +kernel
theorem dX13_doing_256 : decode cX13_doing 256 = .ok (.iconst 0, 1) := by decide +kernel
theorem dX13_doing_257 : decode cX13_doing 257 = .ok (.ireturn, 1) := by decide +kernel
theorem dX13_doing_258 : decode cX13_doing 258 = .ok (.iload_n 1, 1) := by decide +kernel
theorem dX13_doing_259 : decode cX13_doing 259 = .ok (.iload_n 2, 1) := by decide +kernel
theorem dX13_doing_260 : decode cX13_doing 260 = .ok (.bipush 31, 2) := by decide +kernel
theorem dX13_doing_262 : decode cX13_doing 262 = .ok (.iand, 1) := by decide +kernel
theorem dX13_doing_263 : decode cX13_doing 263 = .ok (.ishl, 1) := by decide +kernel
theorem dX13_doing_264 : decode cX13_doing 264 = .ok (.ireturn, 1) := by decide +kernel
theorem dX13_doing_265 : decode cX13_doing 265 = .ok (.iload_n 1, 1) := by decide +kernel
theorem dX13_doing_266 : decode cX13_doing 266 = .ok (.iload_n 2, 1) := by decide +kernel
theorem dX13_doing_267 : decode cX13_doing 267 = .ok (.bipush 31, 2) := by decide +kernel
theorem dX13_doing_269 : decode cX13_doing 269 = .ok (.iand, 1) := by decide +kernel
theorem dX13_doing_270 : decode cX13_doing 270 = .ok (.ishr, 1) := by decide +kernel
theorem dX13_doing_271 : decode cX13_doing 271 = .ok (.ireturn, 1) := by decide +kernel
theorem dX13_doing_272 : decode cX13_doing 272 = .ok (.iload_n 1, 1) := by decide +kernel
theorem dX13_doing_273 : decode cX13_doing 273 = .ok (.iload_n 2, 1) := by decide +kernel
theorem dX13_doing_274 : decode cX13_doing 274 = .ok (.bipush 31, 2) := by decide +kernel
theorem dX13_doing_276 : decode cX13_doing 276 = .ok (.iand, 1) := by decide +kernel
theorem dX13_doing_277 : decode cX13_doing 277 = .ok (.iushr, 1) := by decide +kernel
theorem dX13_doing_278 : decode cX13_doing 278 = .ok (.ireturn, 1) := by decide +kernel
theorem dX13_doing_279 : decode cX13_doing 279 = .ok (.iload_n 1, 1) := by decide +kernel
theorem dX13_doing_280 : decode cX13_doing 280 = .ok (.iload_n 2, 1) := by decide +kernel
theorem dX13_doing_281 : decode cX13_doing 281 = .ok (.iadd, 1) := by decide +kernel
theorem dX13_doing_282 : decode cX13_doing 282 = .ok (.ireturn, 1) := by decide +kernel
theorem dX13_doing_283 : decode cX13_doing 283 = .ok (.iload_n 1, 1) := by decide +kernel
theorem dX13_doing_284 : decode cX13_doing 284 = .ok (.iload_n 2, 1) := by decide +kernel
theorem dX13_doing_285 : decode cX13_doing 285 = .ok (.isub, 1) := by decide +kernel
theorem dX13_doing_286 : decode cX13_doing 286 = .ok (.ireturn, 1) := by decide +kernel
theorem dX13_doing_287 : decode cX13_doing 287 = .ok (.iload_n 1, 1) := by decide +kernel
theorem dX13_doing_288 : decode cX13_doing 288 = .ok (.iload_n 2, 1) := by decide +kernel
theorem dX13_doing_289 : decode cX13_doing 289 = .ok (.imul, 1) := by decide +kernel
theorem dX13_doing_290 : decode cX13_doing 290 = .ok (.ireturn, 1) := by decide +kernel
theorem dX13_doing_291 : decode cX13_doing 291 = .ok (.iload_n 1, 1) := by decide +kernel
theorem dX13_doing_292 : decode cX13_doing 292 = .ok (.iload_n 2, 1) := by decide +kernel
theorem dX13_doing_293 : decode cX13_doing 293 = .ok (.invokestatic 491, 3) := by decide +kernel
theorem dX13_doing_296 : decode cX13_doing 296 = .ok (.ireturn, 1) := by decide +kernel
theorem dX13_doing_297 : decode cX13_doing 297 = .ok (.iload_n 1, 1) := by decide +kernel
theorem dX13_doing_298 : decode cX13_doing 298 = .ok (.iload_n 2, 1) := by decide +kernel
theorem dX13_doing_299 : decode cX13_doing 299 = .ok (.invokestatic 494, 3) := by decide +kernel
theorem dX13_doing_302 : decode cX13_doing 302 = .ok (.ireturn, 1) := by decide +kernel
theorem dX13_over_0 : decode cX13_over 0 = .ok (.iload_n 1, 1) := by decide +kernel
theorem dX13_over_1 : decode cX13_over 1 = .ok (.ifCond .ne 7, 3) := by decide +kernel
theorem dX13_over_4 : decode cX13_over 4 = .ok (.iconst (-1), 1) := by decide +kernel
theorem dX13_over_5 : decode cX13_over 5 = .ok (.goto 22, 3) := by decide +kernel
theorem dX13_over_8 : decode cX13_over 8 = .ok (.iload_n 0, 1) := by decide +kernel
theorem dX13_over_9 : decode cX13_over 9 = .ok (.ldc_w 490, 3) := by decide +kernel
theorem dX13_over_12 : decode cX13_over 12 = .ok (.if_icmp .ne 12, 3) := by decide +kernel
theorem dX13_over_15 : decode cX13_over 15 = .ok (.iload_n 1, 1) := by decide +kernel
theorem dX13_over_16 : decode cX13_over 16 = .ok (.iconst (-1), 1) := by decide +kernel
theorem dX13_over_17 : decode cX13_over 17 = .ok (.if_icmp .ne 7, 3) := by decide +kernel
theorem dX13_over_20 : decode cX13_over 20 = .ok (.iload_n 0, 1) := by decide +kernel
theorem dX13_over_21 : decode cX13_over 21 = .ok (.goto 6, 3) := by decide +kernel
theorem dX13_over_24 : decode cX13_over 24 = .ok (.iload_n 0, 1) := by decide +kernel
theorem dX13_over_25 : decode cX13_over 25 = .ok (.iload_n 1, 1) := by decide +kernel
theorem dX13_over_26 : decode cX13_over 26 = .ok (.idiv, 1) := by decide +kernel
theorem dX13_over_27 : decode cX13_over 27 = .ok (.ireturn, 1) := by decide +kernel
theorem dX13_rest_0 : decode cX13_rest 0 = .ok (.iload_n 1, 1) := by decide +kernel
theorem dX13_rest_1 : decode cX13_rest 1 = .ok (.ifCond .ne 7, 3) := by decide +kernel
theorem dX13_rest_4 : decode cX13_rest 4 = .ok (.iload_n 0, 1) := by decide +kernel
theorem dX13_rest_5 : decode cX13_rest 5 = .ok (.goto 22, 3) := by decide +kernel
theorem dX13_rest_8 : decode cX13_rest 8 = .ok (.iload_n 0, 1) := by decide +kernel
theorem dX13_rest_9 : decode cX13_rest 9 = .ok (.ldc_w 490, 3) := by decide +kernel
theorem dX13_rest_12 : decode cX13_rest 12 = .ok (.if_icmp .ne 12, 3) := by decide +kernel
theorem dX13_rest_15 : decode cX13_rest 15 = .ok (.iload_n 1, 1) := by decide +kernel
theorem dX13_rest_16 : decode cX13_rest 16 = .ok (.iconst (-1), 1) := by decide +kernel
theorem dX13_rest_17 : decode cX13_rest 17 = .ok (.if_icmp .ne 7, 3) := by decide +kernel
theorem dX13_rest_20 : decode cX13_rest 20 = .ok (.iconst 0, 1) := by decide +kernel
theorem dX13_rest_21 : decode cX13_rest 21 = .ok (.goto 6, 3) := by decide +kernel
theorem dX13_rest_24 : decode cX13_rest 24 = .ok (.iload_n 0, 1) := by decide +kernel
theorem dX13_rest_25 : decode cX13_rest 25 = .ok (.iload_n 1, 1) := by decide +kernel
theorem dX13_rest_26 : decode cX13_rest 26 = .ok (.irem, 1) := by decide +kernel
theorem dX13_rest_27 : decode cX13_rest 27 = .ok (.ireturn, 1) := by decide +kernel
theorem dX13_alone_0 : decode cX13_alone 0 = .ok (.iload_n 0, 1) := by decide +kernel
theorem dX13_alone_1 : decode cX13_alone 1 = .ok (.bipush 39, 2) := by decide +kernel
theorem dX13_alone_3 : decode cX13_alone 3 = .ok (.if_icmp .ne 8, 3) := by decide +kernel
theorem dX13_alone_6 : decode cX13_alone 6 = .ok (.iload_n 1, 1) := by decide +kernel
theorem dX13_alone_7 : decode cX13_alone 7 = .ok (.ineg, 1) := by decide +kernel
theorem dX13_alone_8 : decode cX13_alone 8 = .ok (.goto 24, 3) := by decide +kernel
theorem dX13_alone_11 : decode cX13_alone 11 = .ok (.iload_n 0, 1) := by decide +kernel
theorem dX13_alone_12 : decode cX13_alone 12 = .ok (.bipush 43, 2) := by decide +kernel
theorem dX13_alone_14 : decode cX13_alone 14 = .ok (.if_icmp .ne 9, 3) := by decide +kernel
theorem dX13_alone_17 : decode cX13_alone 17 = .ok (.iload_n 1, 1) := by decide +kernel
theorem dX13_alone_18 : decode cX13_alone 18 = .ok (.iconst (-1), 1) := by decide +kernel
theorem dX13_alone_19 : decode cX13_alone 19 = .ok (.ixor, 1) := by decide +kernel
theorem dX13_alone_20 : decode cX13_alone 20 = .ok (.goto 12, 3) := by decide +kernel
theorem dX13_alone_23 : decode cX13_alone 23 = .ok (.iload_n 1, 1) := by decide +kernel
theorem dX13_alone_24 : decode cX13_alone 24 = .ok (.ifCond .ne 7, 3) := by decide +kernel
theorem dX13_alone_27 : decode cX13_alone 27 = .ok (.iconst 1, 1) := by decide +kernel
theorem dX13_alone_28 : decode cX13_alone 28 = .ok (.goto 4, 3) := by decide +kernel
theorem dX13_alone_31 : decode cX13_alone 31 = .ok (.iconst 0, 1) := by decide +kernel
theorem dX13_alone_32 : decode cX13_alone 32 = .ok (.ireturn, 1) := by decide +kernel
theorem dX13_twice_0 : decode cX13_twice 0 = .ok (.aload_n 0, 1) := by decide +kernel
theorem dX13_twice_1 : decode cX13_twice 1 = .ok (.getfield 245, 3) := by decide +kernel
theorem dX13_twice_4 : decode cX13_twice 4 = .ok (.ifCond .ne 4, 3) := by decide +kernel
theorem dX13_twice_7 : decode cX13_twice 7 = .ok (.return_, 1) := by decide +kernel
theorem dX13_twice_8 : decode cX13_twice 8 = .ok (.iconst 0, 1) := by decide +kernel
theorem dX13_twice_9 : decode cX13_twice 9 = .ok (.istore_n 2, 1) := by decide +kernel
theorem dX13_twice_10 : decode cX13_twice 10 = .ok (.iconst 0, 1) := by decide +kernel
theorem dX13_twice_11 : decode cX13_twice 11 = .ok (.istore_n 3, 1) := by decide +kernel
theorem dX13_twice_12 : decode cX13_twice 12 = .ok (.iload_n 3, 1) := by decide +kernel
theorem dX13_twice_13 : decode cX13_twice 13 = .ok (.aload_n 0, 1) := by decide +kernel
theorem dX13_twice_14 : decode cX13_twice 14 = .ok (.getfield 279, 3) := by decide +kernel
theorem dX13_twice_17 : decode cX13_twice 17 = .ok (.if_icmp .ge 47, 3) := by decide +kernel
theorem dX13_twice_20 : decode cX13_twice 20 = .ok (.iload_n 2, 1) := by decide +kernel
theorem dX13_twice_21 : decode cX13_twice 21 = .ok (.ifCond .ne 31, 3) := by decide +kernel
theorem dX13_twice_24 : decode cX13_twice 24 = .ok (.aload_n 0, 1) := by decide +kernel
theorem dX13_twice_25 : decode cX13_twice 25 = .ok (.getfield 46, 3) := by decide +kernel
theorem dX13_twice_28 : decode cX13_twice 28 = .ok (.iload_n 3, 1) := by decide +kernel
theorem dX13_twice_29 : decode cX13_twice 29 = .ok (.iaload, 1) := by decide +kernel
theorem dX13_twice_30 : decode cX13_twice 30 = .ok (.aload_n 0, 1) := by decide +kernel
theorem dX13_twice_31 : decode cX13_twice 31 = .ok (.getfield 282, 3) := by decide +kernel
theorem dX13_twice_34 : decode cX13_twice 34 = .ok (.if_icmp .ne 22, 3) := by decide +kernel
theorem dX13_twice_37 : decode cX13_twice 37 = .ok (.aload_n 0, 1) := by decide +kernel
theorem dX13_twice_38 : decode cX13_twice 38 = .ok (.getfield 37, 3) := by decide +kernel
theorem dX13_twice_41 : decode cX13_twice 41 = .ok (.iload_n 3, 1) := by decide +kernel
theorem dX13_twice_42 : decode cX13_twice 42 = .ok (.iaload, 1) := by decide +kernel
theorem dX13_twice_43 : decode cX13_twice 43 = .ok (.aload_n 0, 1) := by decide +kernel
theorem dX13_twice_44 : decode cX13_twice 44 = .ok (.getfield 19, 3) := by decide +kernel
theorem dX13_twice_47 : decode cX13_twice 47 = .ok (.iload_n 1, 1) := by decide +kernel
theorem dX13_twice_48 : decode cX13_twice 48 = .ok (.iaload, 1) := by decide +kernel
theorem dX13_twice_49 : decode cX13_twice 49 = .ok (.if_icmp .ne 7, 3) := by decide +kernel
theorem dX13_twice_52 : decode cX13_twice 52 = .ok (.iconst 1, 1) := by decide +kernel
theorem dX13_twice_53 : decode cX13_twice 53 = .ok (.goto 4, 3) := by decide +kernel
theorem dX13_twice_56 : decode cX13_twice 56 = .ok (.iconst 0, 1) := by decide +kernel
theorem dX13_twice_57 : decode cX13_twice 57 = .ok (.istore_n 2, 1) := by decide +kernel
theorem dX13_twice_58 : decode cX13_twice 58 = .ok (.iinc 3 1, 3) := by decide +kernel
theorem dX13_twice_61 : decode cX13_twice 61 = .ok (.goto (-49), 3) := by decide +kernel
theorem dX13_twice_64 : decode cX13_twice 64 = .ok (.iconst 0, 1) := by decide +kernel
theorem dX13_twice_65 : decode cX13_twice 65 = .ok (.istore_n 3, 1) := by decide +kernel
theorem dX13_twice_66 : decode cX13_twice 66 = .ok (.iload_n 3, 1) := by decide +kernel
theorem dX13_twice_67 : decode cX13_twice 67 = .ok (.aload_n 0, 1) := by decide +kernel
theorem dX13_twice_68 : decode cX13_twice 68 = .ok (.getfield 297, 3) := by decide +kernel
theorem dX13_twice_71 : decode cX13_twice 71 = .ok (.if_icmp .ge 56, 3) := by decide +kernel
theorem dX13_twice_74 : decode cX13_twice 74 = .ok (.aload_n 0, 1) := by decide +kernel
theorem dX13_twice_75 : decode cX13_twice 75 = .ok (.getfield 282, 3) := by decide +kernel
theorem dX13_twice_78 : decode cX13_twice 78 = .ok (.ifCond .ne 49, 3) := by decide +kernel
theorem dX13_twice_81 : decode cX13_twice 81 = .ok (.iload_n 2, 1) := by decide +kernel
theorem dX13_twice_82 : decode cX13_twice 82 = .ok (.ifCond .ne 33, 3) := by decide +kernel
theorem dX13_twice_85 : decode cX13_twice 85 = .ok (.aload_n 0, 1) := by decide +kernel
theorem dX13_twice_86 : decode cX13_twice 86 = .ok (.getfield 62, 3) := by decide +kernel
theorem dX13_twice_89 : decode cX13_twice 89 = .ok (.iload_n 3, 1) := by decide +kernel
theorem dX13_twice_90 : decode cX13_twice 90 = .ok (.iaload, 1) := by decide +kernel
theorem dX13_twice_91 : decode cX13_twice 91 = .ok (.aload_n 0, 1) := by decide +kernel
theorem dX13_twice_92 : decode cX13_twice 92 = .ok (.getfield 19, 3) := by decide +kernel
theorem dX13_twice_95 : decode cX13_twice 95 = .ok (.iload_n 1, 1) := by decide +kernel
theorem dX13_twice_96 : decode cX13_twice 96 = .ok (.iaload, 1) := by decide +kernel
theorem dX13_twice_97 : decode cX13_twice 97 = .ok (.if_icmp .ne 22, 3) := by decide +kernel
theorem dX13_twice_100 : decode cX13_twice 100 = .ok (.aload_n 0, 1) := by decide +kernel
theorem dX13_twice_101 : decode cX13_twice 101 = .ok (.getfield 65, 3) := by decide +kernel
theorem dX13_twice_104 : decode cX13_twice 104 = .ok (.iload_n 3, 1) := by decide +kernel
theorem dX13_twice_105 : decode cX13_twice 105 = .ok (.iaload, 1) := by decide +kernel
theorem dX13_twice_106 : decode cX13_twice 106 = .ok (.aload_n 0, 1) := by decide +kernel
theorem dX13_twice_107 : decode cX13_twice 107 = .ok (.getfield 22, 3) := by decide +kernel
theorem dX13_twice_110 : decode cX13_twice 110 = .ok (.iload_n 1, 1) := by decide +kernel
theorem dX13_twice_111 : decode cX13_twice 111 = .ok (.iaload, 1) := by decide +kernel
theorem dX13_twice_112 : decode cX13_twice 112 = .ok (.if_icmp .ge 7, 3) := by decide +kernel
theorem dX13_twice_115 : decode cX13_twice 115 = .ok (.iconst 1, 1) := by decide +kernel
theorem dX13_twice_116 : decode cX13_twice 116 = .ok (.goto 4, 3) := by decide +kernel
theorem dX13_twice_119 : decode cX13_twice 119 = .ok (.iconst 0, 1) := by decide +kernel
theorem dX13_twice_120 : decode cX13_twice 120 = .ok (.istore_n 2, 1) := by decide +kernel
theorem dX13_twice_121 : decode cX13_twice 121 = .ok (.iinc 3 1, 3) := by decide +kernel
theorem dX13_twice_124 : decode cX13_twice 124 = .ok (.goto (-58), 3) := by decide +kernel
theorem dX13_twice_127 : decode cX13_twice 127 = .ok (.iload_n 2, 1) := by decide +kernel
theorem dX13_twice_128 : decode cX13_twice 128 = .ok (.ifCond .eq 14, 3) := by decide +kernel
theorem dX13_twice_131 : decode cX13_twice 131 = .ok (.aload_n 0, 1) := by decide +kernel
theorem dX13_twice_132 : decode cX13_twice 132 = .ok (.iconst 5, 1) := by decide +kernel
theorem dX13_twice_133 : decode cX13_twice 133 = .ok (.aload_n 0, 1) := by decide +kernel
theorem dX13_twice_134 : decode cX13_twice 134 = .ok (.getfield 22, 3) := by decide +kernel
theorem dX13_twice_137 : decode cX13_twice 137 = .ok (.iload_n 1, 1) := by decide +kernel
theorem dX13_twice_138 : decode cX13_twice 138 = .ok (.iaload, 1) := by decide +kernel
theorem dX13_twice_139 : decode cX13_twice 139 = .ok (.invokevirtual 352, 3) := by decide +kernel
theorem dX13_twice_142 : decode cX13_twice 142 = .ok (.return_, 1) := by decide +kernel
theorem dX13_declare_0 : decode cX13_declare 0 = .ok (.aload_n 0, 1) := by decide +kernel
theorem dX13_declare_1 : decode cX13_declare 1 = .ok (.getfield 245, 3) := by decide +kernel
theorem dX13_declare_4 : decode cX13_declare 4 = .ok (.ifCond .ne 4, 3) := by decide +kernel
theorem dX13_declare_7 : decode cX13_declare 7 = .ok (.return_, 1) := by decide +kernel
theorem dX13_declare_8 : decode cX13_declare 8 = .ok (.aload_n 0, 1) := by decide +kernel
theorem dX13_declare_9 : decode cX13_declare 9 = .ok (.getfield 37, 3) := by decide +kernel
theorem dX13_declare_12 : decode cX13_declare 12 = .ok (.aload_n 0, 1) := by decide +kernel
theorem dX13_declare_13 : decode cX13_declare 13 = .ok (.getfield 279, 3) := by decide +kernel
theorem dX13_declare_16 : decode cX13_declare 16 = .ok (.aload_n 0, 1) := by decide +kernel
theorem dX13_declare_17 : decode cX13_declare 17 = .ok (.getfield 19, 3) := by decide +kernel
theorem dX13_declare_20 : decode cX13_declare 20 = .ok (.iload_n 1, 1) := by decide +kernel
theorem dX13_declare_21 : decode cX13_declare 21 = .ok (.iaload, 1) := by decide +kernel
theorem dX13_declare_22 : decode cX13_declare 22 = .ok (.iastore, 1) := by decide +kernel
theorem dX13_declare_23 : decode cX13_declare 23 = .ok (.aload_n 0, 1) := by decide +kernel
theorem dX13_declare_24 : decode cX13_declare 24 = .ok (.getfield 40, 3) := by decide +kernel
theorem dX13_declare_27 : decode cX13_declare 27 = .ok (.aload_n 0, 1) := by decide +kernel
theorem dX13_declare_28 : decode cX13_declare 28 = .ok (.getfield 279, 3) := by decide +kernel
theorem dX13_declare_31 : decode cX13_declare 31 = .ok (.iload_n 2, 1) := by decide +kernel
theorem dX13_declare_32 : decode cX13_declare 32 = .ok (.iastore, 1) := by decide +kernel
theorem dX13_declare_33 : decode cX13_declare 33 = .ok (.aload_n 0, 1) := by decide +kernel
theorem dX13_declare_34 : decode cX13_declare 34 = .ok (.getfield 43, 3) := by decide +kernel
theorem dX13_declare_37 : decode cX13_declare 37 = .ok (.aload_n 0, 1) := by decide +kernel
theorem dX13_declare_38 : decode cX13_declare 38 = .ok (.getfield 279, 3) := by decide +kernel
theorem dX13_declare_41 : decode cX13_declare 41 = .ok (.aload_n 0, 1) := by decide +kernel
theorem dX13_declare_42 : decode cX13_declare 42 = .ok (.getfield 22, 3) := by decide +kernel
theorem dX13_declare_45 : decode cX13_declare 45 = .ok (.iload_n 1, 1) := by decide +kernel
theorem dX13_declare_46 : decode cX13_declare 46 = .ok (.iaload, 1) := by decide +kernel
theorem dX13_declare_47 : decode cX13_declare 47 = .ok (.iastore, 1) := by decide +kernel
theorem dX13_declare_48 : decode cX13_declare 48 = .ok (.aload_n 0, 1) := by decide +kernel
theorem dX13_declare_49 : decode cX13_declare 49 = .ok (.getfield 46, 3) := by decide +kernel
theorem dX13_declare_52 : decode cX13_declare 52 = .ok (.aload_n 0, 1) := by decide +kernel
theorem dX13_declare_53 : decode cX13_declare 53 = .ok (.getfield 279, 3) := by decide +kernel
theorem dX13_declare_56 : decode cX13_declare 56 = .ok (.aload_n 0, 1) := by decide +kernel
theorem dX13_declare_57 : decode cX13_declare 57 = .ok (.getfield 282, 3) := by decide +kernel
theorem dX13_declare_60 : decode cX13_declare 60 = .ok (.iastore, 1) := by decide +kernel
theorem dX13_declare_61 : decode cX13_declare 61 = .ok (.aload_n 0, 1) := by decide +kernel
theorem dX13_declare_62 : decode cX13_declare 62 = .ok (.getfield 55, 3) := by decide +kernel
theorem dX13_declare_65 : decode cX13_declare 65 = .ok (.aload_n 0, 1) := by decide +kernel
theorem dX13_declare_66 : decode cX13_declare 66 = .ok (.getfield 279, 3) := by decide +kernel
theorem dX13_declare_69 : decode cX13_declare 69 = .ok (.iload_n 3, 1) := by decide +kernel
theorem dX13_declare_70 : decode cX13_declare 70 = .ok (.bastore, 1) := by decide +kernel
theorem dX13_declare_71 : decode cX13_declare 71 = .ok (.aload_n 0, 1) := by decide +kernel
theorem dX13_declare_72 : decode cX13_declare 72 = .ok (.getfield 49, 3) := by decide +kernel
theorem dX13_declare_75 : decode cX13_declare 75 = .ok (.aload_n 0, 1) := by decide +kernel
theorem dX13_declare_76 : decode cX13_declare 76 = .ok (.getfield 279, 3) := by decide +kernel
theorem dX13_declare_79 : decode cX13_declare 79 = .ok (.iload 4, 2) := by decide +kernel
theorem dX13_declare_81 : decode cX13_declare 81 = .ok (.iastore, 1) := by decide +kernel
theorem dX13_declare_82 : decode cX13_declare 82 = .ok (.aload_n 0, 1) := by decide +kernel
theorem dX13_declare_83 : decode cX13_declare 83 = .ok (.getfield 52, 3) := by decide +kernel
theorem dX13_declare_86 : decode cX13_declare 86 = .ok (.aload_n 0, 1) := by decide +kernel
theorem dX13_declare_87 : decode cX13_declare 87 = .ok (.getfield 279, 3) := by decide +kernel
theorem dX13_declare_90 : decode cX13_declare 90 = .ok (.iload 5, 2) := by decide +kernel
theorem dX13_declare_92 : decode cX13_declare 92 = .ok (.iastore, 1) := by decide +kernel
theorem dX13_declare_93 : decode cX13_declare 93 = .ok (.aload_n 0, 1) := by decide +kernel
theorem dX13_declare_94 : decode cX13_declare 94 = .ok (.getfield 59, 3) := by decide +kernel
theorem dX13_declare_97 : decode cX13_declare 97 = .ok (.aload_n 0, 1) := by decide +kernel
theorem dX13_declare_98 : decode cX13_declare 98 = .ok (.getfield 279, 3) := by decide +kernel
theorem dX13_declare_101 : decode cX13_declare 101 = .ok (.iload 6, 2) := by decide +kernel
theorem dX13_declare_103 : decode cX13_declare 103 = .ok (.bastore, 1) := by decide +kernel
theorem dX13_declare_104 : decode cX13_declare 104 = .ok (.aload_n 0, 1) := by decide +kernel
theorem dX13_declare_105 : decode cX13_declare 105 = .ok (.dup, 1) := by decide +kernel
theorem dX13_declare_106 : decode cX13_declare 106 = .ok (.getfield 279, 3) := by decide +kernel
theorem dX13_declare_109 : decode cX13_declare 109 = .ok (.iconst 1, 1) := by decide +kernel
theorem dX13_declare_110 : decode cX13_declare 110 = .ok (.iadd, 1) := by decide +kernel
theorem dX13_declare_111 : decode cX13_declare 111 = .ok (.putfield 279, 3) := by decide +kernel
theorem dX13_declare_114 : decode cX13_declare 114 = .ok (.return_, 1) := by decide +kernel
