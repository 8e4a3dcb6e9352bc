/-! names: X13_tellHere X13_sizeHere X13_choice X13_condition X13_scoped X13_loop X13_body X13_settle X13_turnLoop X13_counted X13_leaves X13_returns X13_globalInt X13_globalAt (tools/names.py) -/
set_option maxRecDepth 100000
theorem q3534 : (Jvm.Cond.methodLink "CompiledHouseModel" (359 : Nat) ({ cls := "CompiledHouseModel", name := "sizeHere", desc := "()I" } : Jvm.MethodName)) ∈ lw_all := lw_g (lw_at lw_m14 218 rfl) rfl
abbrev cX13_sizeHere : ByteArray := prog_39_method_36_code
def yX13_sizeHere : MethodName := ⟨RX13, "sizeHere", "()I"⟩
theorem q3537 : (Jvm.Cond.code ({ cls := "CompiledHouseModel", name := "sizeHere", desc := "()I" } : Jvm.MethodName) prog_39_method_36_code (3 : Nat) (Option.some Jvm.ClassFile.FieldType.int)) ∈ lw_all := lw_g (lw_at lw_m14 221 rfl) rfl
def kX13_sizeHere : xK := (yX13_sizeHere, cX13_sizeHere, 3, some .int, [])
theorem me_X13_sizeHere : xMe kX13_sizeHere 0 := ⟨q3537, q216, by decide, by decide, by decide +kernel⟩
theorem q3536 : (Jvm.Cond.instanceMethod ({ cls := "CompiledHouseModel", name := "sizeHere", desc := "()I" } : Jvm.MethodName)) ∈ lw_all := lw_g (lw_at lw_m14 220 rfl) rfl
theorem is_X13_sizeHere : Cond.instanceMethod kX13_sizeHere.y ∈ lw_all := q3536
theorem se_X13_sizeHere : Cond.selects RX13 kX13_sizeHere.y kX13_sizeHere.y ∈ lw_all := qs168
theorem lk_X13_359 : xLk RX13 359 yX13_sizeHere := Or.inl q3534
theorem q3542 : (Jvm.Cond.methodLink "CompiledHouseModel" (436 : Nat) ({ cls := "CompiledHouseModel", name := "condition", desc := "()Z" } : Jvm.MethodName)) ∈ lw_all := lw_g (lw_at lw_m14 226 rfl) rfl
abbrev cX13_condition : ByteArray := prog_39_method_49_code
def yX13_condition : MethodName := ⟨RX13, "condition", "()Z"⟩
theorem q3545 : (Jvm.Cond.code ({ cls := "CompiledHouseModel", name := "condition", desc := "()Z" } : Jvm.MethodName) prog_39_method_49_code (1 : Nat) (Option.some Jvm.ClassFile.FieldType.boolean)) ∈ lw_all := lw_g (lw_at lw_m14 229 rfl) rfl
def kX13_condition : xK := (yX13_condition, cX13_condition, 1, some .boolean, [])
theorem me_X13_condition : xMe kX13_condition 0 := ⟨q3545, q216, by decide, by decide, by decide +kernel⟩
theorem q3544 : (Jvm.Cond.instanceMethod ({ cls := "CompiledHouseModel", name := "condition", desc := "()Z" } : Jvm.MethodName)) ∈ lw_all := lw_g (lw_at lw_m14 228 rfl) rfl
theorem is_X13_condition : Cond.instanceMethod kX13_condition.y ∈ lw_all := q3544
theorem se_X13_condition : Cond.selects RX13 kX13_condition.y kX13_condition.y ∈ lw_all := qs170
theorem lk_X13_436 : xLk RX13 436 yX13_condition := Or.inl q3542
theorem q3546 : (Jvm.Cond.methodLink "CompiledHouseModel" (439 : Nat) ({ cls := "CompiledHouseModel", name := "scoped", desc := "()Z" } : Jvm.MethodName)) ∈ lw_all := lw_g (lw_at lw_m14 230 rfl) rfl
abbrev cX13_scoped : ByteArray := prog_39_method_46_code
def yX13_scoped : MethodName := ⟨RX13, "scoped", "()Z"⟩
theorem q3549 : (Jvm.Cond.code ({ cls := "CompiledHouseModel", name := "scoped", desc := "()Z" } : Jvm.MethodName) prog_39_method_46_code (3 : Nat) (Option.some Jvm.ClassFile.FieldType.boolean)) ∈ lw_all := lw_g (lw_at lw_m14 233 rfl) rfl
def kX13_scoped : xK := (yX13_scoped, cX13_scoped, 3, some .boolean, [])
theorem me_X13_scoped : xMe kX13_scoped 0 := ⟨q3549, q216, by decide, by decide, by decide +kernel⟩
theorem q3548 : (Jvm.Cond.instanceMethod ({ cls := "CompiledHouseModel", name := "scoped", desc := "()Z" } : Jvm.MethodName)) ∈ lw_all := lw_g (lw_at lw_m14 232 rfl) rfl
theorem is_X13_scoped : Cond.instanceMethod kX13_scoped.y ∈ lw_all := q3548
theorem se_X13_scoped : Cond.selects RX13 kX13_scoped.y kX13_scoped.y ∈ lw_all := qs171
theorem lk_X13_439 : xLk RX13 439 yX13_scoped := Or.inl q3546
theorem q3554 : (Jvm.Cond.methodLink "CompiledHouseModel" (451 : Nat) ({ cls := "CompiledHouseModel", name := "body", desc := "(I)Z" } : Jvm.MethodName)) ∈ lw_all := lw_g (lw_at lw_m14 238 rfl) rfl
abbrev cX13_body : ByteArray := prog_39_method_52_code
def yX13_body : MethodName := ⟨RX13, "body", "(I)Z"⟩
theorem q3557 : (Jvm.Cond.code ({ cls := "CompiledHouseModel", name := "body", desc := "(I)Z" } : Jvm.MethodName) prog_39_method_52_code (5 : Nat) (Option.some Jvm.ClassFile.FieldType.boolean)) ∈ lw_all := lw_g (lw_at lw_m15 1 rfl) rfl
def kX13_body : xK := (yX13_body, cX13_body, 5, some .boolean, [])
theorem me_X13_body : xMe kX13_body 1 := ⟨q3557, q216, by decide, by decide, by decide +kernel⟩
theorem q3556 : (Jvm.Cond.instanceMethod ({ cls := "CompiledHouseModel", name := "body", desc := "(I)Z" } : Jvm.MethodName)) ∈ lw_all := lw_g (lw_at lw_m15 0 rfl) rfl
theorem is_X13_body : Cond.instanceMethod kX13_body.y ∈ lw_all := q3556
theorem se_X13_body : Cond.selects RX13 kX13_body.y kX13_body.y ∈ lw_all := qs173
theorem lk_X13_451 : xLk RX13 451 yX13_body := Or.inl q3554
theorem q3064 : (Jvm.Cond.fieldLink "CompiledHouseModel" (448 : Nat) "CompiledHouseModel" "keptBreaks" "I") ∈ lw_all := lw_g (lw_at lw_m12 228 rfl) rfl
theorem f_X13_448_12 : xF RX13 448 12 65 := ⟨_, "CompiledHouseModel", rfl, by decide, Or.inl q3064, Or.inl rfl⟩
theorem q3558 : (Jvm.Cond.methodLink "CompiledHouseModel" (442 : Nat) ({ cls := "CompiledHouseModel", name := "settle", desc := "(II)V" } : Jvm.MethodName)) ∈ lw_all := lw_g (lw_at lw_m15 2 rfl) rfl
abbrev cX13_settle : ByteArray := prog_39_method_51_code
def yX13_settle : MethodName := ⟨RX13, "settle", "(II)V"⟩
theorem q3561 : (Jvm.Cond.code ({ cls := "CompiledHouseModel", name := "settle", desc := "(II)V" } : Jvm.MethodName) prog_39_method_51_code (5 : Nat) (Option.none : Option Jvm.ClassFile.FieldType)) ∈ lw_all := lw_g (lw_at lw_m15 5 rfl) rfl
def kX13_settle : xK := (yX13_settle, cX13_settle, 5, none, [])
theorem me_X13_settle : xMe kX13_settle 2 := ⟨q3561, q216, by decide, by decide, by decide +kernel⟩
theorem q3560 : (Jvm.Cond.instanceMethod ({ cls := "CompiledHouseModel", name := "settle", desc := "(II)V" } : Jvm.MethodName)) ∈ lw_all := lw_g (lw_at lw_m15 4 rfl) rfl
theorem is_X13_settle : Cond.instanceMethod kX13_settle.y ∈ lw_all := q3560
theorem se_X13_settle : Cond.selects RX13 kX13_settle.y kX13_settle.y ∈ lw_all := qs174
theorem lk_X13_442 : xLk RX13 442 yX13_settle := Or.inl q3558
theorem q3065 : (Jvm.Cond.fieldLink "CompiledHouseModel" (445 : Nat) "CompiledHouseModel" "keptContinues" "I") ∈ lw_all := lw_g (lw_at lw_m12 229 rfl) rfl
theorem f_X13_445_12 : xF RX13 445 12 66 := ⟨_, "CompiledHouseModel", rfl, by decide, Or.inl q3065, Or.inl rfl⟩
theorem dX13_tellHere_0 : decode cX13_tellHere 0 = .ok (.aload_n 0, 1) := by decide +kernel
theorem dX13_tellHere_1 : decode cX13_tellHere 1 = .ok (.iconst 1, 1) := by decide +kernel
theorem dX13_tellHere_2 : decode cX13_tellHere 2 = .ok (.invokevirtual 263, 3) := by decide +kernel
theorem dX13_tellHere_5 : decode cX13_tellHere 5 = .ok (.istore_n 2, 1) := by decide +kernel
theorem dX13_tellHere_6 : decode cX13_tellHere 6 = .ok (.aload_n 0, 1) := by decide +kernel
theorem dX13_tellHere_7 : decode cX13_tellHere 7 = .ok (.dup, 1) := by decide +kernel
theorem dX13_tellHere_8 : decode cX13_tellHere 8 = .ok (.getfield 233, 3) := by decide +kernel
theorem dX13_tellHere_11 : decode cX13_tellHere 11 = .ok (.iconst 1, 1) := by decide +kernel
theorem dX13_tellHere_12 : decode cX13_tellHere 12 = .ok (.iadd, 1) := by decide +kernel
theorem dX13_tellHere_13 : decode cX13_tellHere 13 = .ok (.putfield 233, 3) := by decide +kernel
theorem dX13_tellHere_16 : decode cX13_tellHere 16 = .ok (.aload_n 0, 1) := by decide +kernel
theorem dX13_tellHere_17 : decode cX13_tellHere 17 = .ok (.invokevirtual 317, 3) := by decide +kernel
theorem dX13_tellHere_20 : decode cX13_tellHere 20 = .ok (.istore_n 3, 1) := by decide +kernel
theorem dX13_tellHere_21 : decode cX13_tellHere 21 = .ok (.aload_n 0, 1) := by decide +kernel
theorem dX13_tellHere_22 : decode cX13_tellHere 22 = .ok (.getfield 230, 3) := by decide +kernel
theorem dX13_tellHere_25 : decode cX13_tellHere 25 = .ok (.ifCond .le 5, 3) := by decide +kernel
theorem dX13_tellHere_28 : decode cX13_tellHere 28 = .ok (.iconst 0, 1) := by decide +kernel
theorem dX13_tellHere_29 : decode cX13_tellHere 29 = .ok (.ireturn, 1) := by decide +kernel
theorem dX13_tellHere_30 : decode cX13_tellHere 30 = .ok (.iload_n 1, 1) := by decide +kernel
theorem dX13_tellHere_31 : decode cX13_tellHere 31 = .ok (.ifCond .eq 179, 3) := by decide +kernel
theorem dX13_tellHere_34 : decode cX13_tellHere 34 = .ok (.iload_n 2, 1) := by decide +kernel
theorem dX13_tellHere_35 : decode cX13_tellHere 35 = .ok (.ifCond .ne 12, 3) := by decide +kernel
theorem dX13_tellHere_38 : decode cX13_tellHere 38 = .ok (.aload_n 0, 1) := by decide +kernel
theorem dX13_tellHere_39 : decode cX13_tellHere 39 = .ok (.bipush 24, 2) := by decide +kernel
theorem dX13_tellHere_41 : decode cX13_tellHere 41 = .ok (.invokevirtual 257, 3) := by decide +kernel
theorem dX13_tellHere_44 : decode cX13_tellHere 44 = .ok (.ifCond .eq 166, 3) := by decide +kernel
theorem dX13_tellHere_47 : decode cX13_tellHere 47 = .ok (.aload_n 0, 1) := by decide +kernel
theorem dX13_tellHere_48 : decode cX13_tellHere 48 = .ok (.iload_n 3, 1) := by decide +kernel
theorem dX13_tellHere_49 : decode cX13_tellHere 49 = .ok (.invokevirtual 348, 3) := by decide +kernel
theorem dX13_tellHere_52 : decode cX13_tellHere 52 = .ok (.aload_n 0, 1) := by decide +kernel
theorem dX13_tellHere_53 : decode cX13_tellHere 53 = .ok (.bipush 24, 2) := by decide +kernel
theorem dX13_tellHere_55 : decode cX13_tellHere 55 = .ok (.invokevirtual 356, 3) := by decide +kernel
theorem dX13_tellHere_58 : decode cX13_tellHere 58 = .ok (.ifCond .ne 5, 3) := by decide +kernel
theorem dX13_tellHere_61 : decode cX13_tellHere 61 = .ok (.iconst 0, 1) := by decide +kernel
theorem dX13_tellHere_62 : decode cX13_tellHere 62 = .ok (.ireturn, 1) := by decide +kernel
theorem dX13_tellHere_63 : decode cX13_tellHere 63 = .ok (.aload_n 0, 1) := by decide +kernel
theorem dX13_tellHere_64 : decode cX13_tellHere 64 = .ok (.invokevirtual 359, 3) := by decide +kernel
theorem dX13_tellHere_67 : decode cX13_tellHere 67 = .ok (.istore 4, 2) := by decide +kernel
theorem dX13_tellHere_69 : decode cX13_tellHere 69 = .ok (.aload_n 0, 1) := by decide +kernel
theorem dX13_tellHere_70 : decode cX13_tellHere 70 = .ok (.bipush 25, 2) := by decide +kernel
theorem dX13_tellHere_72 : decode cX13_tellHere 72 = .ok (.invokevirtual 362, 3) := by decide +kernel
theorem dX13_tellHere_75 : decode cX13_tellHere 75 = .ok (.ifCond .ne 5, 3) := by decide +kernel
theorem dX13_tellHere_78 : decode cX13_tellHere 78 = .ok (.iconst 0, 1) := by decide +kernel
theorem dX13_tellHere_79 : decode cX13_tellHere 79 = .ok (.ireturn, 1) := by decide +kernel
theorem dX13_tellHere_80 : decode cX13_tellHere 80 = .ok (.aload_n 0, 1) := by decide +kernel
theorem dX13_tellHere_81 : decode cX13_tellHere 81 = .ok (.dup, 1) := by decide +kernel
theorem dX13_tellHere_82 : decode cX13_tellHere 82 = .ok (.getfield 383, 3) := by decide +kernel
theorem dX13_tellHere_85 : decode cX13_tellHere 85 = .ok (.iload 4, 2) := by decide +kernel
theorem dX13_tellHere_87 : decode cX13_tellHere 87 = .ok (.iconst (-1), 1) := by decide +kernel
theorem dX13_tellHere_88 : decode cX13_tellHere 88 = .ok (.if_icmp .ne 7, 3) := by decide +kernel
theorem dX13_tellHere_91 : decode cX13_tellHere 91 = .ok (.iconst 0, 1) := by decide +kernel
theorem dX13_tellHere_92 : decode cX13_tellHere 92 = .ok (.goto 18, 3) := by decide +kernel
theorem dX13_tellHere_95 : decode cX13_tellHere 95 = .ok (.iload_n 2, 1) := by decide +kernel
theorem dX13_tellHere_96 : decode cX13_tellHere 96 = .ok (.ifCond .eq 12, 3) := by decide +kernel
theorem dX13_tellHere_99 : decode cX13_tellHere 99 = .ok (.iload 4, 2) := by decide +kernel
theorem dX13_tellHere_101 : decode cX13_tellHere 101 = .ok (.iconst 3, 1) := by decide +kernel
theorem dX13_tellHere_102 : decode cX13_tellHere 102 = .ok (.iadd, 1) := by decide +kernel
theorem dX13_tellHere_103 : decode cX13_tellHere 103 = .ok (.iconst 4, 1) := by decide +kernel
theorem dX13_tellHere_104 : decode cX13_tellHere 104 = .ok (.idiv, 1) := by decide +kernel
theorem dX13_tellHere_105 : decode cX13_tellHere 105 = .ok (.goto 5, 3) := by decide +kernel
theorem dX13_tellHere_108 : decode cX13_tellHere 108 = .ok (.iload 4, 2) := by decide +kernel
theorem dX13_tellHere_110 : decode cX13_tellHere 110 = .ok (.iadd, 1) := by decide +kernel
theorem dX13_tellHere_111 : decode cX13_tellHere 111 = .ok (.putfield 383, 3) := by decide +kernel
theorem dX13_tellHere_114 : decode cX13_tellHere 114 = .ok (.aload_n 0, 1) := by decide +kernel
theorem dX13_tellHere_115 : decode cX13_tellHere 115 = .ok (.getfield 383, 3) := by decide +kernel
theorem dX13_tellHere_118 : decode cX13_tellHere 118 = .ok (.sipush 200, 3) := by decide +kernel
theorem dX13_tellHere_121 : decode cX13_tellHere 121 = .ok (.if_icmp .le 15, 3) := by decide +kernel
theorem dX13_tellHere_124 : decode cX13_tellHere 124 = .ok (.aload_n 0, 1) := by decide +kernel
theorem dX13_tellHere_125 : decode cX13_tellHere 125 = .ok (.bipush 11, 2) := by decide +kernel
theorem dX13_tellHere_127 : decode cX13_tellHere 127 = .ok (.aload_n 0, 1) := by decide +kernel
theorem dX13_tellHere_128 : decode cX13_tellHere 128 = .ok (.getfield 22, 3) := by decide +kernel
theorem dX13_tellHere_131 : decode cX13_tellHere 131 = .ok (.iload_n 3, 1) := by decide +kernel
theorem dX13_tellHere_132 : decode cX13_tellHere 132 = .ok (.iaload, 1) := by decide +kernel
theorem dX13_tellHere_133 : decode cX13_tellHere 133 = .ok (.invokevirtual 352, 3) := by decide +kernel
theorem dX13_tellHere_136 : decode cX13_tellHere 136 = .ok (.iload 4, 2) := by decide +kernel
theorem dX13_tellHere_138 : decode cX13_tellHere 138 = .ok (.iconst (-1), 1) := by decide +kernel
theorem dX13_tellHere_139 : decode cX13_tellHere 139 = .ok (.if_icmp .eq 13, 3) := by decide +kernel
theorem dX13_tellHere_142 : decode cX13_tellHere 142 = .ok (.aload_n 0, 1) := by decide +kernel
theorem dX13_tellHere_143 : decode cX13_tellHere 143 = .ok (.getfield 383, 3) := by decide +kernel
theorem dX13_tellHere_146 : decode cX13_tellHere 146 = .ok (.sipush 200, 3) := by decide +kernel
theorem dX13_tellHere_149 : decode cX13_tellHere 149 = .ok (.if_icmp .le 7, 3) := by decide +kernel
theorem dX13_tellHere_152 : decode cX13_tellHere 152 = .ok (.iconst 0, 1) := by decide +kernel
theorem dX13_tellHere_153 : decode cX13_tellHere 153 = .ok (.goto 5, 3) := by decide +kernel
theorem dX13_tellHere_156 : decode cX13_tellHere 156 = .ok (.iload 4, 2) := by decide +kernel
theorem dX13_tellHere_158 : decode cX13_tellHere 158 = .ok (.istore 5, 2) := by decide +kernel
theorem dX13_tellHere_160 : decode cX13_tellHere 160 = .ok (.aload_n 0, 1) := by decide +kernel
theorem dX13_tellHere_161 : decode cX13_tellHere 161 = .ok (.bipush 22, 2) := by decide +kernel
theorem dX13_tellHere_163 : decode cX13_tellHere 163 = .ok (.aload_n 0, 1) := by decide +kernel
theorem dX13_tellHere_164 : decode cX13_tellHere 164 = .ok (.getfield 386, 3) := by decide +kernel
theorem dX13_tellHere_167 : decode cX13_tellHere 167 = .ok (.iload 5, 2) := by decide +kernel
theorem dX13_tellHere_169 : decode cX13_tellHere 169 = .ok (.invokevirtual 401, 3) := by decide +kernel
theorem dX13_tellHere_172 : decode cX13_tellHere 172 = .ok (.pop, 1) := by decide +kernel
theorem dX13_tellHere_173 : decode cX13_tellHere 173 = .ok (.aload_n 0, 1) := by decide +kernel
theorem dX13_tellHere_174 : decode cX13_tellHere 174 = .ok (.iload_n 3, 1) := by decide +kernel
theorem dX13_tellHere_175 : decode cX13_tellHere 175 = .ok (.iconst 2, 1) := by decide +kernel
theorem dX13_tellHere_176 : decode cX13_tellHere 176 = .ok (.iload_n 2, 1) := by decide +kernel
theorem dX13_tellHere_177 : decode cX13_tellHere 177 = .ok (.aload_n 0, 1) := by decide +kernel
theorem dX13_tellHere_178 : decode cX13_tellHere 178 = .ok (.getfield 386, 3) := by decide +kernel
theorem dX13_tellHere_181 : decode cX13_tellHere 181 = .ok (.iload 4, 2) := by decide +kernel
theorem dX13_tellHere_183 : decode cX13_tellHere 183 = .ok (.iconst (-1), 1) := by decide +kernel
theorem dX13_tellHere_184 : decode cX13_tellHere 184 = .ok (.if_icmp .ne 7, 3) := by decide +kernel
theorem dX13_tellHere_187 : decode cX13_tellHere 187 = .ok (.iconst 1, 1) := by decide +kernel
theorem dX13_tellHere_188 : decode cX13_tellHere 188 = .ok (.goto 5, 3) := by decide +kernel
theorem dX13_tellHere_191 : decode cX13_tellHere 191 = .ok (.iload 4, 2) := by decide +kernel
theorem dX13_tellHere_193 : decode cX13_tellHere 193 = .ok (.iconst 1, 1) := by decide +kernel
theorem dX13_tellHere_194 : decode cX13_tellHere 194 = .ok (.invokevirtual 338, 3) := by decide +kernel
theorem dX13_tellHere_197 : decode cX13_tellHere 197 = .ok (.aload_n 0, 1) := by decide +kernel
theorem dX13_tellHere_198 : decode cX13_tellHere 198 = .ok (.dup, 1) := by decide +kernel
theorem dX13_tellHere_199 : decode cX13_tellHere 199 = .ok (.getfield 386, 3) := by decide +kernel
theorem dX13_tellHere_202 : decode cX13_tellHere 202 = .ok (.iload 5, 2) := by decide +kernel
theorem dX13_tellHere_204 : decode cX13_tellHere 204 = .ok (.iadd, 1) := by decide +kernel
theorem dX13_tellHere_205 : decode cX13_tellHere 205 = .ok (.putfield 386, 3) := by decide +kernel
theorem dX13_tellHere_208 : decode cX13_tellHere 208 = .ok (.iconst 1, 1) := by decide +kernel
theorem dX13_tellHere_209 : decode cX13_tellHere 209 = .ok (.ireturn, 1) := by decide +kernel
theorem dX13_tellHere_210 : decode cX13_tellHere 210 = .ok (.aload_n 0, 1) := by decide +kernel
theorem dX13_tellHere_211 : decode cX13_tellHere 211 = .ok (.iload_n 3, 1) := by decide +kernel
theorem dX13_tellHere_212 : decode cX13_tellHere 212 = .ok (.invokevirtual 348, 3) := by decide +kernel
theorem dX13_tellHere_215 : decode cX13_tellHere 215 = .ok (.aload_n 0, 1) := by decide +kernel
theorem dX13_tellHere_216 : decode cX13_tellHere 216 = .ok (.dup, 1) := by decide +kernel
theorem dX13_tellHere_217 : decode cX13_tellHere 217 = .ok (.getfield 383, 3) := by decide +kernel
theorem dX13_tellHere_220 : decode cX13_tellHere 220 = .ok (.iconst 1, 1) := by decide +kernel
theorem dX13_tellHere_221 : decode cX13_tellHere 221 = .ok (.iadd, 1) := by decide +kernel
theorem dX13_tellHere_222 : decode cX13_tellHere 222 = .ok (.putfield 383, 3) := by decide +kernel
theorem dX13_tellHere_225 : decode cX13_tellHere 225 = .ok (.aload_n 0, 1) := by decide +kernel
theorem dX13_tellHere_226 : decode cX13_tellHere 226 = .ok (.getfield 383, 3) := by decide +kernel
theorem dX13_tellHere_229 : decode cX13_tellHere 229 = .ok (.sipush 200, 3) := by decide +kernel
theorem dX13_tellHere_232 : decode cX13_tellHere 232 = .ok (.if_icmp .le 15, 3) := by decide +kernel
theorem dX13_tellHere_235 : decode cX13_tellHere 235 = .ok (.aload_n 0, 1) := by decide +kernel
theorem dX13_tellHere_236 : decode cX13_tellHere 236 = .ok (.bipush 11, 2) := by decide +kernel
theorem dX13_tellHere_238 : decode cX13_tellHere 238 = .ok (.aload_n 0, 1) := by decide +kernel
theorem dX13_tellHere_239 : decode cX13_tellHere 239 = .ok (.getfield 22, 3) := by decide +kernel
theorem dX13_tellHere_242 : decode cX13_tellHere 242 = .ok (.iload_n 3, 1) := by decide +kernel
theorem dX13_tellHere_243 : decode cX13_tellHere 243 = .ok (.iaload, 1) := by decide +kernel
theorem dX13_tellHere_244 : decode cX13_tellHere 244 = .ok (.invokevirtual 352, 3) := by decide +kernel
theorem dX13_tellHere_247 : decode cX13_tellHere 247 = .ok (.aload_n 0, 1) := by decide +kernel
theorem dX13_tellHere_248 : decode cX13_tellHere 248 = .ok (.getfield 386, 3) := by decide +kernel
theorem dX13_tellHere_251 : decode cX13_tellHere 251 = .ok (.istore 4, 2) := by decide +kernel
theorem dX13_tellHere_253 : decode cX13_tellHere 253 = .ok (.aload_n 0, 1) := by decide +kernel
theorem dX13_tellHere_254 : decode cX13_tellHere 254 = .ok (.dup, 1) := by decide +kernel
theorem dX13_tellHere_255 : decode cX13_tellHere 255 = .ok (.getfield 386, 3) := by decide +kernel
theorem dX13_tellHere_258 : decode cX13_tellHere 258 = .ok (.aload_n 0, 1) := by decide +kernel
theorem dX13_tellHere_259 : decode cX13_tellHere 259 = .ok (.getfield 383, 3) := by decide +kernel
theorem dX13_tellHere_262 : decode cX13_tellHere 262 = .ok (.sipush 200, 3) := by decide +kernel
theorem dX13_tellHere_265 : decode cX13_tellHere 265 = .ok (.if_icmp .le 7, 3) := by decide +kernel
theorem dX13_tellHere_268 : decode cX13_tellHere 268 = .ok (.iconst 0, 1) := by decide +kernel
theorem dX13_tellHere_269 : decode cX13_tellHere 269 = .ok (.goto 4, 3) := by decide +kernel
theorem dX13_tellHere_272 : decode cX13_tellHere 272 = .ok (.iconst 1, 1) := by decide +kernel
theorem dX13_tellHere_273 : decode cX13_tellHere 273 = .ok (.iadd, 1) := by decide +kernel
theorem dX13_tellHere_274 : decode cX13_tellHere 274 = .ok (.putfield 386, 3) := by decide +kernel
theorem dX13_tellHere_277 : decode cX13_tellHere 277 = .ok (.aload_n 0, 1) := by decide +kernel
theorem dX13_tellHere_278 : decode cX13_tellHere 278 = .ok (.bipush 32, 2) := by decide +kernel
theorem dX13_tellHere_280 : decode cX13_tellHere 280 = .ok (.invokevirtual 257, 3) := by decide +kernel
theorem dX13_tellHere_283 : decode cX13_tellHere 283 = .ok (.ifCond .eq 22, 3) := by decide +kernel
theorem dX13_tellHere_286 : decode cX13_tellHere 286 = .ok (.aload_n 0, 1) := by decide +kernel
theorem dX13_tellHere_287 : decode cX13_tellHere 287 = .ok (.dup, 1) := by decide +kernel
theorem dX13_tellHere_288 : decode cX13_tellHere 288 = .ok (.getfield 233, 3) := by decide +kernel
theorem dX13_tellHere_291 : decode cX13_tellHere 291 = .ok (.iconst 1, 1) := by decide +kernel
theorem dX13_tellHere_292 : decode cX13_tellHere 292 = .ok (.iadd, 1) := by decide +kernel
theorem dX13_tellHere_293 : decode cX13_tellHere 293 = .ok (.putfield 233, 3) := by decide +kernel
theorem dX13_tellHere_296 : decode cX13_tellHere 296 = .ok (.aload_n 0, 1) := by decide +kernel
theorem dX13_tellHere_297 : decode cX13_tellHere 297 = .ok (.invokevirtual 368, 3) := by decide +kernel
theorem dX13_tellHere_300 : decode cX13_tellHere 300 = .ok (.ifCond .ne 26, 3) := by decide +kernel
theorem dX13_tellHere_303 : decode cX13_tellHere 303 = .ok (.iconst 0, 1) := by decide +kernel
theorem dX13_tellHere_304 : decode cX13_tellHere 304 = .ok (.ireturn, 1) := by decide +kernel
theorem dX13_tellHere_305 : decode cX13_tellHere 305 = .ok (.iload_n 1, 1) := by decide +kernel
theorem dX13_tellHere_306 : decode cX13_tellHere 306 = .ok (.ifCond .eq 14, 3) := by decide +kernel
theorem dX13_tellHere_309 : decode cX13_tellHere 309 = .ok (.aload_n 0, 1) := by decide +kernel
theorem dX13_tellHere_310 : decode cX13_tellHere 310 = .ok (.iconst 0, 1) := by decide +kernel
theorem dX13_tellHere_311 : decode cX13_tellHere 311 = .ok (.iconst 0, 1) := by decide +kernel
theorem dX13_tellHere_312 : decode cX13_tellHere 312 = .ok (.iconst 0, 1) := by decide +kernel
theorem dX13_tellHere_313 : decode cX13_tellHere 313 = .ok (.invokevirtual 401, 3) := by decide +kernel
theorem dX13_tellHere_316 : decode cX13_tellHere 316 = .ok (.pop, 1) := by decide +kernel
theorem dX13_tellHere_317 : decode cX13_tellHere 317 = .ok (.goto 9, 3) := by decide +kernel
theorem dX13_tellHere_320 : decode cX13_tellHere 320 = .ok (.aload_n 0, 1) := by decide +kernel
theorem dX13_tellHere_321 : decode cX13_tellHere 321 = .ok (.iconst 2, 1) := by decide +kernel
theorem dX13_tellHere_322 : decode cX13_tellHere 322 = .ok (.invokevirtual 260, 3) := by decide +kernel
theorem dX13_tellHere_325 : decode cX13_tellHere 325 = .ok (.ireturn, 1) := by decide +kernel
theorem dX13_tellHere_326 : decode cX13_tellHere 326 = .ok (.aload_n 0, 1) := by decide +kernel
theorem dX13_tellHere_327 : decode cX13_tellHere 327 = .ok (.iconst 2, 1) := by decide +kernel
theorem dX13_tellHere_328 : decode cX13_tellHere 328 = .ok (.iload 4, 2) := by decide +kernel
theorem dX13_tellHere_330 : decode cX13_tellHere 330 = .ok (.iconst 0, 1) := by decide +kernel
theorem dX13_tellHere_331 : decode cX13_tellHere 331 = .ok (.invokevirtual 401, 3) := by decide +kernel
theorem dX13_tellHere_334 : decode cX13_tellHere 334 = .ok (.pop, 1) := by decide +kernel
theorem dX13_tellHere_335 : decode cX13_tellHere 335 = .ok (.aload_n 0, 1) := by decide +kernel
theorem dX13_tellHere_336 : decode cX13_tellHere 336 = .ok (.iload_n 3, 1) := by decide +kernel
theorem dX13_tellHere_337 : decode cX13_tellHere 337 = .ok (.iconst 1, 1) := by decide +kernel
theorem dX13_tellHere_338 : decode cX13_tellHere 338 = .ok (.iconst 0, 1) := by decide +kernel
theorem dX13_tellHere_339 : decode cX13_tellHere 339 = .ok (.iload 4, 2) := by decide +kernel
theorem dX13_tellHere_341 : decode cX13_tellHere 341 = .ok (.iconst 1, 1) := by decide +kernel
theorem dX13_tellHere_342 : decode cX13_tellHere 342 = .ok (.iconst 1, 1) := by decide +kernel
theorem dX13_tellHere_343 : decode cX13_tellHere 343 = .ok (.invokevirtual 338, 3) := by decide +kernel
theorem dX13_tellHere_346 : decode cX13_tellHere 346 = .ok (.iconst 1, 1) := by decide +kernel
theorem dX13_tellHere_347 : decode cX13_tellHere 347 = .ok (.ireturn, 1) := by decide +kernel
theorem dX13_sizeHere_0 : decode cX13_sizeHere 0 = .ok (.aload_n 0, 1) := by decide +kernel
theorem dX13_sizeHere_1 : decode cX13_sizeHere 1 = .ok (.getfield 22, 3) := by decide +kernel
theorem dX13_sizeHere_4 : decode cX13_sizeHere 4 = .ok (.aload_n 0, 1) := by decide +kernel
theorem dX13_sizeHere_5 : decode cX13_sizeHere 5 = .ok (.getfield 233, 3) := by decide +kernel
theorem dX13_sizeHere_8 : decode cX13_sizeHere 8 = .ok (.iaload, 1) := by decide +kernel
theorem dX13_sizeHere_9 : decode cX13_sizeHere 9 = .ok (.istore_n 1, 1) := by decide +kernel
theorem dX13_sizeHere_10 : decode cX13_sizeHere 10 = .ok (.aload_n 0, 1) := by decide +kernel
theorem dX13_sizeHere_11 : decode cX13_sizeHere 11 = .ok (.invokevirtual 330, 3) := by decide +kernel
theorem dX13_sizeHere_14 : decode cX13_sizeHere 14 = .ok (.istore_n 2, 1) := by decide +kernel
theorem dX13_sizeHere_15 : decode cX13_sizeHere 15 = .ok (.aload_n 0, 1) := by decide +kernel
theorem dX13_sizeHere_16 : decode cX13_sizeHere 16 = .ok (.getfield 230, 3) := by decide +kernel
theorem dX13_sizeHere_19 : decode cX13_sizeHere 19 = .ok (.ifCond .gt 10, 3) := by decide +kernel
theorem dX13_sizeHere_22 : decode cX13_sizeHere 22 = .ok (.aload_n 0, 1) := by decide +kernel
theorem dX13_sizeHere_23 : decode cX13_sizeHere 23 = .ok (.getfield 245, 3) := by decide +kernel
theorem dX13_sizeHere_26 : decode cX13_sizeHere 26 = .ok (.ifCond .ne 5, 3) := by decide +kernel
theorem dX13_sizeHere_29 : decode cX13_sizeHere 29 = .ok (.iconst 1, 1) := by decide +kernel
theorem dX13_sizeHere_30 : decode cX13_sizeHere 30 = .ok (.ireturn, 1) := by decide +kernel
theorem dX13_sizeHere_31 : decode cX13_sizeHere 31 = .ok (.aload_n 0, 1) := by decide +kernel
theorem dX13_sizeHere_32 : decode cX13_sizeHere 32 = .ok (.getfield 345, 3) := by decide +kernel
theorem dX13_sizeHere_35 : decode cX13_sizeHere 35 = .ok (.ifCond .eq 5, 3) := by decide +kernel
theorem dX13_sizeHere_38 : decode cX13_sizeHere 38 = .ok (.iconst (-1), 1) := by decide +kernel
theorem dX13_sizeHere_39 : decode cX13_sizeHere 39 = .ok (.ireturn, 1) := by decide +kernel
theorem dX13_sizeHere_40 : decode cX13_sizeHere 40 = .ok (.iload_n 2, 1) := by decide +kernel
theorem dX13_sizeHere_41 : decode cX13_sizeHere 41 = .ok (.iconst 1, 1) := by decide +kernel
theorem dX13_sizeHere_42 : decode cX13_sizeHere 42 = .ok (.if_icmp .lt 12, 3) := by decide +kernel
theorem dX13_sizeHere_45 : decode cX13_sizeHere 45 = .ok (.iload_n 2, 1) := by decide +kernel
theorem dX13_sizeHere_46 : decode cX13_sizeHere 46 = .ok (.sipush 500, 3) := by decide +kernel
theorem dX13_sizeHere_49 : decode cX13_sizeHere 49 = .ok (.if_icmp .gt 5, 3) := by decide +kernel
theorem dX13_sizeHere_52 : decode cX13_sizeHere 52 = .ok (.iload_n 2, 1) := by decide +kernel
theorem dX13_sizeHere_53 : decode cX13_sizeHere 53 = .ok (.ireturn, 1) := by decide +kernel
theorem dX13_sizeHere_54 : decode cX13_sizeHere 54 = .ok (.aload_n 0, 1) := by decide +kernel
theorem dX13_sizeHere_55 : decode cX13_sizeHere 55 = .ok (.bipush 10, 2) := by decide +kernel
theorem dX13_sizeHere_57 : decode cX13_sizeHere 57 = .ok (.iload_n 1, 1) := by decide +kernel
theorem dX13_sizeHere_58 : decode cX13_sizeHere 58 = .ok (.invokevirtual 352, 3) := by decide +kernel
theorem dX13_sizeHere_61 : decode cX13_sizeHere 61 = .ok (.iconst (-1), 1) := by decide +kernel
theorem dX13_sizeHere_62 : decode cX13_sizeHere 62 = .ok (.ireturn, 1) := by decide +kernel
theorem dX13_choice_0 : decode cX13_choice 0 = .ok (.aload_n 0, 1) := by decide +kernel
theorem dX13_choice_1 : decode cX13_choice 1 = .ok (.invokevirtual 269, 3) := by decide +kernel
theorem dX13_choice_4 : decode cX13_choice 4 = .ok (.ifCond .eq 10, 3) := by decide +kernel
theorem dX13_choice_7 : decode cX13_choice 7 = .ok (.aload_n 0, 1) := by decide +kernel
theorem dX13_choice_8 : decode cX13_choice 8 = .ok (.invokevirtual 436, 3) := by decide +kernel
theorem dX13_choice_11 : decode cX13_choice 11 = .ok (.ifCond .ne 5, 3) := by decide +kernel
theorem dX13_choice_14 : decode cX13_choice 14 = .ok (.iconst 0, 1) := by decide +kernel
theorem dX13_choice_15 : decode cX13_choice 15 = .ok (.ireturn, 1) := by decide +kernel
theorem dX13_choice_16 : decode cX13_choice 16 = .ok (.aload_n 0, 1) := by decide +kernel
theorem dX13_choice_17 : decode cX13_choice 17 = .ok (.bipush 13, 2) := by decide +kernel
theorem dX13_choice_19 : decode cX13_choice 19 = .ok (.iconst 0, 1) := by decide +kernel
theorem dX13_choice_20 : decode cX13_choice 20 = .ok (.iconst 0, 1) := by decide +kernel
theorem dX13_choice_21 : decode cX13_choice 21 = .ok (.invokevirtual 401, 3) := by decide +kernel
theorem dX13_choice_24 : decode cX13_choice 24 = .ok (.istore_n 1, 1) := by decide +kernel
theorem dX13_choice_25 : decode cX13_choice 25 = .ok (.aload_n 0, 1) := by decide +kernel
theorem dX13_choice_26 : decode cX13_choice 26 = .ok (.invokevirtual 439, 3) := by decide +kernel
theorem dX13_choice_29 : decode cX13_choice 29 = .ok (.ifCond .ne 5, 3) := by decide +kernel
theorem dX13_choice_32 : decode cX13_choice 32 = .ok (.iconst 0, 1) := by decide +kernel
theorem dX13_choice_33 : decode cX13_choice 33 = .ok (.ireturn, 1) := by decide +kernel
theorem dX13_choice_34 : decode cX13_choice 34 = .ok (.aload_n 0, 1) := by decide +kernel
theorem dX13_choice_35 : decode cX13_choice 35 = .ok (.getfield 230, 3) := by decide +kernel
theorem dX13_choice_38 : decode cX13_choice 38 = .ok (.ifCond .ne 62, 3) := by decide +kernel
theorem dX13_choice_41 : decode cX13_choice 41 = .ok (.aload_n 0, 1) := by decide +kernel
theorem dX13_choice_42 : decode cX13_choice 42 = .ok (.iconst 5, 1) := by decide +kernel
theorem dX13_choice_43 : decode cX13_choice 43 = .ok (.invokevirtual 263, 3) := by decide +kernel
theorem dX13_choice_46 : decode cX13_choice 46 = .ok (.ifCond .eq 54, 3) := by decide +kernel
theorem dX13_choice_49 : decode cX13_choice 49 = .ok (.aload_n 0, 1) := by decide +kernel
theorem dX13_choice_50 : decode cX13_choice 50 = .ok (.dup, 1) := by decide +kernel
theorem dX13_choice_51 : decode cX13_choice 51 = .ok (.getfield 233, 3) := by decide +kernel
theorem dX13_choice_54 : decode cX13_choice 54 = .ok (.iconst 1, 1) := by decide +kernel
theorem dX13_choice_55 : decode cX13_choice 55 = .ok (.iadd, 1) := by decide +kernel
theorem dX13_choice_56 : decode cX13_choice 56 = .ok (.putfield 233, 3) := by decide +kernel
theorem dX13_choice_59 : decode cX13_choice 59 = .ok (.aload_n 0, 1) := by decide +kernel
theorem dX13_choice_60 : decode cX13_choice 60 = .ok (.bipush 12, 2) := by decide +kernel
theorem dX13_choice_62 : decode cX13_choice 62 = .ok (.iconst 0, 1) := by decide +kernel
theorem dX13_choice_63 : decode cX13_choice 63 = .ok (.iconst 0, 1) := by decide +kernel
theorem dX13_choice_64 : decode cX13_choice 64 = .ok (.invokevirtual 401, 3) := by decide +kernel
theorem dX13_choice_67 : decode cX13_choice 67 = .ok (.istore_n 2, 1) := by decide +kernel
theorem dX13_choice_68 : decode cX13_choice 68 = .ok (.aload_n 0, 1) := by decide +kernel
theorem dX13_choice_69 : decode cX13_choice 69 = .ok (.getfield 107, 3) := by decide +kernel
theorem dX13_choice_72 : decode cX13_choice 72 = .ok (.iload_n 1, 1) := by decide +kernel
theorem dX13_choice_73 : decode cX13_choice 73 = .ok (.aload_n 0, 1) := by decide +kernel
theorem dX13_choice_74 : decode cX13_choice 74 = .ok (.getfield 276, 3) := by decide +kernel
theorem dX13_choice_77 : decode cX13_choice 77 = .ok (.iastore, 1) := by decide +kernel
theorem dX13_choice_78 : decode cX13_choice 78 = .ok (.aload_n 0, 1) := by decide +kernel
theorem dX13_choice_79 : decode cX13_choice 79 = .ok (.invokevirtual 439, 3) := by decide +kernel
theorem dX13_choice_82 : decode cX13_choice 82 = .ok (.ifCond .ne 5, 3) := by decide +kernel
theorem dX13_choice_85 : decode cX13_choice 85 = .ok (.iconst 0, 1) := by decide +kernel
theorem dX13_choice_86 : decode cX13_choice 86 = .ok (.ireturn, 1) := by decide +kernel
theorem dX13_choice_87 : decode cX13_choice 87 = .ok (.aload_n 0, 1) := by decide +kernel
theorem dX13_choice_88 : decode cX13_choice 88 = .ok (.getfield 107, 3) := by decide +kernel
theorem dX13_choice_91 : decode cX13_choice 91 = .ok (.iload_n 2, 1) := by decide +kernel
theorem dX13_choice_92 : decode cX13_choice 92 = .ok (.aload_n 0, 1) := by decide +kernel
theorem dX13_choice_93 : decode cX13_choice 93 = .ok (.getfield 276, 3) := by decide +kernel
theorem dX13_choice_96 : decode cX13_choice 96 = .ok (.iastore, 1) := by decide +kernel
theorem dX13_choice_97 : decode cX13_choice 97 = .ok (.goto 13, 3) := by decide +kernel
theorem dX13_choice_100 : decode cX13_choice 100 = .ok (.aload_n 0, 1) := by decide +kernel
theorem dX13_choice_101 : decode cX13_choice 101 = .ok (.getfield 107, 3) := by decide +kernel
theorem dX13_choice_104 : decode cX13_choice 104 = .ok (.iload_n 1, 1) := by decide +kernel
theorem dX13_choice_105 : decode cX13_choice 105 = .ok (.aload_n 0, 1) := by decide +kernel
theorem dX13_choice_106 : decode cX13_choice 106 = .ok (.getfield 276, 3) := by decide +kernel
theorem dX13_choice_109 : decode cX13_choice 109 = .ok (.iastore, 1) := by decide +kernel
theorem dX13_choice_110 : decode cX13_choice 110 = .ok (.aload_n 0, 1) := by decide +kernel
theorem dX13_choice_111 : decode cX13_choice 111 = .ok (.dup, 1) := by decide +kernel
theorem dX13_choice_112 : decode cX13_choice 112 = .ok (.getfield 266, 3) := by decide +kernel
theorem dX13_choice_115 : decode cX13_choice 115 = .ok (.iconst 1, 1) := by decide +kernel
theorem dX13_choice_116 : decode cX13_choice 116 = .ok (.isub, 1) := by decide +kernel
theorem dX13_choice_117 : decode cX13_choice 117 = .ok (.putfield 266, 3) := by decide +kernel
theorem dX13_choice_120 : decode cX13_choice 120 = .ok (.aload_n 0, 1) := by decide +kernel
theorem dX13_choice_121 : decode cX13_choice 121 = .ok (.getfield 230, 3) := by decide +kernel
theorem dX13_choice_124 : decode cX13_choice 124 = .ok (.ifCond .ne 7, 3) := by decide +kernel
theorem dX13_choice_127 : decode cX13_choice 127 = .ok (.iconst 1, 1) := by decide +kernel
theorem dX13_choice_128 : decode cX13_choice 128 = .ok (.goto 4, 3) := by decide +kernel
theorem dX13_choice_131 : decode cX13_choice 131 = .ok (.iconst 0, 1) := by decide +kernel
theorem dX13_choice_132 : decode cX13_choice 132 = .ok (.ireturn, 1) := by decide +kernel
theorem dX13_condition_0 : decode cX13_condition 0 = .ok (.aload_n 0, 1) := by decide +kernel
theorem dX13_condition_1 : decode cX13_condition 1 = .ok (.bipush 22, 2) := by decide +kernel
theorem dX13_condition_3 : decode cX13_condition 3 = .ok (.invokevirtual 356, 3) := by decide +kernel
theorem dX13_condition_6 : decode cX13_condition 6 = .ok (.ifCond .eq 23, 3) := by decide +kernel
theorem dX13_condition_9 : decode cX13_condition 9 = .ok (.aload_n 0, 1) := by decide +kernel
theorem dX13_condition_10 : decode cX13_condition 10 = .ok (.invokevirtual 368, 3) := by decide +kernel
theorem dX13_condition_13 : decode cX13_condition 13 = .ok (.ifCond .eq 16, 3) := by decide +kernel
theorem dX13_condition_16 : decode cX13_condition 16 = .ok (.aload_n 0, 1) := by decide +kernel
theorem dX13_condition_17 : decode cX13_condition 17 = .ok (.bipush 23, 2) := by decide +kernel
theorem dX13_condition_19 : decode cX13_condition 19 = .ok (.invokevirtual 362, 3) := by decide +kernel
theorem dX13_condition_22 : decode cX13_condition 22 = .ok (.ifCond .eq 7, 3) := by decide +kernel
theorem dX13_condition_25 : decode cX13_condition 25 = .ok (.iconst 1, 1) := by decide +kernel
theorem dX13_condition_26 : decode cX13_condition 26 = .ok (.goto 4, 3) := by decide +kernel
theorem dX13_condition_29 : decode cX13_condition 29 = .ok (.iconst 0, 1) := by decide +kernel
theorem dX13_condition_30 : decode cX13_condition 30 = .ok (.ireturn, 1) := by decide +kernel
theorem dX13_scoped_0 : decode cX13_scoped 0 = .ok (.aload_n 0, 1) := by decide +kernel
theorem dX13_scoped_1 : decode cX13_scoped 1 = .ok (.getfield 282, 3) := by decide +kernel
theorem dX13_scoped_4 : decode cX13_scoped 4 = .ok (.istore_n 1, 1) := by decide +kernel
theorem dX13_scoped_5 : decode cX13_scoped 5 = .ok (.aload_n 0, 1) := by decide +kernel
theorem dX13_scoped_6 : decode cX13_scoped 6 = .ok (.invokevirtual 392, 3) := by decide +kernel
theorem dX13_scoped_9 : decode cX13_scoped 9 = .ok (.aload_n 0, 1) := by decide +kernel
theorem dX13_scoped_10 : decode cX13_scoped 10 = .ok (.invokevirtual 408, 3) := by decide +kernel
theorem dX13_scoped_13 : decode cX13_scoped 13 = .ok (.istore_n 2, 1) := by decide +kernel
theorem dX13_scoped_14 : decode cX13_scoped 14 = .ok (.aload_n 0, 1) := by decide +kernel
theorem dX13_scoped_15 : decode cX13_scoped 15 = .ok (.iload_n 1, 1) := by decide +kernel
theorem dX13_scoped_16 : decode cX13_scoped 16 = .ok (.invokevirtual 405, 3) := by decide +kernel
theorem dX13_scoped_19 : decode cX13_scoped 19 = .ok (.iload_n 2, 1) := by decide +kernel
theorem dX13_scoped_20 : decode cX13_scoped 20 = .ok (.ireturn, 1) := by decide +kernel
theorem dX13_loop_0 : decode cX13_loop 0 = .ok (.aload_n 0, 1) := by decide +kernel
theorem dX13_loop_1 : decode cX13_loop 1 = .ok (.getfield 276, 3) := by decide +kernel
theorem dX13_loop_4 : decode cX13_loop 4 = .ok (.istore_n 1, 1) := by decide +kernel
theorem dX13_loop_5 : decode cX13_loop 5 = .ok (.aload_n 0, 1) := by decide +kernel
theorem dX13_loop_6 : decode cX13_loop 6 = .ok (.invokevirtual 269, 3) := by decide +kernel
theorem dX13_loop_9 : decode cX13_loop 9 = .ok (.ifCond .eq 10, 3) := by decide +kernel
theorem dX13_loop_12 : decode cX13_loop 12 = .ok (.aload_n 0, 1) := by decide +kernel
theorem dX13_loop_13 : decode cX13_loop 13 = .ok (.invokevirtual 436, 3) := by decide +kernel
theorem dX13_loop_16 : decode cX13_loop 16 = .ok (.ifCond .ne 5, 3) := by decide +kernel
theorem dX13_loop_19 : decode cX13_loop 19 = .ok (.iconst 0, 1) := by decide +kernel
theorem dX13_loop_20 : decode cX13_loop 20 = .ok (.ireturn, 1) := by decide +kernel
theorem dX13_loop_21 : decode cX13_loop 21 = .ok (.aload_n 0, 1) := by decide +kernel
theorem dX13_loop_22 : decode cX13_loop 22 = .ok (.bipush 13, 2) := by decide +kernel
theorem dX13_loop_24 : decode cX13_loop 24 = .ok (.iconst 0, 1) := by decide +kernel
theorem dX13_loop_25 : decode cX13_loop 25 = .ok (.iconst 0, 1) := by decide +kernel
theorem dX13_loop_26 : decode cX13_loop 26 = .ok (.invokevirtual 401, 3) := by decide +kernel
theorem dX13_loop_29 : decode cX13_loop 29 = .ok (.istore_n 2, 1) := by decide +kernel
theorem dX13_loop_30 : decode cX13_loop 30 = .ok (.aload_n 0, 1) := by decide +kernel
theorem dX13_loop_31 : decode cX13_loop 31 = .ok (.iload_n 1, 1) := by decide +kernel
theorem dX13_loop_32 : decode cX13_loop 32 = .ok (.invokevirtual 451, 3) := by decide +kernel
theorem dX13_loop_35 : decode cX13_loop 35 = .ok (.ifCond .ne 5, 3) := by decide +kernel
theorem dX13_loop_38 : decode cX13_loop 38 = .ok (.iconst 0, 1) := by decide +kernel
theorem dX13_loop_39 : decode cX13_loop 39 = .ok (.ireturn, 1) := by decide +kernel
theorem dX13_loop_40 : decode cX13_loop 40 = .ok (.aload_n 0, 1) := by decide +kernel
theorem dX13_loop_41 : decode cX13_loop 41 = .ok (.getfield 448, 3) := by decide +kernel
theorem dX13_loop_44 : decode cX13_loop 44 = .ok (.istore_n 3, 1) := by decide +kernel
theorem dX13_loop_45 : decode cX13_loop 45 = .ok (.aload_n 0, 1) := by decide +kernel
theorem dX13_loop_46 : decode cX13_loop 46 = .ok (.bipush 12, 2) := by decide +kernel
theorem dX13_loop_48 : decode cX13_loop 48 = .ok (.iload_n 1, 1) := by decide +kernel
theorem dX13_loop_49 : decode cX13_loop 49 = .ok (.iconst 0, 1) := by decide +kernel
theorem dX13_loop_50 : decode cX13_loop 50 = .ok (.invokevirtual 401, 3) := by decide +kernel
theorem dX13_loop_53 : decode cX13_loop 53 = .ok (.pop, 1) := by decide +kernel
theorem dX13_loop_54 : decode cX13_loop 54 = .ok (.aload_n 0, 1) := by decide +kernel
theorem dX13_loop_55 : decode cX13_loop 55 = .ok (.getfield 107, 3) := by decide +kernel
theorem dX13_loop_58 : decode cX13_loop 58 = .ok (.iload_n 2, 1) := by decide +kernel
theorem dX13_loop_59 : decode cX13_loop 59 = .ok (.aload_n 0, 1) := by decide +kernel
theorem dX13_loop_60 : decode cX13_loop 60 = .ok (.getfield 276, 3) := by decide +kernel
theorem dX13_loop_63 : decode cX13_loop 63 = .ok (.iastore, 1) := by decide +kernel
theorem dX13_loop_64 : decode cX13_loop 64 = .ok (.aload_n 0, 1) := by decide +kernel
theorem dX13_loop_65 : decode cX13_loop 65 = .ok (.iload_n 3, 1) := by decide +kernel
theorem dX13_loop_66 : decode cX13_loop 66 = .ok (.aload_n 0, 1) := by decide +kernel
theorem dX13_loop_67 : decode cX13_loop 67 = .ok (.getfield 276, 3) := by decide +kernel
theorem dX13_loop_70 : decode cX13_loop 70 = .ok (.invokevirtual 442, 3) := by decide +kernel
theorem dX13_loop_73 : decode cX13_loop 73 = .ok (.aload_n 0, 1) := by decide +kernel
theorem dX13_loop_74 : decode cX13_loop 74 = .ok (.dup, 1) := by decide +kernel
theorem dX13_loop_75 : decode cX13_loop 75 = .ok (.getfield 266, 3) := by decide +kernel
theorem dX13_loop_78 : decode cX13_loop 78 = .ok (.iconst 1, 1) := by decide +kernel
theorem dX13_loop_79 : decode cX13_loop 79 = .ok (.isub, 1) := by decide +kernel
theorem dX13_loop_80 : decode cX13_loop 80 = .ok (.putfield 266, 3) := by decide +kernel
theorem dX13_loop_83 : decode cX13_loop 83 = .ok (.iconst 1, 1) := by decide +kernel
theorem dX13_loop_84 : decode cX13_loop 84 = .ok (.ireturn, 1) := by decide +kernel
theorem dX13_body_0 : decode cX13_body 0 = .ok (.aload_n 0, 1) := by decide +kernel
theorem dX13_body_1 : decode cX13_body 1 = .ok (.getfield 377, 3) := by decide +kernel
theorem dX13_body_4 : decode cX13_body 4 = .ok (.istore_n 2, 1) := by decide +kernel
theorem dX13_body_5 : decode cX13_body 5 = .ok (.aload_n 0, 1) := by decide +kernel
theorem dX13_body_6 : decode cX13_body 6 = .ok (.getfield 380, 3) := by decide +kernel
theorem dX13_body_9 : decode cX13_body 9 = .ok (.istore_n 3, 1) := by decide +kernel
theorem dX13_body_10 : decode cX13_body 10 = .ok (.aload_n 0, 1) := by decide +kernel
theorem dX13_body_11 : decode cX13_body 11 = .ok (.iconst (-1), 1) := by decide +kernel
theorem dX13_body_12 : decode cX13_body 12 = .ok (.putfield 377, 3) := by decide +kernel
theorem dX13_body_15 : decode cX13_body 15 = .ok (.aload_n 0, 1) := by decide +kernel
theorem dX13_body_16 : decode cX13_body 16 = .ok (.iconst (-1), 1) := by decide +kernel
theorem dX13_body_17 : decode cX13_body 17 = .ok (.putfield 380, 3) := by decide +kernel
theorem dX13_body_20 : decode cX13_body 20 = .ok (.aload_n 0, 1) := by decide +kernel
theorem dX13_body_21 : decode cX13_body 21 = .ok (.dup, 1) := by decide +kernel
theorem dX13_body_22 : decode cX13_body 22 = .ok (.getfield 389, 3) := by decide +kernel
theorem dX13_body_25 : decode cX13_body 25 = .ok (.iconst 1, 1) := by decide +kernel
theorem dX13_body_26 : decode cX13_body 26 = .ok (.iadd, 1) := by decide +kernel
theorem dX13_body_27 : decode cX13_body 27 = .ok (.putfield 389, 3) := by decide +kernel
theorem dX13_body_30 : decode cX13_body 30 = .ok (.aload_n 0, 1) := by decide +kernel
theorem dX13_body_31 : decode cX13_body 31 = .ok (.bipush 15, 2) := by decide +kernel
theorem dX13_body_33 : decode cX13_body 33 = .ok (.iconst 0, 1) := by decide +kernel
theorem dX13_body_34 : decode cX13_body 34 = .ok (.iconst 0, 1) := by decide +kernel
theorem dX13_body_35 : decode cX13_body 35 = .ok (.invokevirtual 401, 3) := by decide +kernel
theorem dX13_body_38 : decode cX13_body 38 = .ok (.pop, 1) := by decide +kernel
theorem dX13_body_39 : decode cX13_body 39 = .ok (.aload_n 0, 1) := by decide +kernel
theorem dX13_body_40 : decode cX13_body 40 = .ok (.invokevirtual 439, 3) := by decide +kernel
theorem dX13_body_43 : decode cX13_body 43 = .ok (.istore 4, 2) := by decide +kernel
theorem dX13_body_45 : decode cX13_body 45 = .ok (.aload_n 0, 1) := by decide +kernel
theorem dX13_body_46 : decode cX13_body 46 = .ok (.dup, 1) := by decide +kernel
theorem dX13_body_47 : decode cX13_body 47 = .ok (.getfield 389, 3) := by decide +kernel
theorem dX13_body_50 : decode cX13_body 50 = .ok (.iconst 1, 1) := by decide +kernel
theorem dX13_body_51 : decode cX13_body 51 = .ok (.isub, 1) := by decide +kernel
theorem dX13_body_52 : decode cX13_body 52 = .ok (.putfield 389, 3) := by decide +kernel
theorem dX13_body_55 : decode cX13_body 55 = .ok (.iload_n 1, 1) := by decide +kernel
theorem dX13_body_56 : decode cX13_body 56 = .ok (.iconst (-1), 1) := by decide +kernel
theorem dX13_body_57 : decode cX13_body 57 = .ok (.if_icmp .eq 20, 3) := by decide +kernel
theorem dX13_body_60 : decode cX13_body 60 = .ok (.aload_n 0, 1) := by decide +kernel
theorem dX13_body_61 : decode cX13_body 61 = .ok (.aload_n 0, 1) := by decide +kernel
theorem dX13_body_62 : decode cX13_body 62 = .ok (.getfield 380, 3) := by decide +kernel
theorem dX13_body_65 : decode cX13_body 65 = .ok (.iload_n 1, 1) := by decide +kernel
theorem dX13_body_66 : decode cX13_body 66 = .ok (.invokevirtual 442, 3) := by decide +kernel
theorem dX13_body_69 : decode cX13_body 69 = .ok (.aload_n 0, 1) := by decide +kernel
theorem dX13_body_70 : decode cX13_body 70 = .ok (.iload_n 3, 1) := by decide +kernel
theorem dX13_body_71 : decode cX13_body 71 = .ok (.putfield 380, 3) := by decide +kernel
theorem dX13_body_74 : decode cX13_body 74 = .ok (.goto 16, 3) := by decide +kernel
theorem dX13_body_77 : decode cX13_body 77 = .ok (.aload_n 0, 1) := by decide +kernel
theorem dX13_body_78 : decode cX13_body 78 = .ok (.aload_n 0, 1) := by decide +kernel
theorem dX13_body_79 : decode cX13_body 79 = .ok (.getfield 380, 3) := by decide +kernel
theorem dX13_body_82 : decode cX13_body 82 = .ok (.putfield 445, 3) := by decide +kernel
theorem dX13_body_85 : decode cX13_body 85 = .ok (.aload_n 0, 1) := by decide +kernel
theorem dX13_body_86 : decode cX13_body 86 = .ok (.iload_n 3, 1) := by decide +kernel
theorem dX13_body_87 : decode cX13_body 87 = .ok (.putfield 380, 3) := by decide +kernel
theorem dX13_body_90 : decode cX13_body 90 = .ok (.aload_n 0, 1) := by decide +kernel
theorem dX13_body_91 : decode cX13_body 91 = .ok (.aload_n 0, 1) := by decide +kernel
theorem dX13_body_92 : decode cX13_body 92 = .ok (.getfield 377, 3) := by decide +kernel
theorem dX13_body_95 : decode cX13_body 95 = .ok (.putfield 448, 3) := by decide +kernel
theorem dX13_body_98 : decode cX13_body 98 = .ok (.aload_n 0, 1) := by decide +kernel
theorem dX13_body_99 : decode cX13_body 99 = .ok (.iload_n 2, 1) := by decide +kernel
theorem dX13_body_100 : decode cX13_body 100 = .ok (.putfield 377, 3) := by decide +kernel
theorem dX13_body_103 : decode cX13_body 103 = .ok (.iload 4, 2) := by decide +kernel
theorem dX13_body_105 : decode cX13_body 105 = .ok (.ireturn, 1) := by decide +kernel
theorem dX13_settle_0 : decode cX13_settle 0 = .ok (.iload_n 1, 1) := by decide +kernel
theorem dX13_settle_1 : decode cX13_settle 1 = .ok (.istore_n 3, 1) := by decide +kernel
theorem dX13_settle_2 : decode cX13_settle 2 = .ok (.iload_n 3, 1) := by decide +kernel
theorem dX13_settle_3 : decode cX13_settle 3 = .ok (.iconst (-1), 1) := by decide +kernel
theorem dX13_settle_4 : decode cX13_settle 4 = .ok (.if_icmp .eq 24, 3) := by decide +kernel
theorem dX13_settle_7 : decode cX13_settle 7 = .ok (.aload_n 0, 1) := by decide +kernel
theorem dX13_settle_8 : decode cX13_settle 8 = .ok (.getfield 107, 3) := by decide +kernel
theorem dX13_settle_11 : decode cX13_settle 11 = .ok (.iload_n 3, 1) := by decide +kernel
theorem dX13_settle_12 : decode cX13_settle 12 = .ok (.iaload, 1) := by decide +kernel
theorem dX13_settle_13 : decode cX13_settle 13 = .ok (.istore 4, 2) := by decide +kernel
theorem dX13_settle_15 : decode cX13_settle 15 = .ok (.aload_n 0, 1) := by decide +kernel
theorem dX13_settle_16 : decode cX13_settle 16 = .ok (.getfield 107, 3) := by decide +kernel
theorem dX13_settle_19 : decode cX13_settle 19 = .ok (.iload_n 3, 1) := by decide +kernel
theorem dX13_settle_20 : decode cX13_settle 20 = .ok (.iload_n 2, 1) := by decide +kernel
theorem dX13_settle_21 : decode cX13_settle 21 = .ok (.iastore, 1) := by decide +kernel
theorem dX13_settle_22 : decode cX13_settle 22 = .ok (.iload 4, 2) := by decide +kernel
theorem dX13_settle_24 : decode cX13_settle 24 = .ok (.istore_n 3, 1) := by decide +kernel
theorem dX13_settle_25 : decode cX13_settle 25 = .ok (.goto (-23), 3) := by decide +kernel
theorem dX13_settle_28 : decode cX13_settle 28 = .ok (.return_, 1) := by decide +kernel
theorem dX13_turnLoop_0 : decode cX13_turnLoop 0 = .ok (.aload_n 0, 1) := by decide +kernel
theorem dX13_turnLoop_1 : decode cX13_turnLoop 1 = .ok (.getfield 276, 3) := by decide +kernel
theorem dX13_turnLoop_4 : decode cX13_turnLoop 4 = .ok (.istore_n 1, 1) := by decide +kernel
theorem dX13_turnLoop_5 : decode cX13_turnLoop 5 = .ok (.aload_n 0, 1) := by decide +kernel
theorem dX13_turnLoop_6 : decode cX13_turnLoop 6 = .ok (.invokevirtual 269, 3) := by decide +kernel
theorem dX13_turnLoop_9 : decode cX13_turnLoop 9 = .ok (.ifCond .eq 11, 3) := by decide +kernel
theorem dX13_turnLoop_12 : decode cX13_turnLoop 12 = .ok (.aload_n 0, 1) := by decide +kernel
theorem dX13_turnLoop_13 : decode cX13_turnLoop 13 = .ok (.iconst (-1), 1) := by decide +kernel
theorem dX13_turnLoop_14 : decode cX13_turnLoop 14 = .ok (.invokevirtual 451, 3) := by decide +kernel
theorem dX13_turnLoop_17 : decode cX13_turnLoop 17 = .ok (.ifCond .ne 5, 3) := by decide +kernel
theorem dX13_turnLoop_20 : decode cX13_turnLoop 20 = .ok (.iconst 0, 1) := by decide +kernel
theorem dX13_turnLoop_21 : decode cX13_turnLoop 21 = .ok (.ireturn, 1) := by decide +kernel
theorem dX13_turnLoop_22 : decode cX13_turnLoop 22 = .ok (.aload_n 0, 1) := by decide +kernel
theorem dX13_turnLoop_23 : decode cX13_turnLoop 23 = .ok (.getfield 448, 3) := by decide +kernel
theorem dX13_turnLoop_26 : decode cX13_turnLoop 26 = .ok (.istore_n 2, 1) := by decide +kernel
theorem dX13_turnLoop_27 : decode cX13_turnLoop 27 = .ok (.aload_n 0, 1) := by decide +kernel
theorem dX13_turnLoop_28 : decode cX13_turnLoop 28 = .ok (.getfield 445, 3) := by decide +kernel
theorem dX13_turnLoop_31 : decode cX13_turnLoop 31 = .ok (.istore_n 3, 1) := by decide +kernel
theorem dX13_turnLoop_32 : decode cX13_turnLoop 32 = .ok (.aload_n 0, 1) := by decide +kernel
theorem dX13_turnLoop_33 : decode cX13_turnLoop 33 = .ok (.iload_n 3, 1) := by decide +kernel
theorem dX13_turnLoop_34 : decode cX13_turnLoop 34 = .ok (.aload_n 0, 1) := by decide +kernel
theorem dX13_turnLoop_35 : decode cX13_turnLoop 35 = .ok (.getfield 276, 3) := by decide +kernel
theorem dX13_turnLoop_38 : decode cX13_turnLoop 38 = .ok (.invokevirtual 442, 3) := by decide +kernel
theorem dX13_turnLoop_41 : decode cX13_turnLoop 41 = .ok (.aload_n 0, 1) := by decide +kernel
theorem dX13_turnLoop_42 : decode cX13_turnLoop 42 = .ok (.bipush 6, 2) := by decide +kernel
theorem dX13_turnLoop_44 : decode cX13_turnLoop 44 = .ok (.iconst 1, 1) := by decide +kernel
theorem dX13_turnLoop_45 : decode cX13_turnLoop 45 = .ok (.invokevirtual 310, 3) := by decide +kernel
theorem dX13_turnLoop_48 : decode cX13_turnLoop 48 = .ok (.ifCond .eq 10, 3) := by decide +kernel
theorem dX13_turnLoop_51 : decode cX13_turnLoop 51 = .ok (.aload_n 0, 1) := by decide +kernel
theorem dX13_turnLoop_52 : decode cX13_turnLoop 52 = .ok (.invokevirtual 436, 3) := by decide +kernel
theorem dX13_turnLoop_55 : decode cX13_turnLoop 55 = .ok (.ifCond .ne 5, 3) := by decide +kernel
theorem dX13_turnLoop_58 : decode cX13_turnLoop 58 = .ok (.iconst 0, 1) := by decide +kernel
theorem dX13_turnLoop_59 : decode cX13_turnLoop 59 = .ok (.ireturn, 1) := by decide +kernel
theorem dX13_turnLoop_60 : decode cX13_turnLoop 60 = .ok (.aload_n 0, 1) := by decide +kernel
theorem dX13_turnLoop_61 : decode cX13_turnLoop 61 = .ok (.bipush 14, 2) := by decide +kernel
theorem dX13_turnLoop_63 : decode cX13_turnLoop 63 = .ok (.iload_n 1, 1) := by decide +kernel
theorem dX13_turnLoop_64 : decode cX13_turnLoop 64 = .ok (.iconst 0, 1) := by decide +kernel
theorem dX13_turnLoop_65 : decode cX13_turnLoop 65 = .ok (.invokevirtual 401, 3) := by decide +kernel
theorem dX13_turnLoop_68 : decode cX13_turnLoop 68 = .ok (.pop, 1) := by decide +kernel
theorem dX13_turnLoop_69 : decode cX13_turnLoop 69 = .ok (.aload_n 0, 1) := by decide +kernel
theorem dX13_turnLoop_70 : decode cX13_turnLoop 70 = .ok (.iload_n 2, 1) := by decide +kernel
theorem dX13_turnLoop_71 : decode cX13_turnLoop 71 = .ok (.aload_n 0, 1) := by decide +kernel
theorem dX13_turnLoop_72 : decode cX13_turnLoop 72 = .ok (.getfield 276, 3) := by decide +kernel
theorem dX13_turnLoop_75 : decode cX13_turnLoop 75 = .ok (.invokevirtual 442, 3) := by decide +kernel
theorem dX13_turnLoop_78 : decode cX13_turnLoop 78 = .ok (.aload_n 0, 1) := by decide +kernel
theorem dX13_turnLoop_79 : decode cX13_turnLoop 79 = .ok (.dup, 1) := by decide +kernel
theorem dX13_turnLoop_80 : decode cX13_turnLoop 80 = .ok (.getfield 266, 3) := by decide +kernel
theorem dX13_turnLoop_83 : decode cX13_turnLoop 83 = .ok (.iconst 1, 1) := by decide +kernel
theorem dX13_turnLoop_84 : decode cX13_turnLoop 84 = .ok (.isub, 1) := by decide +kernel
theorem dX13_turnLoop_85 : decode cX13_turnLoop 85 = .ok (.putfield 266, 3) := by decide +kernel
theorem dX13_turnLoop_88 : decode cX13_turnLoop 88 = .ok (.aload_n 0, 1) := by decide +kernel
theorem dX13_turnLoop_89 : decode cX13_turnLoop 89 = .ok (.bipush 29, 2) := by decide +kernel
theorem dX13_turnLoop_91 : decode cX13_turnLoop 91 = .ok (.invokevirtual 273, 3) := by decide +kernel
theorem dX13_turnLoop_94 : decode cX13_turnLoop 94 = .ok (.ireturn, 1) := by decide +kernel
theorem dX13_counted_0 : decode cX13_counted 0 = .ok (.aload_n 0, 1) := by decide +kernel
theorem dX13_counted_1 : decode cX13_counted 1 = .ok (.invokevirtual 269, 3) := by decide +kernel
theorem dX13_counted_4 : decode cX13_counted 4 = .ok (.ifCond .eq 12, 3) := by decide +kernel
theorem dX13_counted_7 : decode cX13_counted 7 = .ok (.aload_n 0, 1) := by decide +kernel
theorem dX13_counted_8 : decode cX13_counted 8 = .ok (.bipush 22, 2) := by decide +kernel
theorem dX13_counted_10 : decode cX13_counted 10 = .ok (.invokevirtual 356, 3) := by decide +kernel
theorem dX13_counted_13 : decode cX13_counted 13 = .ok (.ifCond .ne 5, 3) := by decide +kernel
theorem dX13_counted_16 : decode cX13_counted 16 = .ok (.iconst 0, 1) := by decide +kernel
theorem dX13_counted_17 : decode cX13_counted 17 = .ok (.ireturn, 1) := by decide +kernel
theorem dX13_counted_18 : decode cX13_counted 18 = .ok (.aload_n 0, 1) := by decide +kernel
theorem dX13_counted_19 : decode cX13_counted 19 = .ok (.getfield 282, 3) := by decide +kernel
theorem dX13_counted_22 : decode cX13_counted 22 = .ok (.istore_n 1, 1) := by decide +kernel
theorem dX13_counted_23 : decode cX13_counted 23 = .ok (.aload_n 0, 1) := by decide +kernel
theorem dX13_counted_24 : decode cX13_counted 24 = .ok (.invokevirtual 392, 3) := by decide +kernel
theorem dX13_counted_27 : decode cX13_counted 27 = .ok (.aload_n 0, 1) := by decide +kernel
theorem dX13_counted_28 : decode cX13_counted 28 = .ok (.bipush 29, 2) := by decide +kernel
theorem dX13_counted_30 : decode cX13_counted 30 = .ok (.invokevirtual 257, 3) := by decide +kernel
theorem dX13_counted_33 : decode cX13_counted 33 = .ok (.ifCond .ne 30, 3) := by decide +kernel
theorem dX13_counted_36 : decode cX13_counted 36 = .ok (.aload_n 0, 1) := by decide +kernel
theorem dX13_counted_37 : decode cX13_counted 37 = .ok (.iconst 0, 1) := by decide +kernel
theorem dX13_counted_38 : decode cX13_counted 38 = .ok (.invokevirtual 263, 3) := by decide +kernel
theorem dX13_counted_41 : decode cX13_counted 41 = .ok (.ifCond .eq 11, 3) := by decide +kernel
theorem dX13_counted_44 : decode cX13_counted 44 = .ok (.aload_n 0, 1) := by decide +kernel
theorem dX13_counted_45 : decode cX13_counted 45 = .ok (.iconst 0, 1) := by decide +kernel
theorem dX13_counted_46 : decode cX13_counted 46 = .ok (.invokevirtual 414, 3) := by decide +kernel
theorem dX13_counted_49 : decode cX13_counted 49 = .ok (.goto 7, 3) := by decide +kernel
theorem dX13_counted_52 : decode cX13_counted 52 = .ok (.aload_n 0, 1) := by decide +kernel
theorem dX13_counted_53 : decode cX13_counted 53 = .ok (.invokevirtual 411, 3) := by decide +kernel
theorem dX13_counted_56 : decode cX13_counted 56 = .ok (.istore_n 2, 1) := by decide +kernel
theorem dX13_counted_57 : decode cX13_counted 57 = .ok (.iload_n 2, 1) := by decide +kernel
theorem dX13_counted_58 : decode cX13_counted 58 = .ok (.ifCond .ne 5, 3) := by decide +kernel
theorem dX13_counted_61 : decode cX13_counted 61 = .ok (.iconst 0, 1) := by decide +kernel
theorem dX13_counted_62 : decode cX13_counted 62 = .ok (.ireturn, 1) := by decide +kernel
theorem dX13_counted_63 : decode cX13_counted 63 = .ok (.aload_n 0, 1) := by decide +kernel
theorem dX13_counted_64 : decode cX13_counted 64 = .ok (.bipush 29, 2) := by decide +kernel
theorem dX13_counted_66 : decode cX13_counted 66 = .ok (.invokevirtual 273, 3) := by decide +kernel
theorem dX13_counted_69 : decode cX13_counted 69 = .ok (.ifCond .ne 5, 3) := by decide +kernel
theorem dX13_counted_72 : decode cX13_counted 72 = .ok (.iconst 0, 1) := by decide +kernel
theorem dX13_counted_73 : decode cX13_counted 73 = .ok (.ireturn, 1) := by decide +kernel
theorem dX13_counted_74 : decode cX13_counted 74 = .ok (.aload_n 0, 1) := by decide +kernel
theorem dX13_counted_75 : decode cX13_counted 75 = .ok (.getfield 276, 3) := by decide +kernel
theorem dX13_counted_78 : decode cX13_counted 78 = .ok (.istore_n 2, 1) := by decide +kernel
theorem dX13_counted_79 : decode cX13_counted 79 = .ok (.iconst (-1), 1) := by decide +kernel
theorem dX13_counted_80 : decode cX13_counted 80 = .ok (.istore_n 3, 1) := by decide +kernel
theorem dX13_counted_81 : decode cX13_counted 81 = .ok (.aload_n 0, 1) := by decide +kernel
theorem dX13_counted_82 : decode cX13_counted 82 = .ok (.bipush 29, 2) := by decide +kernel
theorem dX13_counted_84 : decode cX13_counted 84 = .ok (.invokevirtual 257, 3) := by decide +kernel
theorem dX13_counted_87 : decode cX13_counted 87 = .ok (.ifCond .ne 21, 3) := by decide +kernel
theorem dX13_counted_90 : decode cX13_counted 90 = .ok (.aload_n 0, 1) := by decide +kernel
theorem dX13_counted_91 : decode cX13_counted 91 = .ok (.invokevirtual 368, 3) := by decide +kernel
theorem dX13_counted_94 : decode cX13_counted 94 = .ok (.ifCond .ne 5, 3) := by decide +kernel
theorem dX13_counted_97 : decode cX13_counted 97 = .ok (.iconst 0, 1) := by decide +kernel
theorem dX13_counted_98 : decode cX13_counted 98 = .ok (.ireturn, 1) := by decide +kernel
theorem dX13_counted_99 : decode cX13_counted 99 = .ok (.aload_n 0, 1) := by decide +kernel
theorem dX13_counted_100 : decode cX13_counted 100 = .ok (.bipush 13, 2) := by decide +kernel
theorem dX13_counted_102 : decode cX13_counted 102 = .ok (.iconst 0, 1) := by decide +kernel
theorem dX13_counted_103 : decode cX13_counted 103 = .ok (.iconst 0, 1) := by decide +kernel
theorem dX13_counted_104 : decode cX13_counted 104 = .ok (.invokevirtual 401, 3) := by decide +kernel
theorem dX13_counted_107 : decode cX13_counted 107 = .ok (.istore_n 3, 1) := by decide +kernel
theorem dX13_counted_108 : decode cX13_counted 108 = .ok (.aload_n 0, 1) := by decide +kernel
theorem dX13_counted_109 : decode cX13_counted 109 = .ok (.bipush 29, 2) := by decide +kernel
theorem dX13_counted_111 : decode cX13_counted 111 = .ok (.invokevirtual 273, 3) := by decide +kernel
theorem dX13_counted_114 : decode cX13_counted 114 = .ok (.ifCond .ne 5, 3) := by decide +kernel
theorem dX13_counted_117 : decode cX13_counted 117 = .ok (.iconst 0, 1) := by decide +kernel
theorem dX13_counted_118 : decode cX13_counted 118 = .ok (.ireturn, 1) := by decide +kernel
theorem dX13_counted_119 : decode cX13_counted 119 = .ok (.aload_n 0, 1) := by decide +kernel
theorem dX13_counted_120 : decode cX13_counted 120 = .ok (.bipush 12, 2) := by decide +kernel
theorem dX13_counted_122 : decode cX13_counted 122 = .ok (.iconst 0, 1) := by decide +kernel
theorem dX13_counted_123 : decode cX13_counted 123 = .ok (.iconst 0, 1) := by decide +kernel
theorem dX13_counted_124 : decode cX13_counted 124 = .ok (.invokevirtual 401, 3) := by decide +kernel
theorem dX13_counted_127 : decode cX13_counted 127 = .ok (.istore 4, 2) := by decide +kernel
theorem dX13_counted_129 : decode cX13_counted 129 = .ok (.aload_n 0, 1) := by decide +kernel
theorem dX13_counted_130 : decode cX13_counted 130 = .ok (.getfield 276, 3) := by decide +kernel
theorem dX13_counted_133 : decode cX13_counted 133 = .ok (.istore 5, 2) := by decide +kernel
theorem dX13_counted_135 : decode cX13_counted 135 = .ok (.aload_n 0, 1) := by decide +kernel
theorem dX13_counted_136 : decode cX13_counted 136 = .ok (.bipush 23, 2) := by decide +kernel
theorem dX13_counted_138 : decode cX13_counted 138 = .ok (.invokevirtual 257, 3) := by decide +kernel
theorem dX13_counted_141 : decode cX13_counted 141 = .ok (.ifCond .ne 12, 3) := by decide +kernel
theorem dX13_counted_144 : decode cX13_counted 144 = .ok (.aload_n 0, 1) := by decide +kernel
theorem dX13_counted_145 : decode cX13_counted 145 = .ok (.invokevirtual 411, 3) := by decide +kernel
theorem dX13_counted_148 : decode cX13_counted 148 = .ok (.ifCond .ne 5, 3) := by decide +kernel
theorem dX13_counted_151 : decode cX13_counted 151 = .ok (.iconst 0, 1) := by decide +kernel
theorem dX13_counted_152 : decode cX13_counted 152 = .ok (.ireturn, 1) := by decide +kernel
theorem dX13_counted_153 : decode cX13_counted 153 = .ok (.aload_n 0, 1) := by decide +kernel
theorem dX13_counted_154 : decode cX13_counted 154 = .ok (.bipush 23, 2) := by decide +kernel
theorem dX13_counted_156 : decode cX13_counted 156 = .ok (.invokevirtual 362, 3) := by decide +kernel
theorem dX13_counted_159 : decode cX13_counted 159 = .ok (.ifCond .ne 5, 3) := by decide +kernel
theorem dX13_counted_162 : decode cX13_counted 162 = .ok (.iconst 0, 1) := by decide +kernel
theorem dX13_counted_163 : decode cX13_counted 163 = .ok (.ireturn, 1) := by decide +kernel
theorem dX13_counted_164 : decode cX13_counted 164 = .ok (.aload_n 0, 1) := by decide +kernel
theorem dX13_counted_165 : decode cX13_counted 165 = .ok (.bipush 12, 2) := by decide +kernel
theorem dX13_counted_167 : decode cX13_counted 167 = .ok (.iload_n 2, 1) := by decide +kernel
theorem dX13_counted_168 : decode cX13_counted 168 = .ok (.iconst 0, 1) := by decide +kernel
theorem dX13_counted_169 : decode cX13_counted 169 = .ok (.invokevirtual 401, 3) := by decide +kernel
theorem dX13_counted_172 : decode cX13_counted 172 = .ok (.pop, 1) := by decide +kernel
theorem dX13_counted_173 : decode cX13_counted 173 = .ok (.aload_n 0, 1) := by decide +kernel
theorem dX13_counted_174 : decode cX13_counted 174 = .ok (.getfield 107, 3) := by decide +kernel
theorem dX13_counted_177 : decode cX13_counted 177 = .ok (.iload 4, 2) := by decide +kernel
theorem dX13_counted_179 : decode cX13_counted 179 = .ok (.aload_n 0, 1) := by decide +kernel
theorem dX13_counted_180 : decode cX13_counted 180 = .ok (.getfield 276, 3) := by decide +kernel
theorem dX13_counted_183 : decode cX13_counted 183 = .ok (.iastore, 1) := by decide +kernel
theorem dX13_counted_184 : decode cX13_counted 184 = .ok (.aload_n 0, 1) := by decide +kernel
theorem dX13_counted_185 : decode cX13_counted 185 = .ok (.iload 5, 2) := by decide +kernel
theorem dX13_counted_187 : decode cX13_counted 187 = .ok (.invokevirtual 451, 3) := by decide +kernel
theorem dX13_counted_190 : decode cX13_counted 190 = .ok (.ifCond .ne 5, 3) := by decide +kernel
theorem dX13_counted_193 : decode cX13_counted 193 = .ok (.iconst 0, 1) := by decide +kernel
theorem dX13_counted_194 : decode cX13_counted 194 = .ok (.ireturn, 1) := by decide +kernel
theorem dX13_counted_195 : decode cX13_counted 195 = .ok (.aload_n 0, 1) := by decide +kernel
theorem dX13_counted_196 : decode cX13_counted 196 = .ok (.getfield 448, 3) := by decide +kernel
theorem dX13_counted_199 : decode cX13_counted 199 = .ok (.istore 6, 2) := by decide +kernel
theorem dX13_counted_201 : decode cX13_counted 201 = .ok (.aload_n 0, 1) := by decide +kernel
theorem dX13_counted_202 : decode cX13_counted 202 = .ok (.bipush 12, 2) := by decide +kernel
theorem dX13_counted_204 : decode cX13_counted 204 = .ok (.iload 5, 2) := by decide +kernel
theorem dX13_counted_206 : decode cX13_counted 206 = .ok (.iconst 0, 1) := by decide +kernel
theorem dX13_counted_207 : decode cX13_counted 207 = .ok (.invokevirtual 401, 3) := by decide +kernel
theorem dX13_counted_210 : decode cX13_counted 210 = .ok (.pop, 1) := by decide +kernel
theorem dX13_counted_211 : decode cX13_counted 211 = .ok (.iload_n 3, 1) := by decide +kernel
theorem dX13_counted_212 : decode cX13_counted 212 = .ok (.iconst (-1), 1) := by decide +kernel
theorem dX13_counted_213 : decode cX13_counted 213 = .ok (.if_icmp .eq 13, 3) := by decide +kernel
theorem dX13_counted_216 : decode cX13_counted 216 = .ok (.aload_n 0, 1) := by decide +kernel
theorem dX13_counted_217 : decode cX13_counted 217 = .ok (.getfield 107, 3) := by decide +kernel
theorem dX13_counted_220 : decode cX13_counted 220 = .ok (.iload_n 3, 1) := by decide +kernel
theorem dX13_counted_221 : decode cX13_counted 221 = .ok (.aload_n 0, 1) := by decide +kernel
theorem dX13_counted_222 : decode cX13_counted 222 = .ok (.getfield 276, 3) := by decide +kernel
theorem dX13_counted_225 : decode cX13_counted 225 = .ok (.iastore, 1) := by decide +kernel
theorem dX13_counted_226 : decode cX13_counted 226 = .ok (.aload_n 0, 1) := by decide +kernel
theorem dX13_counted_227 : decode cX13_counted 227 = .ok (.iload 6, 2) := by decide +kernel
theorem dX13_counted_229 : decode cX13_counted 229 = .ok (.aload_n 0, 1) := by decide +kernel
theorem dX13_counted_230 : decode cX13_counted 230 = .ok (.getfield 276, 3) := by decide +kernel
theorem dX13_counted_233 : decode cX13_counted 233 = .ok (.invokevirtual 442, 3) := by decide +kernel
theorem dX13_counted_236 : decode cX13_counted 236 = .ok (.aload_n 0, 1) := by decide +kernel
theorem dX13_counted_237 : decode cX13_counted 237 = .ok (.iload_n 1, 1) := by decide +kernel
theorem dX13_counted_238 : decode cX13_counted 238 = .ok (.invokevirtual 405, 3) := by decide +kernel
theorem dX13_counted_241 : decode cX13_counted 241 = .ok (.aload_n 0, 1) := by decide +kernel
theorem dX13_counted_242 : decode cX13_counted 242 = .ok (.dup, 1) := by decide +kernel
theorem dX13_counted_243 : decode cX13_counted 243 = .ok (.getfield 266, 3) := by decide +kernel
theorem dX13_counted_246 : decode cX13_counted 246 = .ok (.iconst 1, 1) := by decide +kernel
theorem dX13_counted_247 : decode cX13_counted 247 = .ok (.isub, 1) := by decide +kernel
theorem dX13_counted_248 : decode cX13_counted 248 = .ok (.putfield 266, 3) := by decide +kernel
theorem dX13_counted_251 : decode cX13_counted 251 = .ok (.iconst 1, 1) := by decide +kernel
theorem dX13_counted_252 : decode cX13_counted 252 = .ok (.ireturn, 1) := by decide +kernel
theorem dX13_leaves_0 : decode cX13_leaves 0 = .ok (.aload_n 0, 1) := by decide +kernel
theorem dX13_leaves_1 : decode cX13_leaves 1 = .ok (.bipush 9, 2) := by decide +kernel
theorem dX13_leaves_3 : decode cX13_leaves 3 = .ok (.invokevirtual 263, 3) := by decide +kernel
theorem dX13_leaves_6 : decode cX13_leaves 6 = .ok (.istore_n 1, 1) := by decide +kernel
theorem dX13_leaves_7 : decode cX13_leaves 7 = .ok (.aload_n 0, 1) := by decide +kernel
theorem dX13_leaves_8 : decode cX13_leaves 8 = .ok (.getfield 389, 3) := by decide +kernel
theorem dX13_leaves_11 : decode cX13_leaves 11 = .ok (.ifCond .ne 18, 3) := by decide +kernel
theorem dX13_leaves_14 : decode cX13_leaves 14 = .ok (.aload_n 0, 1) := by decide +kernel
theorem dX13_leaves_15 : decode cX13_leaves 15 = .ok (.bipush 9, 2) := by decide +kernel
theorem dX13_leaves_17 : decode cX13_leaves 17 = .ok (.aload_n 0, 1) := by decide +kernel
theorem dX13_leaves_18 : decode cX13_leaves 18 = .ok (.getfield 22, 3) := by decide +kernel
theorem dX13_leaves_21 : decode cX13_leaves 21 = .ok (.aload_n 0, 1) := by decide +kernel
theorem dX13_leaves_22 : decode cX13_leaves 22 = .ok (.getfield 233, 3) := by decide +kernel
theorem dX13_leaves_25 : decode cX13_leaves 25 = .ok (.iaload, 1) := by decide +kernel
theorem dX13_leaves_26 : decode cX13_leaves 26 = .ok (.invokevirtual 352, 3) := by decide +kernel
theorem dX13_leaves_29 : decode cX13_leaves 29 = .ok (.aload_n 0, 1) := by decide +kernel
theorem dX13_leaves_30 : decode cX13_leaves 30 = .ok (.dup, 1) := by decide +kernel
theorem dX13_leaves_31 : decode cX13_leaves 31 = .ok (.getfield 233, 3) := by decide +kernel
theorem dX13_leaves_34 : decode cX13_leaves 34 = .ok (.iconst 1, 1) := by decide +kernel
theorem dX13_leaves_35 : decode cX13_leaves 35 = .ok (.iadd, 1) := by decide +kernel
theorem dX13_leaves_36 : decode cX13_leaves 36 = .ok (.putfield 233, 3) := by decide +kernel
theorem dX13_leaves_39 : decode cX13_leaves 39 = .ok (.aload_n 0, 1) := by decide +kernel
theorem dX13_leaves_40 : decode cX13_leaves 40 = .ok (.bipush 12, 2) := by decide +kernel
theorem dX13_leaves_42 : decode cX13_leaves 42 = .ok (.iconst 0, 1) := by decide +kernel
theorem dX13_leaves_43 : decode cX13_leaves 43 = .ok (.iconst 0, 1) := by decide +kernel
theorem dX13_leaves_44 : decode cX13_leaves 44 = .ok (.invokevirtual 401, 3) := by decide +kernel
theorem dX13_leaves_47 : decode cX13_leaves 47 = .ok (.istore_n 2, 1) := by decide +kernel
theorem dX13_leaves_48 : decode cX13_leaves 48 = .ok (.aload_n 0, 1) := by decide +kernel
theorem dX13_leaves_49 : decode cX13_leaves 49 = .ok (.getfield 389, 3) := by decide +kernel
theorem dX13_leaves_52 : decode cX13_leaves 52 = .ok (.ifCond .le 41, 3) := by decide +kernel
theorem dX13_leaves_55 : decode cX13_leaves 55 = .ok (.aload_n 0, 1) := by decide +kernel
theorem dX13_leaves_56 : decode cX13_leaves 56 = .ok (.getfield 107, 3) := by decide +kernel
theorem dX13_leaves_59 : decode cX13_leaves 59 = .ok (.iload_n 2, 1) := by decide +kernel
theorem dX13_leaves_60 : decode cX13_leaves 60 = .ok (.iload_n 1, 1) := by decide +kernel
theorem dX13_leaves_61 : decode cX13_leaves 61 = .ok (.ifCond .eq 10, 3) := by decide +kernel
theorem dX13_leaves_64 : decode cX13_leaves 64 = .ok (.aload_n 0, 1) := by decide +kernel
theorem dX13_leaves_65 : decode cX13_leaves 65 = .ok (.getfield 377, 3) := by decide +kernel
theorem dX13_leaves_68 : decode cX13_leaves 68 = .ok (.goto 7, 3) := by decide +kernel
theorem dX13_leaves_71 : decode cX13_leaves 71 = .ok (.aload_n 0, 1) := by decide +kernel
theorem dX13_leaves_72 : decode cX13_leaves 72 = .ok (.getfield 380, 3) := by decide +kernel
theorem dX13_leaves_75 : decode cX13_leaves 75 = .ok (.iastore, 1) := by decide +kernel
theorem dX13_leaves_76 : decode cX13_leaves 76 = .ok (.iload_n 1, 1) := by decide +kernel
theorem dX13_leaves_77 : decode cX13_leaves 77 = .ok (.ifCond .eq 11, 3) := by decide +kernel
theorem dX13_leaves_80 : decode cX13_leaves 80 = .ok (.aload_n 0, 1) := by decide +kernel
theorem dX13_leaves_81 : decode cX13_leaves 81 = .ok (.iload_n 2, 1) := by decide +kernel
theorem dX13_leaves_82 : decode cX13_leaves 82 = .ok (.putfield 377, 3) := by decide +kernel
theorem dX13_leaves_85 : decode cX13_leaves 85 = .ok (.goto 8, 3) := by decide +kernel
theorem dX13_leaves_88 : decode cX13_leaves 88 = .ok (.aload_n 0, 1) := by decide +kernel
theorem dX13_leaves_89 : decode cX13_leaves 89 = .ok (.iload_n 2, 1) := by decide +kernel
theorem dX13_leaves_90 : decode cX13_leaves 90 = .ok (.putfield 380, 3) := by decide +kernel
theorem dX13_leaves_93 : decode cX13_leaves 93 = .ok (.aload_n 0, 1) := by decide +kernel
theorem dX13_leaves_94 : decode cX13_leaves 94 = .ok (.bipush 29, 2) := by decide +kernel
theorem dX13_leaves_96 : decode cX13_leaves 96 = .ok (.invokevirtual 273, 3) := by decide +kernel
theorem dX13_leaves_99 : decode cX13_leaves 99 = .ok (.ireturn, 1) := by decide +kernel
theorem dX13_returns_0 : decode cX13_returns 0 = .ok (.aload_n 0, 1) := by decide +kernel
theorem dX13_returns_1 : decode cX13_returns 1 = .ok (.dup, 1) := by decide +kernel
theorem dX13_returns_2 : decode cX13_returns 2 = .ok (.getfield 233, 3) := by decide +kernel
theorem dX13_returns_5 : decode cX13_returns 5 = .ok (.iconst 1, 1) := by decide +kernel
theorem dX13_returns_6 : decode cX13_returns 6 = .ok (.iadd, 1) := by decide +kernel
theorem dX13_returns_7 : decode cX13_returns 7 = .ok (.putfield 233, 3) := by decide +kernel
theorem dX13_returns_10 : decode cX13_returns 10 = .ok (.aload_n 0, 1) := by decide +kernel
theorem dX13_returns_11 : decode cX13_returns 11 = .ok (.bipush 29, 2) := by decide +kernel
theorem dX13_returns_13 : decode cX13_returns 13 = .ok (.invokevirtual 257, 3) := by decide +kernel
theorem dX13_returns_16 : decode cX13_returns 16 = .ok (.ifCond .eq 41, 3) := by decide +kernel
theorem dX13_returns_19 : decode cX13_returns 19 = .ok (.aload_n 0, 1) := by decide +kernel
theorem dX13_returns_20 : decode cX13_returns 20 = .ok (.getfield 86, 3) := by decide +kernel
theorem dX13_returns_23 : decode cX13_returns 23 = .ok (.aload_n 0, 1) := by decide +kernel
theorem dX13_returns_24 : decode cX13_returns 24 = .ok (.getfield 294, 3) := by decide +kernel
theorem dX13_returns_27 : decode cX13_returns 27 = .ok (.baload, 1) := by decide +kernel
theorem dX13_returns_28 : decode cX13_returns 28 = .ok (.ifCond .ne 18, 3) := by decide +kernel
theorem dX13_returns_31 : decode cX13_returns 31 = .ok (.aload_n 0, 1) := by decide +kernel
theorem dX13_returns_32 : decode cX13_returns 32 = .ok (.bipush 8, 2) := by decide +kernel
theorem dX13_returns_34 : decode cX13_returns 34 = .ok (.aload_n 0, 1) := by decide +kernel
theorem dX13_returns_35 : decode cX13_returns 35 = .ok (.getfield 22, 3) := by decide +kernel
theorem dX13_returns_38 : decode cX13_returns 38 = .ok (.aload_n 0, 1) := by decide +kernel
theorem dX13_returns_39 : decode cX13_returns 39 = .ok (.getfield 233, 3) := by decide +kernel
theorem dX13_returns_42 : decode cX13_returns 42 = .ok (.iaload, 1) := by decide +kernel
theorem dX13_returns_43 : decode cX13_returns 43 = .ok (.invokevirtual 352, 3) := by decide +kernel
theorem dX13_returns_46 : decode cX13_returns 46 = .ok (.aload_n 0, 1) := by decide +kernel
theorem dX13_returns_47 : decode cX13_returns 47 = .ok (.iconst 0, 1) := by decide +kernel
theorem dX13_returns_48 : decode cX13_returns 48 = .ok (.iconst 0, 1) := by decide +kernel
theorem dX13_returns_49 : decode cX13_returns 49 = .ok (.iconst 0, 1) := by decide +kernel
theorem dX13_returns_50 : decode cX13_returns 50 = .ok (.invokevirtual 401, 3) := by decide +kernel
theorem dX13_returns_53 : decode cX13_returns 53 = .ok (.pop, 1) := by decide +kernel
theorem dX13_returns_54 : decode cX13_returns 54 = .ok (.goto 44, 3) := by decide +kernel
theorem dX13_returns_57 : decode cX13_returns 57 = .ok (.aload_n 0, 1) := by decide +kernel
theorem dX13_returns_58 : decode cX13_returns 58 = .ok (.getfield 86, 3) := by decide +kernel
theorem dX13_returns_61 : decode cX13_returns 61 = .ok (.aload_n 0, 1) := by decide +kernel
theorem dX13_returns_62 : decode cX13_returns 62 = .ok (.getfield 294, 3) := by decide +kernel
theorem dX13_returns_65 : decode cX13_returns 65 = .ok (.baload, 1) := by decide +kernel
theorem dX13_returns_66 : decode cX13_returns 66 = .ok (.ifCond .eq 23, 3) := by decide +kernel
theorem dX13_returns_69 : decode cX13_returns 69 = .ok (.aload_n 0, 1) := by decide +kernel
theorem dX13_returns_70 : decode cX13_returns 70 = .ok (.bipush 8, 2) := by decide +kernel
theorem dX13_returns_72 : decode cX13_returns 72 = .ok (.aload_n 0, 1) := by decide +kernel
theorem dX13_returns_73 : decode cX13_returns 73 = .ok (.getfield 22, 3) := by decide +kernel
theorem dX13_returns_76 : decode cX13_returns 76 = .ok (.aload_n 0, 1) := by decide +kernel
theorem dX13_returns_77 : decode cX13_returns 77 = .ok (.getfield 233, 3) := by decide +kernel
theorem dX13_returns_80 : decode cX13_returns 80 = .ok (.iaload, 1) := by decide +kernel
theorem dX13_returns_81 : decode cX13_returns 81 = .ok (.bipush 7, 2) := by decide +kernel
theorem dX13_returns_83 : decode cX13_returns 83 = .ok (.invokestatic 239, 3) := by decide +kernel
theorem dX13_returns_86 : decode cX13_returns 86 = .ok (.invokevirtual 242, 3) := by decide +kernel
theorem dX13_returns_89 : decode cX13_returns 89 = .ok (.aload_n 0, 1) := by decide +kernel
theorem dX13_returns_90 : decode cX13_returns 90 = .ok (.invokevirtual 368, 3) := by decide +kernel
theorem dX13_returns_93 : decode cX13_returns 93 = .ok (.ifCond .ne 5, 3) := by decide +kernel
theorem dX13_returns_96 : decode cX13_returns 96 = .ok (.iconst 0, 1) := by decide +kernel
theorem dX13_returns_97 : decode cX13_returns 97 = .ok (.ireturn, 1) := by decide +kernel
theorem dX13_returns_98 : decode cX13_returns 98 = .ok (.aload_n 0, 1) := by decide +kernel
theorem dX13_returns_99 : decode cX13_returns 99 = .ok (.bipush 17, 2) := by decide +kernel
theorem dX13_returns_101 : decode cX13_returns 101 = .ok (.iconst 0, 1) := by decide +kernel
theorem dX13_returns_102 : decode cX13_returns 102 = .ok (.iconst 0, 1) := by decide +kernel
theorem dX13_returns_103 : decode cX13_returns 103 = .ok (.invokevirtual 401, 3) := by decide +kernel
theorem dX13_returns_106 : decode cX13_returns 106 = .ok (.pop, 1) := by decide +kernel
theorem dX13_returns_107 : decode cX13_returns 107 = .ok (.aload_n 0, 1) := by decide +kernel
theorem dX13_returns_108 : decode cX13_returns 108 = .ok (.bipush 29, 2) := by decide +kernel
theorem dX13_returns_110 : decode cX13_returns 110 = .ok (.invokevirtual 273, 3) := by decide +kernel
theorem dX13_returns_113 : decode cX13_returns 113 = .ok (.ireturn, 1) := by decide +kernel
theorem dX13_globalInt_0 : decode cX13_globalInt 0 = .ok (.aload_n 0, 1) := by decide +kernel
theorem dX13_globalInt_1 : decode cX13_globalInt 1 = .ok (.iload_n 1, 1) := by decide +kernel
theorem dX13_globalInt_2 : decode cX13_globalInt 2 = .ok (.invokevirtual 327, 3) := by decide +kernel
theorem dX13_globalInt_5 : decode cX13_globalInt 5 = .ok (.istore_n 2, 1) := by decide +kernel
theorem dX13_globalInt_6 : decode cX13_globalInt 6 = .ok (.aload_n 0, 1) := by decide +kernel
theorem dX13_globalInt_7 : decode cX13_globalInt 7 = .ok (.iload_n 1, 1) := by decide +kernel
theorem dX13_globalInt_8 : decode cX13_globalInt 8 = .ok (.iconst 1, 1) := by decide +kernel
theorem dX13_globalInt_9 : decode cX13_globalInt 9 = .ok (.iconst 0, 1) := by decide +kernel
theorem dX13_globalInt_10 : decode cX13_globalInt 10 = .ok (.aload_n 0, 1) := by decide +kernel
theorem dX13_globalInt_11 : decode cX13_globalInt 11 = .ok (.getfield 95, 3) := by decide +kernel
theorem dX13_globalInt_14 : decode cX13_globalInt 14 = .ok (.iload_n 2, 1) := by decide +kernel
theorem dX13_globalInt_15 : decode cX13_globalInt 15 = .ok (.sipush 2000, 3) := by decide +kernel
theorem dX13_globalInt_18 : decode cX13_globalInt 18 = .ok (.invokestatic 333, 3) := by decide +kernel
theorem dX13_globalInt_21 : decode cX13_globalInt 21 = .ok (.iaload, 1) := by decide +kernel
theorem dX13_globalInt_22 : decode cX13_globalInt 22 = .ok (.iconst 1, 1) := by decide +kernel
theorem dX13_globalInt_23 : decode cX13_globalInt 23 = .ok (.iconst 0, 1) := by decide +kernel
theorem dX13_globalInt_24 : decode cX13_globalInt 24 = .ok (.invokevirtual 338, 3) := by decide +kernel
theorem dX13_globalInt_27 : decode cX13_globalInt 27 = .ok (.iconst 1, 1) := by decide +kernel
theorem dX13_globalInt_28 : decode cX13_globalInt 28 = .ok (.ireturn, 1) := by decide +kernel
theorem dX13_globalAt_0 : decode cX13_globalAt 0 = .ok (.aload_n 0, 1) := by decide +kernel
theorem dX13_globalAt_1 : decode cX13_globalAt 1 = .ok (.iload_n 1, 1) := by decide +kernel
theorem dX13_globalAt_2 : decode cX13_globalAt 2 = .ok (.invokevirtual 348, 3) := by decide +kernel
theorem dX13_globalAt_5 : decode cX13_globalAt 5 = .ok (.aload_n 0, 1) := by decide +kernel
theorem dX13_globalAt_6 : decode cX13_globalAt 6 = .ok (.getfield 288, 3) := by decide +kernel
theorem dX13_globalAt_9 : decode cX13_globalAt 9 = .ok (.istore_n 2, 1) := by decide +kernel
theorem dX13_globalAt_10 : decode cX13_globalAt 10 = .ok (.aload_n 0, 1) := by decide +kernel
theorem dX13_globalAt_11 : decode cX13_globalAt 11 = .ok (.dup, 1) := by decide +kernel
theorem dX13_globalAt_12 : decode cX13_globalAt 12 = .ok (.getfield 288, 3) := by decide +kernel
theorem dX13_globalAt_15 : decode cX13_globalAt 15 = .ok (.iconst 1, 1) := by decide +kernel
theorem dX13_globalAt_16 : decode cX13_globalAt 16 = .ok (.iadd, 1) := by decide +kernel
theorem dX13_globalAt_17 : decode cX13_globalAt 17 = .ok (.putfield 288, 3) := by decide +kernel
theorem dX13_globalAt_20 : decode cX13_globalAt 20 = .ok (.aload_n 0, 1) := by decide +kernel
theorem dX13_globalAt_21 : decode cX13_globalAt 21 = .ok (.getfield 288, 3) := by decide +kernel
theorem dX13_globalAt_24 : decode cX13_globalAt 24 = .ok (.sipush 2000, 3) := by decide +kernel
theorem dX13_globalAt_27 : decode cX13_globalAt 27 = .ok (.if_icmp .le 15, 3) := by decide +kernel
theorem dX13_globalAt_30 : decode cX13_globalAt 30 = .ok (.aload_n 0, 1) := by decide +kernel
theorem dX13_globalAt_31 : decode cX13_globalAt 31 = .ok (.bipush 11, 2) := by decide +kernel
theorem dX13_globalAt_33 : decode cX13_globalAt 33 = .ok (.aload_n 0, 1) := by decide +kernel
theorem dX13_globalAt_34 : decode cX13_globalAt 34 = .ok (.getfield 22, 3) := by decide +kernel
theorem dX13_globalAt_37 : decode cX13_globalAt 37 = .ok (.iload_n 1, 1) := by decide +kernel
theorem dX13_globalAt_38 : decode cX13_globalAt 38 = .ok (.iaload, 1) := by decide +kernel
theorem dX13_globalAt_39 : decode cX13_globalAt 39 = .ok (.invokevirtual 352, 3) := by decide +kernel
theorem dX13_globalAt_42 : decode cX13_globalAt 42 = .ok (.iload_n 2, 1) := by decide +kernel
theorem dX13_globalAt_43 : decode cX13_globalAt 43 = .ok (.sipush 2000, 3) := by decide +kernel
theorem dX13_globalAt_46 : decode cX13_globalAt 46 = .ok (.if_icmp .gt 27, 3) := by decide +kernel
theorem dX13_globalAt_49 : decode cX13_globalAt 49 = .ok (.aload_n 0, 1) := by decide +kernel
theorem dX13_globalAt_50 : decode cX13_globalAt 50 = .ok (.getfield 92, 3) := by decide +kernel
theorem dX13_globalAt_53 : decode cX13_globalAt 53 = .ok (.iload_n 2, 1) := by decide +kernel
theorem dX13_globalAt_54 : decode cX13_globalAt 54 = .ok (.iconst 1, 1) := by decide +kernel
theorem dX13_globalAt_55 : decode cX13_globalAt 55 = .ok (.iastore, 1) := by decide +kernel
theorem dX13_globalAt_56 : decode cX13_globalAt 56 = .ok (.aload_n 0, 1) := by decide +kernel
theorem dX13_globalAt_57 : decode cX13_globalAt 57 = .ok (.getfield 98, 3) := by decide +kernel
theorem dX13_globalAt_60 : decode cX13_globalAt 60 = .ok (.iload_n 2, 1) := by decide +kernel
theorem dX13_globalAt_61 : decode cX13_globalAt 61 = .ok (.iconst 0, 1) := by decide +kernel
theorem dX13_globalAt_62 : decode cX13_globalAt 62 = .ok (.bastore, 1) := by decide +kernel
theorem dX13_globalAt_63 : decode cX13_globalAt 63 = .ok (.aload_n 0, 1) := by decide +kernel
theorem dX13_globalAt_64 : decode cX13_globalAt 64 = .ok (.getfield 95, 3) := by decide +kernel
theorem dX13_globalAt_67 : decode cX13_globalAt 67 = .ok (.iload_n 2, 1) := by decide +kernel
theorem dX13_globalAt_68 : decode cX13_globalAt 68 = .ok (.aload_n 0, 1) := by decide +kernel
theorem dX13_globalAt_69 : decode cX13_globalAt 69 = .ok (.getfield 291, 3) := by decide +kernel
theorem dX13_globalAt_72 : decode cX13_globalAt 72 = .ok (.iastore, 1) := by decide +kernel
theorem dX13_globalAt_73 : decode cX13_globalAt 73 = .ok (.iload_n 2, 1) := by decide +kernel
theorem dX13_globalAt_74 : decode cX13_globalAt 74 = .ok (.sipush 2000, 3) := by decide +kernel
theorem dX13_globalAt_77 : decode cX13_globalAt 77 = .ok (.if_icmp .ge 23, 3) := by decide +kernel
theorem dX13_globalAt_80 : decode cX13_globalAt 80 = .ok (.aload_n 0, 1) := by decide +kernel
theorem dX13_globalAt_81 : decode cX13_globalAt 81 = .ok (.getfield 101, 3) := by decide +kernel
theorem dX13_globalAt_84 : decode cX13_globalAt 84 = .ok (.aload_n 0, 1) := by decide +kernel
theorem dX13_globalAt_85 : decode cX13_globalAt 85 = .ok (.getfield 291, 3) := by decide +kernel
theorem dX13_globalAt_88 : decode cX13_globalAt 88 = .ok (.iconst 0, 1) := by decide +kernel
theorem dX13_globalAt_89 : decode cX13_globalAt 89 = .ok (.iastore, 1) := by decide +kernel
theorem dX13_globalAt_90 : decode cX13_globalAt 90 = .ok (.aload_n 0, 1) := by decide +kernel
theorem dX13_globalAt_91 : decode cX13_globalAt 91 = .ok (.dup, 1) := by decide +kernel
theorem dX13_globalAt_92 : decode cX13_globalAt 92 = .ok (.getfield 291, 3) := by decide +kernel
theorem dX13_globalAt_95 : decode cX13_globalAt 95 = .ok (.iconst 1, 1) := by decide +kernel
theorem dX13_globalAt_96 : decode cX13_globalAt 96 = .ok (.iadd, 1) := by decide +kernel
theorem dX13_globalAt_97 : decode cX13_globalAt 97 = .ok (.putfield 291, 3) := by decide +kernel
theorem dX13_globalAt_100 : decode cX13_globalAt 100 = .ok (.iload_n 2, 1) := by decide +kernel
theorem dX13_globalAt_101 : decode cX13_globalAt 101 = .ok (.ireturn, 1) := by decide +kernel
