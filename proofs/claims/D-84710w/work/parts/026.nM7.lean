/-! names: X13_works X13_returnsHere X13_output X13_world X13_global X13_put X13_set X13_board X13_go (tools/names.py) -/
set_option maxRecDepth 100000
theorem q3615 : (Jvm.Cond.methodLink "CompiledHouseModel" (566 : Nat) ({ cls := "CompiledHouseModel", name := "returnsHere", desc := "()V" } : Jvm.MethodName)) ∈ lw_all := lw_g (lw_at lw_m15 59 rfl) rfl
abbrev cX13_returnsHere : ByteArray := prog_39_method_81_code
def yX13_returnsHere : MethodName := ⟨RX13, "returnsHere", "()V"⟩
theorem q3618 : (Jvm.Cond.code ({ cls := "CompiledHouseModel", name := "returnsHere", desc := "()V" } : Jvm.MethodName) prog_39_method_81_code (3 : Nat) (Option.none : Option Jvm.ClassFile.FieldType)) ∈ lw_all := lw_g (lw_at lw_m15 62 rfl) rfl
def kX13_returnsHere : xK := (yX13_returnsHere, cX13_returnsHere, 3, none, [])
theorem me_X13_returnsHere : xMe kX13_returnsHere 0 := ⟨q3618, q216, by decide, by decide, by decide +kernel⟩
theorem q3617 : (Jvm.Cond.instanceMethod ({ cls := "CompiledHouseModel", name := "returnsHere", desc := "()V" } : Jvm.MethodName)) ∈ lw_all := lw_g (lw_at lw_m15 61 rfl) rfl
theorem is_X13_returnsHere : Cond.instanceMethod kX13_returnsHere.y ∈ lw_all := q3617
theorem se_X13_returnsHere : Cond.selects RX13 kX13_returnsHere.y kX13_returnsHere.y ∈ lw_all := qs184
theorem lk_X13_566 : xLk RX13 566 yX13_returnsHere := Or.inl q3615
theorem q3619 : (Jvm.Cond.constant "CompiledHouseModel" (569 : Nat) (2147483647 : Int32)) ∈ lw_all := lw_g (lw_at lw_m15 63 rfl) rfl
abbrev cX13_output : ByteArray := prog_39_method_84_code
def yX13_output : MethodName := ⟨RX13, "output", "(I)I"⟩
theorem q3623 : (Jvm.Cond.code ({ cls := "CompiledHouseModel", name := "output", desc := "(I)I" } : Jvm.MethodName) prog_39_method_84_code (2 : Nat) (Option.some Jvm.ClassFile.FieldType.int)) ∈ lw_all := lw_g (lw_at lw_m15 67 rfl) rfl
def kX13_output : xK := (yX13_output, cX13_output, 2, some .int, [])
theorem me_X13_output : xMe kX13_output 1 := ⟨q3623, q216, by decide, by decide, by decide +kernel⟩
theorem q3621 : (Jvm.Cond.instanceMethod ({ cls := "CompiledHouseModel", name := "output", desc := "(I)I" } : Jvm.MethodName)) ∈ lw_all := lw_g (lw_at lw_m15 65 rfl) rfl
theorem is_X13_output : Cond.instanceMethod kX13_output.y ∈ lw_all := q3621
theorem q3622 : (Jvm.Cond.selects "CompiledHouseModel" ({ cls := "CompiledHouseModel", name := "output", desc := "(I)I" } : Jvm.MethodName) ({ cls := "CompiledHouseModel", name := "output", desc := "(I)I" } : Jvm.MethodName)) ∈ lw_all := lw_g (lw_at lw_m15 66 rfl) rfl
theorem se_X13_output : Cond.selects RX13 kX13_output.y kX13_output.y ∈ lw_all := q3622
abbrev cX13_world : ByteArray := prog_39_method_85_code
def yX13_world : MethodName := ⟨RX13, "world", "(I)I"⟩
theorem q3627 : (Jvm.Cond.code ({ cls := "CompiledHouseModel", name := "world", desc := "(I)I" } : Jvm.MethodName) prog_39_method_85_code (2 : Nat) (Option.some Jvm.ClassFile.FieldType.int)) ∈ lw_all := lw_g (lw_at lw_m15 71 rfl) rfl
def kX13_world : xK := (yX13_world, cX13_world, 2, some .int, [])
theorem me_X13_world : xMe kX13_world 1 := ⟨q3627, q216, by decide, by decide, by decide +kernel⟩
theorem q3625 : (Jvm.Cond.instanceMethod ({ cls := "CompiledHouseModel", name := "world", desc := "(I)I" } : Jvm.MethodName)) ∈ lw_all := lw_g (lw_at lw_m15 69 rfl) rfl
theorem is_X13_world : Cond.instanceMethod kX13_world.y ∈ lw_all := q3625
theorem q3626 : (Jvm.Cond.selects "CompiledHouseModel" ({ cls := "CompiledHouseModel", name := "world", desc := "(I)I" } : Jvm.MethodName) ({ cls := "CompiledHouseModel", name := "world", desc := "(I)I" } : Jvm.MethodName)) ∈ lw_all := lw_g (lw_at lw_m15 70 rfl) rfl
theorem se_X13_world : Cond.selects RX13 kX13_world.y kX13_world.y ∈ lw_all := q3626
abbrev cX13_global : ByteArray := prog_39_method_86_code
def yX13_global : MethodName := ⟨RX13, "global", "(I)I"⟩
theorem q3631 : (Jvm.Cond.code ({ cls := "CompiledHouseModel", name := "global", desc := "(I)I" } : Jvm.MethodName) prog_39_method_86_code (5 : Nat) (Option.some Jvm.ClassFile.FieldType.int)) ∈ lw_all := lw_g (lw_at lw_m15 75 rfl) rfl
def kX13_global : xK := (yX13_global, cX13_global, 5, some .int, [])
theorem me_X13_global : xMe kX13_global 1 := ⟨q3631, q216, by decide, by decide, by decide +kernel⟩
theorem q3629 : (Jvm.Cond.instanceMethod ({ cls := "CompiledHouseModel", name := "global", desc := "(I)I" } : Jvm.MethodName)) ∈ lw_all := lw_g (lw_at lw_m15 73 rfl) rfl
theorem is_X13_global : Cond.instanceMethod kX13_global.y ∈ lw_all := q3629
theorem q3630 : (Jvm.Cond.selects "CompiledHouseModel" ({ cls := "CompiledHouseModel", name := "global", desc := "(I)I" } : Jvm.MethodName) ({ cls := "CompiledHouseModel", name := "global", desc := "(I)I" } : Jvm.MethodName)) ∈ lw_all := lw_g (lw_at lw_m15 74 rfl) rfl
theorem se_X13_global : Cond.selects RX13 kX13_global.y kX13_global.y ∈ lw_all := q3630
abbrev cX13_put : ByteArray := prog_39_method_87_code
def yX13_put : MethodName := ⟨RX13, "put", "(II)Z"⟩
theorem q3635 : (Jvm.Cond.code ({ cls := "CompiledHouseModel", name := "put", desc := "(II)Z" } : Jvm.MethodName) prog_39_method_87_code (3 : Nat) (Option.some Jvm.ClassFile.FieldType.boolean)) ∈ lw_all := lw_g (lw_at lw_m15 79 rfl) rfl
def kX13_put : xK := (yX13_put, cX13_put, 3, some .boolean, [])
theorem me_X13_put : xMe kX13_put 2 := ⟨q3635, q216, by decide, by decide, by decide +kernel⟩
theorem q3633 : (Jvm.Cond.instanceMethod ({ cls := "CompiledHouseModel", name := "put", desc := "(II)Z" } : Jvm.MethodName)) ∈ lw_all := lw_g (lw_at lw_m15 77 rfl) rfl
theorem is_X13_put : Cond.instanceMethod kX13_put.y ∈ lw_all := q3633
theorem q3634 : (Jvm.Cond.selects "CompiledHouseModel" ({ cls := "CompiledHouseModel", name := "put", desc := "(II)Z" } : Jvm.MethodName) ({ cls := "CompiledHouseModel", name := "put", desc := "(II)Z" } : Jvm.MethodName)) ∈ lw_all := lw_g (lw_at lw_m15 78 rfl) rfl
theorem se_X13_put : Cond.selects RX13 kX13_put.y kX13_put.y ∈ lw_all := q3634
abbrev cX13_set : ByteArray := prog_39_method_88_code
def yX13_set : MethodName := ⟨RX13, "set", "(II)Z"⟩
theorem q3639 : (Jvm.Cond.code ({ cls := "CompiledHouseModel", name := "set", desc := "(II)Z" } : Jvm.MethodName) prog_39_method_88_code (3 : Nat) (Option.some Jvm.ClassFile.FieldType.boolean)) ∈ lw_all := lw_g (lw_at lw_m15 83 rfl) rfl
def kX13_set : xK := (yX13_set, cX13_set, 3, some .boolean, [])
theorem me_X13_set : xMe kX13_set 2 := ⟨q3639, q216, by decide, by decide, by decide +kernel⟩
theorem q3637 : (Jvm.Cond.instanceMethod ({ cls := "CompiledHouseModel", name := "set", desc := "(II)Z" } : Jvm.MethodName)) ∈ lw_all := lw_g (lw_at lw_m15 81 rfl) rfl
theorem is_X13_set : Cond.instanceMethod kX13_set.y ∈ lw_all := q3637
theorem q3638 : (Jvm.Cond.selects "CompiledHouseModel" ({ cls := "CompiledHouseModel", name := "set", desc := "(II)Z" } : Jvm.MethodName) ({ cls := "CompiledHouseModel", name := "set", desc := "(II)Z" } : Jvm.MethodName)) ∈ lw_all := lw_g (lw_at lw_m15 82 rfl) rfl
theorem se_X13_set : Cond.selects RX13 kX13_set.y kX13_set.y ∈ lw_all := q3638
abbrev cX13_board : ByteArray := prog_39_method_89_code
def yX13_board : MethodName := ⟨RX13, "board", "(I)I"⟩
theorem q3643 : (Jvm.Cond.code ({ cls := "CompiledHouseModel", name := "board", desc := "(I)I" } : Jvm.MethodName) prog_39_method_89_code (2 : Nat) (Option.some Jvm.ClassFile.FieldType.int)) ∈ lw_all := lw_g (lw_at lw_m15 87 rfl) rfl
def kX13_board : xK := (yX13_board, cX13_board, 2, some .int, [])
theorem me_X13_board : xMe kX13_board 1 := ⟨q3643, q216, by decide, by decide, by decide +kernel⟩
theorem q3641 : (Jvm.Cond.instanceMethod ({ cls := "CompiledHouseModel", name := "board", desc := "(I)I" } : Jvm.MethodName)) ∈ lw_all := lw_g (lw_at lw_m15 85 rfl) rfl
theorem is_X13_board : Cond.instanceMethod kX13_board.y ∈ lw_all := q3641
theorem q3642 : (Jvm.Cond.selects "CompiledHouseModel" ({ cls := "CompiledHouseModel", name := "board", desc := "(I)I" } : Jvm.MethodName) ({ cls := "CompiledHouseModel", name := "board", desc := "(I)I" } : Jvm.MethodName)) ∈ lw_all := lw_g (lw_at lw_m15 86 rfl) rfl
theorem se_X13_board : Cond.selects RX13 kX13_board.y kX13_board.y ∈ lw_all := q3642
theorem q3095 : (Jvm.Cond.fieldLink "CompiledHouseModel" (570 : Nat) "CompiledHouseModel" "done" "I") ∈ lw_all := lw_g (lw_at lw_m13 19 rfl) rfl
theorem f_X13_570_12 : xF RX13 570 12 96 := ⟨_, "CompiledHouseModel", rfl, by decide, Or.inl q3095, Or.inl rfl⟩
abbrev cX13_go : ByteArray := prog_39_method_90_code
def yX13_go : MethodName := ⟨RX13, "go", "(I)I"⟩
theorem q3647 : (Jvm.Cond.code ({ cls := "CompiledHouseModel", name := "go", desc := "(I)I" } : Jvm.MethodName) prog_39_method_90_code (4 : Nat) (Option.some Jvm.ClassFile.FieldType.int)) ∈ lw_all := lw_g (lw_at lw_m15 91 rfl) rfl
def kX13_go : xK := (yX13_go, cX13_go, 4, some .int, [])
theorem me_X13_go : xMe kX13_go 1 := ⟨q3647, q216, by decide, by decide, by decide +kernel⟩
theorem q3645 : (Jvm.Cond.instanceMethod ({ cls := "CompiledHouseModel", name := "go", desc := "(I)I" } : Jvm.MethodName)) ∈ lw_all := lw_g (lw_at lw_m15 89 rfl) rfl
theorem is_X13_go : Cond.instanceMethod kX13_go.y ∈ lw_all := q3645
theorem q3646 : (Jvm.Cond.selects "CompiledHouseModel" ({ cls := "CompiledHouseModel", name := "go", desc := "(I)I" } : Jvm.MethodName) ({ cls := "CompiledHouseModel", name := "go", desc := "(I)I" } : Jvm.MethodName)) ∈ lw_all := lw_g (lw_at lw_m15 90 rfl) rfl
theorem se_X13_go : Cond.selects RX13 kX13_go.y kX13_go.y ∈ lw_all := q3646
theorem q3648 : (Jvm.Cond.methodLink "CompiledHouseModel" (573 : Nat) ({ cls := "CompiledHouseModel", name := "oneWord", desc := "()I" } : Jvm.MethodName)) ∈ lw_all := lw_g (lw_at lw_m15 92 rfl) rfl
abbrev cX13_oneWord : ByteArray := prog_39_method_95_code
def yX13_oneWord : MethodName := ⟨RX13, "oneWord", "()I"⟩
theorem q3651 : (Jvm.Cond.code ({ cls := "CompiledHouseModel", name := "oneWord", desc := "()I" } : Jvm.MethodName) prog_39_method_95_code (9 : Nat) (Option.some Jvm.ClassFile.FieldType.int)) ∈ lw_all := lw_g (lw_at lw_m15 95 rfl) rfl
def kX13_oneWord : xK := (yX13_oneWord, cX13_oneWord, 9, some .int, [])
theorem me_X13_oneWord : xMe kX13_oneWord 0 := ⟨q3651, q216, by decide, by decide, by decide +kernel⟩
theorem q3650 : (Jvm.Cond.instanceMethod ({ cls := "CompiledHouseModel", name := "oneWord", desc := "()I" } : Jvm.MethodName)) ∈ lw_all := lw_g (lw_at lw_m15 94 rfl) rfl
theorem is_X13_oneWord : Cond.instanceMethod kX13_oneWord.y ∈ lw_all := q3650
theorem se_X13_oneWord : Cond.selects RX13 kX13_oneWord.y kX13_oneWord.y ∈ lw_all := qs185
theorem lk_X13_573 : xLk RX13 573 yX13_oneWord := Or.inl q3648
theorem dX13_works_0 : decode cX13_works 0 = .ok (.aload_n 0, 1) := by decide +kernel
theorem dX13_works_1 : decode cX13_works 1 = .ok (.getfield 107, 3) := by decide +kernel
theorem dX13_works_4 : decode cX13_works 4 = .ok (.aload_n 0, 1) := by decide +kernel
theorem dX13_works_5 : decode cX13_works 5 = .ok (.getfield 553, 3) := by decide +kernel
theorem dX13_works_8 : decode cX13_works 8 = .ok (.iaload, 1) := by decide +kernel
theorem dX13_works_9 : decode cX13_works 9 = .ok (.istore_n 1, 1) := by decide +kernel
theorem dX13_works_10 : decode cX13_works 10 = .ok (.aload_n 0, 1) := by decide +kernel
theorem dX13_works_11 : decode cX13_works 11 = .ok (.getfield 110, 3) := by decide +kernel
theorem dX13_works_14 : decode cX13_works 14 = .ok (.aload_n 0, 1) := by decide +kernel
theorem dX13_works_15 : decode cX13_works 15 = .ok (.getfield 553, 3) := by decide +kernel
theorem dX13_works_18 : decode cX13_works 18 = .ok (.iaload, 1) := by decide +kernel
theorem dX13_works_19 : decode cX13_works 19 = .ok (.istore_n 2, 1) := by decide +kernel
theorem dX13_works_20 : decode cX13_works 20 = .ok (.aload_n 0, 1) := by decide +kernel
theorem dX13_works_21 : decode cX13_works 21 = .ok (.getfield 104, 3) := by decide +kernel
theorem dX13_works_24 : decode cX13_works 24 = .ok (.aload_n 0, 1) := by decide +kernel
theorem dX13_works_25 : decode cX13_works 25 = .ok (.getfield 553, 3) := by decide +kernel
theorem dX13_works_28 : decode cX13_works 28 = .ok (.iaload, 1) := by decide +kernel
theorem dX13_works_29 : decode cX13_works 29 = .ok (.tableswitch 837 1 22 #[103, 153, 103, 153, 203, 300, 434, 464, 525, 837, 837, 837, 837, 837, 558, 590, 603, 621, 634, 695, 725, 807], 103) := by decide +kernel
theorem dX13_works_132 : decode cX13_works 132 = .ok (.aload_n 0, 1) := by decide +kernel
theorem dX13_works_133 : decode cX13_works 133 = .ok (.getfield 126, 3) := by decide +kernel
theorem dX13_works_136 : decode cX13_works 136 = .ok (.aload_n 0, 1) := by decide +kernel
theorem dX13_works_137 : decode cX13_works 137 = .ok (.getfield 497, 3) := by decide +kernel
theorem dX13_works_140 : decode cX13_works 140 = .ok (.aload_n 0, 1) := by decide +kernel
theorem dX13_works_141 : decode cX13_works 141 = .ok (.getfield 135, 3) := by decide +kernel
theorem dX13_works_144 : decode cX13_works 144 = .ok (.aload_n 0, 1) := by decide +kernel
theorem dX13_works_145 : decode cX13_works 145 = .ok (.getfield 104, 3) := by decide +kernel
theorem dX13_works_148 : decode cX13_works 148 = .ok (.aload_n 0, 1) := by decide +kernel
theorem dX13_works_149 : decode cX13_works 149 = .ok (.getfield 553, 3) := by decide +kernel
theorem dX13_works_152 : decode cX13_works 152 = .ok (.iaload, 1) := by decide +kernel
theorem dX13_works_153 : decode cX13_works 153 = .ok (.iconst 1, 1) := by decide +kernel
theorem dX13_works_154 : decode cX13_works 154 = .ok (.if_icmp .ne 12, 3) := by decide +kernel
theorem dX13_works_157 : decode cX13_works 157 = .ok (.aload_n 0, 1) := by decide +kernel
theorem dX13_works_158 : decode cX13_works 158 = .ok (.getfield 550, 3) := by decide +kernel
theorem dX13_works_161 : decode cX13_works 161 = .ok (.iload_n 1, 1) := by decide +kernel
theorem dX13_works_162 : decode cX13_works 162 = .ok (.iadd, 1) := by decide +kernel
theorem dX13_works_163 : decode cX13_works 163 = .ok (.goto 4, 3) := by decide +kernel
theorem dX13_works_166 : decode cX13_works 166 = .ok (.iload_n 1, 1) := by decide +kernel
theorem dX13_works_167 : decode cX13_works 167 = .ok (.iaload, 1) := by decide +kernel
theorem dX13_works_168 : decode cX13_works 168 = .ok (.iastore, 1) := by decide +kernel
theorem dX13_works_169 : decode cX13_works 169 = .ok (.aload_n 0, 1) := by decide +kernel
theorem dX13_works_170 : decode cX13_works 170 = .ok (.dup, 1) := by decide +kernel
theorem dX13_works_171 : decode cX13_works 171 = .ok (.getfield 497, 3) := by decide +kernel
theorem dX13_works_174 : decode cX13_works 174 = .ok (.iconst 1, 1) := by decide +kernel
theorem dX13_works_175 : decode cX13_works 175 = .ok (.iadd, 1) := by decide +kernel
theorem dX13_works_176 : decode cX13_works 176 = .ok (.putfield 497, 3) := by decide +kernel
theorem dX13_works_179 : decode cX13_works 179 = .ok (.goto 701, 3) := by decide +kernel
theorem dX13_works_182 : decode cX13_works 182 = .ok (.aload_n 0, 1) := by decide +kernel
theorem dX13_works_183 : decode cX13_works 183 = .ok (.dup, 1) := by decide +kernel
theorem dX13_works_184 : decode cX13_works 184 = .ok (.getfield 497, 3) := by decide +kernel
theorem dX13_works_187 : decode cX13_works 187 = .ok (.iconst 1, 1) := by decide +kernel
theorem dX13_works_188 : decode cX13_works 188 = .ok (.isub, 1) := by decide +kernel
theorem dX13_works_189 : decode cX13_works 189 = .ok (.putfield 497, 3) := by decide +kernel
theorem dX13_works_192 : decode cX13_works 192 = .ok (.aload_n 0, 1) := by decide +kernel
theorem dX13_works_193 : decode cX13_works 193 = .ok (.getfield 135, 3) := by decide +kernel
theorem dX13_works_196 : decode cX13_works 196 = .ok (.aload_n 0, 1) := by decide +kernel
theorem dX13_works_197 : decode cX13_works 197 = .ok (.getfield 104, 3) := by decide +kernel
theorem dX13_works_200 : decode cX13_works 200 = .ok (.aload_n 0, 1) := by decide +kernel
theorem dX13_works_201 : decode cX13_works 201 = .ok (.getfield 553, 3) := by decide +kernel
theorem dX13_works_204 : decode cX13_works 204 = .ok (.iaload, 1) := by decide +kernel
theorem dX13_works_205 : decode cX13_works 205 = .ok (.iconst 2, 1) := by decide +kernel
theorem dX13_works_206 : decode cX13_works 206 = .ok (.if_icmp .ne 12, 3) := by decide +kernel
theorem dX13_works_209 : decode cX13_works 209 = .ok (.aload_n 0, 1) := by decide +kernel
theorem dX13_works_210 : decode cX13_works 210 = .ok (.getfield 550, 3) := by decide +kernel
theorem dX13_works_213 : decode cX13_works 213 = .ok (.iload_n 1, 1) := by decide +kernel
theorem dX13_works_214 : decode cX13_works 214 = .ok (.iadd, 1) := by decide +kernel
theorem dX13_works_215 : decode cX13_works 215 = .ok (.goto 4, 3) := by decide +kernel
theorem dX13_works_218 : decode cX13_works 218 = .ok (.iload_n 1, 1) := by decide +kernel
theorem dX13_works_219 : decode cX13_works 219 = .ok (.aload_n 0, 1) := by decide +kernel
theorem dX13_works_220 : decode cX13_works 220 = .ok (.getfield 126, 3) := by decide +kernel
theorem dX13_works_223 : decode cX13_works 223 = .ok (.aload_n 0, 1) := by decide +kernel
theorem dX13_works_224 : decode cX13_works 224 = .ok (.getfield 497, 3) := by decide +kernel
theorem dX13_works_227 : decode cX13_works 227 = .ok (.iaload, 1) := by decide +kernel
theorem dX13_works_228 : decode cX13_works 228 = .ok (.iastore, 1) := by decide +kernel
theorem dX13_works_229 : decode cX13_works 229 = .ok (.goto 651, 3) := by decide +kernel
theorem dX13_works_232 : decode cX13_works 232 = .ok (.aload_n 0, 1) := by decide +kernel
theorem dX13_works_233 : decode cX13_works 233 = .ok (.getfield 126, 3) := by decide +kernel
theorem dX13_works_236 : decode cX13_works 236 = .ok (.aload_n 0, 1) := by decide +kernel
theorem dX13_works_237 : decode cX13_works 237 = .ok (.getfield 497, 3) := by decide +kernel
theorem dX13_works_240 : decode cX13_works 240 = .ok (.iload_n 2, 1) := by decide +kernel
theorem dX13_works_241 : decode cX13_works 241 = .ok (.iconst (-1), 1) := by decide +kernel
theorem dX13_works_242 : decode cX13_works 242 = .ok (.if_icmp .ne 17, 3) := by decide +kernel
theorem dX13_works_245 : decode cX13_works 245 = .ok (.aload_n 0, 1) := by decide +kernel
theorem dX13_works_246 : decode cX13_works 246 = .ok (.getfield 135, 3) := by decide +kernel
theorem dX13_works_249 : decode cX13_works 249 = .ok (.aload_n 0, 1) := by decide +kernel
theorem dX13_works_250 : decode cX13_works 250 = .ok (.getfield 550, 3) := by decide +kernel
theorem dX13_works_253 : decode cX13_works 253 = .ok (.iload_n 1, 1) := by decide +kernel
theorem dX13_works_254 : decode cX13_works 254 = .ok (.iadd, 1) := by decide +kernel
theorem dX13_works_255 : decode cX13_works 255 = .ok (.iaload, 1) := by decide +kernel
theorem dX13_works_256 : decode cX13_works 256 = .ok (.goto 26, 3) := by decide +kernel
theorem dX13_works_259 : decode cX13_works 259 = .ok (.aload_n 0, 1) := by decide +kernel
theorem dX13_works_260 : decode cX13_works 260 = .ok (.getfield 113, 3) := by decide +kernel
theorem dX13_works_263 : decode cX13_works 263 = .ok (.aload_n 0, 1) := by decide +kernel
theorem dX13_works_264 : decode cX13_works 264 = .ok (.getfield 553, 3) := by decide +kernel
theorem dX13_works_267 : decode cX13_works 267 = .ok (.iaload, 1) := by decide +kernel
theorem dX13_works_268 : decode cX13_works 268 = .ok (.iconst 1, 1) := by decide +kernel
theorem dX13_works_269 : decode cX13_works 269 = .ok (.if_icmp .ne 12, 3) := by decide +kernel
theorem dX13_works_272 : decode cX13_works 272 = .ok (.aload_n 0, 1) := by decide +kernel
theorem dX13_works_273 : decode cX13_works 273 = .ok (.getfield 550, 3) := by decide +kernel
theorem dX13_works_276 : decode cX13_works 276 = .ok (.iload_n 1, 1) := by decide +kernel
theorem dX13_works_277 : decode cX13_works 277 = .ok (.iadd, 1) := by decide +kernel
theorem dX13_works_278 : decode cX13_works 278 = .ok (.goto 4, 3) := by decide +kernel
theorem dX13_works_281 : decode cX13_works 281 = .ok (.iload_n 1, 1) := by decide +kernel
theorem dX13_works_282 : decode cX13_works 282 = .ok (.iastore, 1) := by decide +kernel
theorem dX13_works_283 : decode cX13_works 283 = .ok (.aload_n 0, 1) := by decide +kernel
theorem dX13_works_284 : decode cX13_works 284 = .ok (.getfield 126, 3) := by decide +kernel
theorem dX13_works_287 : decode cX13_works 287 = .ok (.aload_n 0, 1) := by decide +kernel
theorem dX13_works_288 : decode cX13_works 288 = .ok (.getfield 497, 3) := by decide +kernel
theorem dX13_works_291 : decode cX13_works 291 = .ok (.iconst 1, 1) := by decide +kernel
theorem dX13_works_292 : decode cX13_works 292 = .ok (.iadd, 1) := by decide +kernel
theorem dX13_works_293 : decode cX13_works 293 = .ok (.iload_n 2, 1) := by decide +kernel
theorem dX13_works_294 : decode cX13_works 294 = .ok (.iconst (-1), 1) := by decide +kernel
theorem dX13_works_295 : decode cX13_works 295 = .ok (.if_icmp .ne 19, 3) := by decide +kernel
theorem dX13_works_298 : decode cX13_works 298 = .ok (.aload_n 0, 1) := by decide +kernel
theorem dX13_works_299 : decode cX13_works 299 = .ok (.getfield 135, 3) := by decide +kernel
theorem dX13_works_302 : decode cX13_works 302 = .ok (.aload_n 0, 1) := by decide +kernel
theorem dX13_works_303 : decode cX13_works 303 = .ok (.getfield 550, 3) := by decide +kernel
theorem dX13_works_306 : decode cX13_works 306 = .ok (.iload_n 1, 1) := by decide +kernel
theorem dX13_works_307 : decode cX13_works 307 = .ok (.iadd, 1) := by decide +kernel
theorem dX13_works_308 : decode cX13_works 308 = .ok (.iconst 1, 1) := by decide +kernel
theorem dX13_works_309 : decode cX13_works 309 = .ok (.iadd, 1) := by decide +kernel
theorem dX13_works_310 : decode cX13_works 310 = .ok (.iaload, 1) := by decide +kernel
theorem dX13_works_311 : decode cX13_works 311 = .ok (.goto 4, 3) := by decide +kernel
theorem dX13_works_314 : decode cX13_works 314 = .ok (.iload_n 2, 1) := by decide +kernel
theorem dX13_works_315 : decode cX13_works 315 = .ok (.iastore, 1) := by decide +kernel
theorem dX13_works_316 : decode cX13_works 316 = .ok (.aload_n 0, 1) := by decide +kernel
theorem dX13_works_317 : decode cX13_works 317 = .ok (.dup, 1) := by decide +kernel
theorem dX13_works_318 : decode cX13_works 318 = .ok (.getfield 497, 3) := by decide +kernel
theorem dX13_works_321 : decode cX13_works 321 = .ok (.iconst 2, 1) := by decide +kernel
theorem dX13_works_322 : decode cX13_works 322 = .ok (.iadd, 1) := by decide +kernel
theorem dX13_works_323 : decode cX13_works 323 = .ok (.putfield 497, 3) := by decide +kernel
theorem dX13_works_326 : decode cX13_works 326 = .ok (.goto 554, 3) := by decide +kernel
theorem dX13_works_329 : decode cX13_works 329 = .ok (.iload_n 2, 1) := by decide +kernel
theorem dX13_works_330 : decode cX13_works 330 = .ok (.iconst (-1), 1) := by decide +kernel
theorem dX13_works_331 : decode cX13_works 331 = .ok (.if_icmp .ne 19, 3) := by decide +kernel
theorem dX13_works_334 : decode cX13_works 334 = .ok (.aload_n 0, 1) := by decide +kernel
theorem dX13_works_335 : decode cX13_works 335 = .ok (.getfield 135, 3) := by decide +kernel
theorem dX13_works_338 : decode cX13_works 338 = .ok (.aload_n 0, 1) := by decide +kernel
theorem dX13_works_339 : decode cX13_works 339 = .ok (.getfield 550, 3) := by decide +kernel
theorem dX13_works_342 : decode cX13_works 342 = .ok (.iload_n 1, 1) := by decide +kernel
theorem dX13_works_343 : decode cX13_works 343 = .ok (.iadd, 1) := by decide +kernel
theorem dX13_works_344 : decode cX13_works 344 = .ok (.iconst 1, 1) := by decide +kernel
theorem dX13_works_345 : decode cX13_works 345 = .ok (.iadd, 1) := by decide +kernel
theorem dX13_works_346 : decode cX13_works 346 = .ok (.iaload, 1) := by decide +kernel
theorem dX13_works_347 : decode cX13_works 347 = .ok (.goto 4, 3) := by decide +kernel
theorem dX13_works_350 : decode cX13_works 350 = .ok (.iload_n 2, 1) := by decide +kernel
theorem dX13_works_351 : decode cX13_works 351 = .ok (.istore_n 3, 1) := by decide +kernel
theorem dX13_works_352 : decode cX13_works 352 = .ok (.iload_n 2, 1) := by decide +kernel
theorem dX13_works_353 : decode cX13_works 353 = .ok (.iconst (-1), 1) := by decide +kernel
theorem dX13_works_354 : decode cX13_works 354 = .ok (.if_icmp .ne 17, 3) := by decide +kernel
theorem dX13_works_357 : decode cX13_works 357 = .ok (.aload_n 0, 1) := by decide +kernel
theorem dX13_works_358 : decode cX13_works 358 = .ok (.getfield 135, 3) := by decide +kernel
theorem dX13_works_361 : decode cX13_works 361 = .ok (.aload_n 0, 1) := by decide +kernel
theorem dX13_works_362 : decode cX13_works 362 = .ok (.getfield 550, 3) := by decide +kernel
theorem dX13_works_365 : decode cX13_works 365 = .ok (.iload_n 1, 1) := by decide +kernel
theorem dX13_works_366 : decode cX13_works 366 = .ok (.iadd, 1) := by decide +kernel
theorem dX13_works_367 : decode cX13_works 367 = .ok (.iaload, 1) := by decide +kernel
theorem dX13_works_368 : decode cX13_works 368 = .ok (.goto 28, 3) := by decide +kernel
theorem dX13_works_371 : decode cX13_works 371 = .ok (.aload_n 0, 1) := by decide +kernel
theorem dX13_works_372 : decode cX13_works 372 = .ok (.getfield 113, 3) := by decide +kernel
theorem dX13_works_375 : decode cX13_works 375 = .ok (.aload_n 0, 1) := by decide +kernel
theorem dX13_works_376 : decode cX13_works 376 = .ok (.getfield 553, 3) := by decide +kernel
theorem dX13_works_379 : decode cX13_works 379 = .ok (.iaload, 1) := by decide +kernel
theorem dX13_works_380 : decode cX13_works 380 = .ok (.iconst 1, 1) := by decide +kernel
theorem dX13_works_381 : decode cX13_works 381 = .ok (.iand, 1) := by decide +kernel
theorem dX13_works_382 : decode cX13_works 382 = .ok (.iconst 1, 1) := by decide +kernel
theorem dX13_works_383 : decode cX13_works 383 = .ok (.if_icmp .ne 12, 3) := by decide +kernel
theorem dX13_works_386 : decode cX13_works 386 = .ok (.aload_n 0, 1) := by decide +kernel
theorem dX13_works_387 : decode cX13_works 387 = .ok (.getfield 550, 3) := by decide +kernel
theorem dX13_works_390 : decode cX13_works 390 = .ok (.iload_n 1, 1) := by decide +kernel
theorem dX13_works_391 : decode cX13_works 391 = .ok (.iadd, 1) := by decide +kernel
theorem dX13_works_392 : decode cX13_works 392 = .ok (.goto 4, 3) := by decide +kernel
theorem dX13_works_395 : decode cX13_works 395 = .ok (.iload_n 1, 1) := by decide +kernel
theorem dX13_works_396 : decode cX13_works 396 = .ok (.istore 4, 2) := by decide +kernel
theorem dX13_works_398 : decode cX13_works 398 = .ok (.aload_n 0, 1) := by decide +kernel
theorem dX13_works_399 : decode cX13_works 399 = .ok (.getfield 126, 3) := by decide +kernel
theorem dX13_works_402 : decode cX13_works 402 = .ok (.aload_n 0, 1) := by decide +kernel
theorem dX13_works_403 : decode cX13_works 403 = .ok (.getfield 497, 3) := by decide +kernel
theorem dX13_works_406 : decode cX13_works 406 = .ok (.iconst 1, 1) := by decide +kernel
theorem dX13_works_407 : decode cX13_works 407 = .ok (.isub, 1) := by decide +kernel
theorem dX13_works_408 : decode cX13_works 408 = .ok (.iaload, 1) := by decide +kernel
theorem dX13_works_409 : decode cX13_works 409 = .ok (.istore 5, 2) := by decide +kernel
theorem dX13_works_411 : decode cX13_works 411 = .ok (.iload 5, 2) := by decide +kernel
theorem dX13_works_413 : decode cX13_works 413 = .ok (.ifCond .lt 9, 3) := by decide +kernel
theorem dX13_works_416 : decode cX13_works 416 = .ok (.iload 5, 2) := by decide +kernel
theorem dX13_works_418 : decode cX13_works 418 = .ok (.iload_n 3, 1) := by decide +kernel
theorem dX13_works_419 : decode cX13_works 419 = .ok (.if_icmp .lt 25, 3) := by decide +kernel
theorem dX13_works_422 : decode cX13_works 422 = .ok (.aload_n 0, 1) := by decide +kernel
theorem dX13_works_423 : decode cX13_works 423 = .ok (.iconst 5, 1) := by decide +kernel
theorem dX13_works_424 : decode cX13_works 424 = .ok (.putfield 512, 3) := by decide +kernel
theorem dX13_works_427 : decode cX13_works 427 = .ok (.aload_n 0, 1) := by decide +kernel
theorem dX13_works_428 : decode cX13_works 428 = .ok (.aload_n 0, 1) := by decide +kernel
theorem dX13_works_429 : decode cX13_works 429 = .ok (.getfield 113, 3) := by decide +kernel
theorem dX13_works_432 : decode cX13_works 432 = .ok (.aload_n 0, 1) := by decide +kernel
theorem dX13_works_433 : decode cX13_works 433 = .ok (.getfield 553, 3) := by decide +kernel
theorem dX13_works_436 : decode cX13_works 436 = .ok (.iaload, 1) := by decide +kernel
theorem dX13_works_437 : decode cX13_works 437 = .ok (.iconst 1, 1) := by decide +kernel
theorem dX13_works_438 : decode cX13_works 438 = .ok (.ishr, 1) := by decide +kernel
theorem dX13_works_439 : decode cX13_works 439 = .ok (.putfield 541, 3) := by decide +kernel
theorem dX13_works_442 : decode cX13_works 442 = .ok (.iconst 0, 1) := by decide +kernel
theorem dX13_works_443 : decode cX13_works 443 = .ok (.ireturn, 1) := by decide +kernel
theorem dX13_works_444 : decode cX13_works 444 = .ok (.aload_n 0, 1) := by decide +kernel
theorem dX13_works_445 : decode cX13_works 445 = .ok (.getfield 126, 3) := by decide +kernel
theorem dX13_works_448 : decode cX13_works 448 = .ok (.aload_n 0, 1) := by decide +kernel
theorem dX13_works_449 : decode cX13_works 449 = .ok (.getfield 497, 3) := by decide +kernel
theorem dX13_works_452 : decode cX13_works 452 = .ok (.iconst 1, 1) := by decide +kernel
theorem dX13_works_453 : decode cX13_works 453 = .ok (.isub, 1) := by decide +kernel
theorem dX13_works_454 : decode cX13_works 454 = .ok (.iload 4, 2) := by decide +kernel
theorem dX13_works_456 : decode cX13_works 456 = .ok (.iload 5, 2) := by decide +kernel
theorem dX13_works_458 : decode cX13_works 458 = .ok (.iadd, 1) := by decide +kernel
theorem dX13_works_459 : decode cX13_works 459 = .ok (.iastore, 1) := by decide +kernel
theorem dX13_works_460 : decode cX13_works 460 = .ok (.goto 420, 3) := by decide +kernel
theorem dX13_works_463 : decode cX13_works 463 = .ok (.aload_n 0, 1) := by decide +kernel
theorem dX13_works_464 : decode cX13_works 464 = .ok (.getfield 126, 3) := by decide +kernel
theorem dX13_works_467 : decode cX13_works 467 = .ok (.aload_n 0, 1) := by decide +kernel
theorem dX13_works_468 : decode cX13_works 468 = .ok (.getfield 497, 3) := by decide +kernel
theorem dX13_works_471 : decode cX13_works 471 = .ok (.iconst 1, 1) := by decide +kernel
theorem dX13_works_472 : decode cX13_works 472 = .ok (.isub, 1) := by decide +kernel
theorem dX13_works_473 : decode cX13_works 473 = .ok (.aload_n 0, 1) := by decide +kernel
theorem dX13_works_474 : decode cX13_works 474 = .ok (.getfield 135, 3) := by decide +kernel
theorem dX13_works_477 : decode cX13_works 477 = .ok (.aload_n 0, 1) := by decide +kernel
theorem dX13_works_478 : decode cX13_works 478 = .ok (.getfield 126, 3) := by decide +kernel
theorem dX13_works_481 : decode cX13_works 481 = .ok (.aload_n 0, 1) := by decide +kernel
theorem dX13_works_482 : decode cX13_works 482 = .ok (.getfield 497, 3) := by decide +kernel
theorem dX13_works_485 : decode cX13_works 485 = .ok (.iconst 1, 1) := by decide +kernel
theorem dX13_works_486 : decode cX13_works 486 = .ok (.isub, 1) := by decide +kernel
theorem dX13_works_487 : decode cX13_works 487 = .ok (.iaload, 1) := by decide +kernel
theorem dX13_works_488 : decode cX13_works 488 = .ok (.iaload, 1) := by decide +kernel
theorem dX13_works_489 : decode cX13_works 489 = .ok (.iastore, 1) := by decide +kernel
theorem dX13_works_490 : decode cX13_works 490 = .ok (.goto 390, 3) := by decide +kernel
theorem dX13_works_493 : decode cX13_works 493 = .ok (.aload_n 0, 1) := by decide +kernel
theorem dX13_works_494 : decode cX13_works 494 = .ok (.dup, 1) := by decide +kernel
theorem dX13_works_495 : decode cX13_works 495 = .ok (.getfield 497, 3) := by decide +kernel
theorem dX13_works_498 : decode cX13_works 498 = .ok (.iconst 2, 1) := by decide +kernel
theorem dX13_works_499 : decode cX13_works 499 = .ok (.isub, 1) := by decide +kernel
theorem dX13_works_500 : decode cX13_works 500 = .ok (.putfield 497, 3) := by decide +kernel
theorem dX13_works_503 : decode cX13_works 503 = .ok (.aload_n 0, 1) := by decide +kernel
theorem dX13_works_504 : decode cX13_works 504 = .ok (.getfield 135, 3) := by decide +kernel
theorem dX13_works_507 : decode cX13_works 507 = .ok (.aload_n 0, 1) := by decide +kernel
theorem dX13_works_508 : decode cX13_works 508 = .ok (.getfield 126, 3) := by decide +kernel
theorem dX13_works_511 : decode cX13_works 511 = .ok (.aload_n 0, 1) := by decide +kernel
theorem dX13_works_512 : decode cX13_works 512 = .ok (.getfield 497, 3) := by decide +kernel
theorem dX13_works_515 : decode cX13_works 515 = .ok (.iaload, 1) := by decide +kernel
theorem dX13_works_516 : decode cX13_works 516 = .ok (.iload_n 1, 1) := by decide +kernel
theorem dX13_works_517 : decode cX13_works 517 = .ok (.iconst 1, 1) := by decide +kernel
theorem dX13_works_518 : decode cX13_works 518 = .ok (.if_icmp .ne 21, 3) := by decide +kernel
theorem dX13_works_521 : decode cX13_works 521 = .ok (.aload_n 0, 1) := by decide +kernel
theorem dX13_works_522 : decode cX13_works 522 = .ok (.getfield 126, 3) := by decide +kernel
theorem dX13_works_525 : decode cX13_works 525 = .ok (.aload_n 0, 1) := by decide +kernel
theorem dX13_works_526 : decode cX13_works 526 = .ok (.getfield 497, 3) := by decide +kernel
theorem dX13_works_529 : decode cX13_works 529 = .ok (.iconst 1, 1) := by decide +kernel
theorem dX13_works_530 : decode cX13_works 530 = .ok (.iadd, 1) := by decide +kernel
theorem dX13_works_531 : decode cX13_works 531 = .ok (.iaload, 1) := by decide +kernel
theorem dX13_works_532 : decode cX13_works 532 = .ok (.sipush 255, 3) := by decide +kernel
theorem dX13_works_535 : decode cX13_works 535 = .ok (.iand, 1) := by decide +kernel
theorem dX13_works_536 : decode cX13_works 536 = .ok (.goto 14, 3) := by decide +kernel
theorem dX13_works_539 : decode cX13_works 539 = .ok (.aload_n 0, 1) := by decide +kernel
theorem dX13_works_540 : decode cX13_works 540 = .ok (.getfield 126, 3) := by decide +kernel
theorem dX13_works_543 : decode cX13_works 543 = .ok (.aload_n 0, 1) := by decide +kernel
theorem dX13_works_544 : decode cX13_works 544 = .ok (.getfield 497, 3) := by decide +kernel
theorem dX13_works_547 : decode cX13_works 547 = .ok (.iconst 1, 1) := by decide +kernel
theorem dX13_works_548 : decode cX13_works 548 = .ok (.iadd, 1) := by decide +kernel
theorem dX13_works_549 : decode cX13_works 549 = .ok (.iaload, 1) := by decide +kernel
theorem dX13_works_550 : decode cX13_works 550 = .ok (.iastore, 1) := by decide +kernel
theorem dX13_works_551 : decode cX13_works 551 = .ok (.goto 329, 3) := by decide +kernel
theorem dX13_works_554 : decode cX13_works 554 = .ok (.aload_n 0, 1) := by decide +kernel
theorem dX13_works_555 : decode cX13_works 555 = .ok (.getfield 126, 3) := by decide +kernel
theorem dX13_works_558 : decode cX13_works 558 = .ok (.aload_n 0, 1) := by decide +kernel
theorem dX13_works_559 : decode cX13_works 559 = .ok (.getfield 497, 3) := by decide +kernel
theorem dX13_works_562 : decode cX13_works 562 = .ok (.aload_n 0, 1) := by decide +kernel
theorem dX13_works_563 : decode cX13_works 563 = .ok (.getfield 126, 3) := by decide +kernel
theorem dX13_works_566 : decode cX13_works 566 = .ok (.aload_n 0, 1) := by decide +kernel
theorem dX13_works_567 : decode cX13_works 567 = .ok (.getfield 497, 3) := by decide +kernel
theorem dX13_works_570 : decode cX13_works 570 = .ok (.iconst 1, 1) := by decide +kernel
theorem dX13_works_571 : decode cX13_works 571 = .ok (.isub, 1) := by decide +kernel
theorem dX13_works_572 : decode cX13_works 572 = .ok (.iaload, 1) := by decide +kernel
theorem dX13_works_573 : decode cX13_works 573 = .ok (.iastore, 1) := by decide +kernel
theorem dX13_works_574 : decode cX13_works 574 = .ok (.aload_n 0, 1) := by decide +kernel
theorem dX13_works_575 : decode cX13_works 575 = .ok (.dup, 1) := by decide +kernel
theorem dX13_works_576 : decode cX13_works 576 = .ok (.getfield 497, 3) := by decide +kernel
theorem dX13_works_579 : decode cX13_works 579 = .ok (.iconst 1, 1) := by decide +kernel
theorem dX13_works_580 : decode cX13_works 580 = .ok (.iadd, 1) := by decide +kernel
theorem dX13_works_581 : decode cX13_works 581 = .ok (.putfield 497, 3) := by decide +kernel
theorem dX13_works_584 : decode cX13_works 584 = .ok (.goto 296, 3) := by decide +kernel
theorem dX13_works_587 : decode cX13_works 587 = .ok (.aload_n 0, 1) := by decide +kernel
theorem dX13_works_588 : decode cX13_works 588 = .ok (.getfield 556, 3) := by decide +kernel
theorem dX13_works_591 : decode cX13_works 591 = .ok (.ifCond .ne 5, 3) := by decide +kernel
theorem dX13_works_594 : decode cX13_works 594 = .ok (.iconst 0, 1) := by decide +kernel
theorem dX13_works_595 : decode cX13_works 595 = .ok (.ireturn, 1) := by decide +kernel
theorem dX13_works_596 : decode cX13_works 596 = .ok (.aload_n 0, 1) := by decide +kernel
theorem dX13_works_597 : decode cX13_works 597 = .ok (.dup, 1) := by decide +kernel
theorem dX13_works_598 : decode cX13_works 598 = .ok (.getfield 556, 3) := by decide +kernel
theorem dX13_works_601 : decode cX13_works 601 = .ok (.iconst 1, 1) := by decide +kernel
theorem dX13_works_602 : decode cX13_works 602 = .ok (.isub, 1) := by decide +kernel
theorem dX13_works_603 : decode cX13_works 603 = .ok (.putfield 556, 3) := by decide +kernel
theorem dX13_works_606 : decode cX13_works 606 = .ok (.aload_n 0, 1) := by decide +kernel
theorem dX13_works_607 : decode cX13_works 607 = .ok (.dup, 1) := by decide +kernel
theorem dX13_works_608 : decode cX13_works 608 = .ok (.getfield 536, 3) := by decide +kernel
theorem dX13_works_611 : decode cX13_works 611 = .ok (.iconst 1, 1) := by decide +kernel
theorem dX13_works_612 : decode cX13_works 612 = .ok (.iadd, 1) := by decide +kernel
theorem dX13_works_613 : decode cX13_works 613 = .ok (.putfield 536, 3) := by decide +kernel
theorem dX13_works_616 : decode cX13_works 616 = .ok (.goto 264, 3) := by decide +kernel
theorem dX13_works_619 : decode cX13_works 619 = .ok (.aload_n 0, 1) := by decide +kernel
theorem dX13_works_620 : decode cX13_works 620 = .ok (.iload_n 1, 1) := by decide +kernel
theorem dX13_works_621 : decode cX13_works 621 = .ok (.iload_n 2, 1) := by decide +kernel
theorem dX13_works_622 : decode cX13_works 622 = .ok (.aload_n 0, 1) := by decide +kernel
theorem dX13_works_623 : decode cX13_works 623 = .ok (.getfield 553, 3) := by decide +kernel
theorem dX13_works_626 : decode cX13_works 626 = .ok (.iconst 1, 1) := by decide +kernel
theorem dX13_works_627 : decode cX13_works 627 = .ok (.iadd, 1) := by decide +kernel
theorem dX13_works_628 : decode cX13_works 628 = .ok (.invokevirtual 559, 3) := by decide +kernel
theorem dX13_works_631 : decode cX13_works 631 = .ok (.ireturn, 1) := by decide +kernel
theorem dX13_works_632 : decode cX13_works 632 = .ok (.aload_n 0, 1) := by decide +kernel
theorem dX13_works_633 : decode cX13_works 633 = .ok (.invokevirtual 566, 3) := by decide +kernel
theorem dX13_works_636 : decode cX13_works 636 = .ok (.aload_n 0, 1) := by decide +kernel
theorem dX13_works_637 : decode cX13_works 637 = .ok (.getfield 512, 3) := by decide +kernel
theorem dX13_works_640 : decode cX13_works 640 = .ok (.iconst 1, 1) := by decide +kernel
theorem dX13_works_641 : decode cX13_works 641 = .ok (.if_icmp .ne 7, 3) := by decide +kernel
theorem dX13_works_644 : decode cX13_works 644 = .ok (.iconst 1, 1) := by decide +kernel
theorem dX13_works_645 : decode cX13_works 645 = .ok (.goto 4, 3) := by decide +kernel
theorem dX13_works_648 : decode cX13_works 648 = .ok (.iconst 0, 1) := by decide +kernel
theorem dX13_works_649 : decode cX13_works 649 = .ok (.ireturn, 1) := by decide +kernel
theorem dX13_works_650 : decode cX13_works 650 = .ok (.aload_n 0, 1) := by decide +kernel
theorem dX13_works_651 : decode cX13_works 651 = .ok (.dup, 1) := by decide +kernel
theorem dX13_works_652 : decode cX13_works 652 = .ok (.getfield 497, 3) := by decide +kernel
theorem dX13_works_655 : decode cX13_works 655 = .ok (.iconst 1, 1) := by decide +kernel
theorem dX13_works_656 : decode cX13_works 656 = .ok (.isub, 1) := by decide +kernel
theorem dX13_works_657 : decode cX13_works 657 = .ok (.putfield 497, 3) := by decide +kernel
theorem dX13_works_660 : decode cX13_works 660 = .ok (.goto 220, 3) := by decide +kernel
theorem dX13_works_663 : decode cX13_works 663 = .ok (.aload_n 0, 1) := by decide +kernel
theorem dX13_works_664 : decode cX13_works 664 = .ok (.dup, 1) := by decide +kernel
theorem dX13_works_665 : decode cX13_works 665 = .ok (.getfield 497, 3) := by decide +kernel
theorem dX13_works_668 : decode cX13_works 668 = .ok (.iconst 1, 1) := by decide +kernel
theorem dX13_works_669 : decode cX13_works 669 = .ok (.isub, 1) := by decide +kernel
theorem dX13_works_670 : decode cX13_works 670 = .ok (.putfield 497, 3) := by decide +kernel
theorem dX13_works_673 : decode cX13_works 673 = .ok (.aload_n 0, 1) := by decide +kernel
theorem dX13_works_674 : decode cX13_works 674 = .ok (.getfield 518, 3) := by decide +kernel
theorem dX13_works_677 : decode cX13_works 677 = .ok (.sipush 2000, 3) := by decide +kernel
theorem dX13_works_680 : decode cX13_works 680 = .ok (.if_icmp .ge 21, 3) := by decide +kernel
theorem dX13_works_683 : decode cX13_works 683 = .ok (.aload_n 0, 1) := by decide +kernel
theorem dX13_works_684 : decode cX13_works 684 = .ok (.getfield 132, 3) := by decide +kernel
theorem dX13_works_687 : decode cX13_works 687 = .ok (.aload_n 0, 1) := by decide +kernel
theorem dX13_works_688 : decode cX13_works 688 = .ok (.getfield 518, 3) := by decide +kernel
theorem dX13_works_691 : decode cX13_works 691 = .ok (.aload_n 0, 1) := by decide +kernel
theorem dX13_works_692 : decode cX13_works 692 = .ok (.getfield 126, 3) := by decide +kernel
theorem dX13_works_695 : decode cX13_works 695 = .ok (.aload_n 0, 1) := by decide +kernel
theorem dX13_works_696 : decode cX13_works 696 = .ok (.getfield 497, 3) := by decide +kernel
theorem dX13_works_699 : decode cX13_works 699 = .ok (.iaload, 1) := by decide +kernel
theorem dX13_works_700 : decode cX13_works 700 = .ok (.iastore, 1) := by decide +kernel
theorem dX13_works_701 : decode cX13_works 701 = .ok (.aload_n 0, 1) := by decide +kernel
theorem dX13_works_702 : decode cX13_works 702 = .ok (.getfield 518, 3) := by decide +kernel
theorem dX13_works_705 : decode cX13_works 705 = .ok (.ldc_w 569, 3) := by decide +kernel
theorem dX13_works_708 : decode cX13_works 708 = .ok (.if_icmp .ge 172, 3) := by decide +kernel
theorem dX13_works_711 : decode cX13_works 711 = .ok (.aload_n 0, 1) := by decide +kernel
theorem dX13_works_712 : decode cX13_works 712 = .ok (.dup, 1) := by decide +kernel
theorem dX13_works_713 : decode cX13_works 713 = .ok (.getfield 518, 3) := by decide +kernel
theorem dX13_works_716 : decode cX13_works 716 = .ok (.iconst 1, 1) := by decide +kernel
theorem dX13_works_717 : decode cX13_works 717 = .ok (.iadd, 1) := by decide +kernel
theorem dX13_works_718 : decode cX13_works 718 = .ok (.putfield 518, 3) := by decide +kernel
theorem dX13_works_721 : decode cX13_works 721 = .ok (.goto 159, 3) := by decide +kernel
theorem dX13_works_724 : decode cX13_works 724 = .ok (.aload_n 0, 1) := by decide +kernel
theorem dX13_works_725 : decode cX13_works 725 = .ok (.dup, 1) := by decide +kernel
theorem dX13_works_726 : decode cX13_works 726 = .ok (.getfield 497, 3) := by decide +kernel
theorem dX13_works_729 : decode cX13_works 729 = .ok (.iconst 1, 1) := by decide +kernel
theorem dX13_works_730 : decode cX13_works 730 = .ok (.isub, 1) := by decide +kernel
theorem dX13_works_731 : decode cX13_works 731 = .ok (.putfield 497, 3) := by decide +kernel
theorem dX13_works_734 : decode cX13_works 734 = .ok (.aload_n 0, 1) := by decide +kernel
theorem dX13_works_735 : decode cX13_works 735 = .ok (.iconst 4, 1) := by decide +kernel
theorem dX13_works_736 : decode cX13_works 736 = .ok (.putfield 512, 3) := by decide +kernel
theorem dX13_works_739 : decode cX13_works 739 = .ok (.aload_n 0, 1) := by decide +kernel
theorem dX13_works_740 : decode cX13_works 740 = .ok (.aload_n 0, 1) := by decide +kernel
theorem dX13_works_741 : decode cX13_works 741 = .ok (.getfield 126, 3) := by decide +kernel
theorem dX13_works_744 : decode cX13_works 744 = .ok (.aload_n 0, 1) := by decide +kernel
theorem dX13_works_745 : decode cX13_works 745 = .ok (.getfield 497, 3) := by decide +kernel
theorem dX13_works_748 : decode cX13_works 748 = .ok (.iaload, 1) := by decide +kernel
theorem dX13_works_749 : decode cX13_works 749 = .ok (.putfield 539, 3) := by decide +kernel
theorem dX13_works_752 : decode cX13_works 752 = .ok (.iconst 0, 1) := by decide +kernel
theorem dX13_works_753 : decode cX13_works 753 = .ok (.ireturn, 1) := by decide +kernel
theorem dX13_works_754 : decode cX13_works 754 = .ok (.aload_n 0, 1) := by decide +kernel
theorem dX13_works_755 : decode cX13_works 755 = .ok (.getfield 515, 3) := by decide +kernel
theorem dX13_works_758 : decode cX13_works 758 = .ok (.ifCond .ne 10, 3) := by decide +kernel
theorem dX13_works_761 : decode cX13_works 761 = .ok (.aload_n 0, 1) := by decide +kernel
theorem dX13_works_762 : decode cX13_works 762 = .ok (.iconst 2, 1) := by decide +kernel
theorem dX13_works_763 : decode cX13_works 763 = .ok (.putfield 512, 3) := by decide +kernel
theorem dX13_works_766 : decode cX13_works 766 = .ok (.iconst 0, 1) := by decide +kernel
theorem dX13_works_767 : decode cX13_works 767 = .ok (.ireturn, 1) := by decide +kernel
theorem dX13_works_768 : decode cX13_works 768 = .ok (.aload_n 0, 1) := by decide +kernel
theorem dX13_works_769 : decode cX13_works 769 = .ok (.getfield 126, 3) := by decide +kernel
theorem dX13_works_772 : decode cX13_works 772 = .ok (.aload_n 0, 1) := by decide +kernel
theorem dX13_works_773 : decode cX13_works 773 = .ok (.getfield 497, 3) := by decide +kernel
theorem dX13_works_776 : decode cX13_works 776 = .ok (.aload_n 0, 1) := by decide +kernel
theorem dX13_works_777 : decode cX13_works 777 = .ok (.getfield 129, 3) := by decide +kernel
theorem dX13_works_780 : decode cX13_works 780 = .ok (.iconst 0, 1) := by decide +kernel
theorem dX13_works_781 : decode cX13_works 781 = .ok (.iaload, 1) := by decide +kernel
theorem dX13_works_782 : decode cX13_works 782 = .ok (.iastore, 1) := by decide +kernel
theorem dX13_works_783 : decode cX13_works 783 = .ok (.aload_n 0, 1) := by decide +kernel
theorem dX13_works_784 : decode cX13_works 784 = .ok (.dup, 1) := by decide +kernel
theorem dX13_works_785 : decode cX13_works 785 = .ok (.getfield 497, 3) := by decide +kernel
theorem dX13_works_788 : decode cX13_works 788 = .ok (.iconst 1, 1) := by decide +kernel
theorem dX13_works_789 : decode cX13_works 789 = .ok (.iadd, 1) := by decide +kernel
theorem dX13_works_790 : decode cX13_works 790 = .ok (.putfield 497, 3) := by decide +kernel
theorem dX13_works_793 : decode cX13_works 793 = .ok (.aload_n 0, 1) := by decide +kernel
theorem dX13_works_794 : decode cX13_works 794 = .ok (.dup, 1) := by decide +kernel
theorem dX13_works_795 : decode cX13_works 795 = .ok (.getfield 515, 3) := by decide +kernel
theorem dX13_works_798 : decode cX13_works 798 = .ok (.iconst 1, 1) := by decide +kernel
theorem dX13_works_799 : decode cX13_works 799 = .ok (.isub, 1) := by decide +kernel
theorem dX13_works_800 : decode cX13_works 800 = .ok (.putfield 515, 3) := by decide +kernel
theorem dX13_works_803 : decode cX13_works 803 = .ok (.iconst 0, 1) := by decide +kernel
theorem dX13_works_804 : decode cX13_works 804 = .ok (.istore_n 3, 1) := by decide +kernel
theorem dX13_works_805 : decode cX13_works 805 = .ok (.iload_n 3, 1) := by decide +kernel
theorem dX13_works_806 : decode cX13_works 806 = .ok (.aload_n 0, 1) := by decide +kernel
theorem dX13_works_807 : decode cX13_works 807 = .ok (.getfield 515, 3) := by decide +kernel
theorem dX13_works_810 : decode cX13_works 810 = .ok (.if_icmp .ge 23, 3) := by decide +kernel
theorem dX13_works_813 : decode cX13_works 813 = .ok (.aload_n 0, 1) := by decide +kernel
theorem dX13_works_814 : decode cX13_works 814 = .ok (.getfield 129, 3) := by decide +kernel
theorem dX13_works_817 : decode cX13_works 817 = .ok (.iload_n 3, 1) := by decide +kernel
theorem dX13_works_818 : decode cX13_works 818 = .ok (.aload_n 0, 1) := by decide +kernel
theorem dX13_works_819 : decode cX13_works 819 = .ok (.getfield 129, 3) := by decide +kernel
theorem dX13_works_822 : decode cX13_works 822 = .ok (.iload_n 3, 1) := by decide +kernel
theorem dX13_works_823 : decode cX13_works 823 = .ok (.iconst 1, 1) := by decide +kernel
theorem dX13_works_824 : decode cX13_works 824 = .ok (.iadd, 1) := by decide +kernel
theorem dX13_works_825 : decode cX13_works 825 = .ok (.iaload, 1) := by decide +kernel
theorem dX13_works_826 : decode cX13_works 826 = .ok (.iastore, 1) := by decide +kernel
theorem dX13_works_827 : decode cX13_works 827 = .ok (.iinc 3 1, 3) := by decide +kernel
theorem dX13_works_830 : decode cX13_works 830 = .ok (.goto (-25), 3) := by decide +kernel
theorem dX13_works_833 : decode cX13_works 833 = .ok (.goto 47, 3) := by decide +kernel
theorem dX13_works_836 : decode cX13_works 836 = .ok (.iconst 0, 1) := by decide +kernel
theorem dX13_works_837 : decode cX13_works 837 = .ok (.istore_n 3, 1) := by decide +kernel
theorem dX13_works_838 : decode cX13_works 838 = .ok (.iload_n 3, 1) := by decide +kernel
theorem dX13_works_839 : decode cX13_works 839 = .ok (.iload_n 2, 1) := by decide +kernel
theorem dX13_works_840 : decode cX13_works 840 = .ok (.if_icmp .ge 23, 3) := by decide +kernel
theorem dX13_works_843 : decode cX13_works 843 = .ok (.aload_n 0, 1) := by decide +kernel
theorem dX13_works_844 : decode cX13_works 844 = .ok (.getfield 135, 3) := by decide +kernel
theorem dX13_works_847 : decode cX13_works 847 = .ok (.aload_n 0, 1) := by decide +kernel
theorem dX13_works_848 : decode cX13_works 848 = .ok (.getfield 550, 3) := by decide +kernel
theorem dX13_works_851 : decode cX13_works 851 = .ok (.iload_n 1, 1) := by decide +kernel
theorem dX13_works_852 : decode cX13_works 852 = .ok (.iadd, 1) := by decide +kernel
theorem dX13_works_853 : decode cX13_works 853 = .ok (.iload_n 3, 1) := by decide +kernel
theorem dX13_works_854 : decode cX13_works 854 = .ok (.iadd, 1) := by decide +kernel
theorem dX13_works_855 : decode cX13_works 855 = .ok (.iconst 0, 1) := by decide +kernel
theorem dX13_works_856 : decode cX13_works 856 = .ok (.iastore, 1) := by decide +kernel
theorem dX13_works_857 : decode cX13_works 857 = .ok (.iinc 3 1, 3) := by decide +kernel
theorem dX13_works_860 : decode cX13_works 860 = .ok (.goto (-22), 3) := by decide +kernel
theorem dX13_works_863 : decode cX13_works 863 = .ok (.goto 17, 3) := by decide +kernel
theorem dX13_works_866 : decode cX13_works 866 = .ok (.aload_n 0, 1) := by decide +kernel
theorem dX13_works_867 : decode cX13_works 867 = .ok (.aload_n 0, 1) := by decide +kernel
theorem dX13_works_868 : decode cX13_works 868 = .ok (.aload_n 0, 1) := by decide +kernel
theorem dX13_works_869 : decode cX13_works 869 = .ok (.getfield 553, 3) := by decide +kernel
theorem dX13_works_872 : decode cX13_works 872 = .ok (.invokevirtual 506, 3) := by decide +kernel
theorem dX13_works_875 : decode cX13_works 875 = .ok (.putfield 553, 3) := by decide +kernel
theorem dX13_works_878 : decode cX13_works 878 = .ok (.iconst 1, 1) := by decide +kernel
theorem dX13_works_879 : decode cX13_works 879 = .ok (.ireturn, 1) := by decide +kernel
theorem dX13_works_880 : decode cX13_works 880 = .ok (.aload_n 0, 1) := by decide +kernel
theorem dX13_works_881 : decode cX13_works 881 = .ok (.dup, 1) := by decide +kernel
theorem dX13_works_882 : decode cX13_works 882 = .ok (.getfield 553, 3) := by decide +kernel
theorem dX13_works_885 : decode cX13_works 885 = .ok (.iconst 1, 1) := by decide +kernel
theorem dX13_works_886 : decode cX13_works 886 = .ok (.iadd, 1) := by decide +kernel
theorem dX13_works_887 : decode cX13_works 887 = .ok (.putfield 553, 3) := by decide +kernel
theorem dX13_works_890 : decode cX13_works 890 = .ok (.iconst 1, 1) := by decide +kernel
theorem dX13_works_891 : decode cX13_works 891 = .ok (.ireturn, 1) := by decide +kernel
theorem dX13_returnsHere_0 : decode cX13_returnsHere 0 = .ok (.aload_n 0, 1) := by decide +kernel
theorem dX13_returnsHere_1 : decode cX13_returnsHere 1 = .ok (.dup, 1) := by decide +kernel
theorem dX13_returnsHere_2 : decode cX13_returnsHere 2 = .ok (.getfield 497, 3) := by decide +kernel
theorem dX13_returnsHere_5 : decode cX13_returnsHere 5 = .ok (.iconst 1, 1) := by decide +kernel
theorem dX13_returnsHere_6 : decode cX13_returnsHere 6 = .ok (.isub, 1) := by decide +kernel
theorem dX13_returnsHere_7 : decode cX13_returnsHere 7 = .ok (.putfield 497, 3) := by decide +kernel
theorem dX13_returnsHere_10 : decode cX13_returnsHere 10 = .ok (.aload_n 0, 1) := by decide +kernel
theorem dX13_returnsHere_11 : decode cX13_returnsHere 11 = .ok (.getfield 126, 3) := by decide +kernel
theorem dX13_returnsHere_14 : decode cX13_returnsHere 14 = .ok (.aload_n 0, 1) := by decide +kernel
theorem dX13_returnsHere_15 : decode cX13_returnsHere 15 = .ok (.getfield 497, 3) := by decide +kernel
theorem dX13_returnsHere_18 : decode cX13_returnsHere 18 = .ok (.iaload, 1) := by decide +kernel
theorem dX13_returnsHere_19 : decode cX13_returnsHere 19 = .ok (.istore_n 1, 1) := by decide +kernel
theorem dX13_returnsHere_20 : decode cX13_returnsHere 20 = .ok (.aload_n 0, 1) := by decide +kernel
theorem dX13_returnsHere_21 : decode cX13_returnsHere 21 = .ok (.dup, 1) := by decide +kernel
theorem dX13_returnsHere_22 : decode cX13_returnsHere 22 = .ok (.getfield 533, 3) := by decide +kernel
theorem dX13_returnsHere_25 : decode cX13_returnsHere 25 = .ok (.iconst 1, 1) := by decide +kernel
theorem dX13_returnsHere_26 : decode cX13_returnsHere 26 = .ok (.isub, 1) := by decide +kernel
theorem dX13_returnsHere_27 : decode cX13_returnsHere 27 = .ok (.putfield 533, 3) := by decide +kernel
theorem dX13_returnsHere_30 : decode cX13_returnsHere 30 = .ok (.aload_n 0, 1) := by decide +kernel
theorem dX13_returnsHere_31 : decode cX13_returnsHere 31 = .ok (.getfield 138, 3) := by decide +kernel
theorem dX13_returnsHere_34 : decode cX13_returnsHere 34 = .ok (.aload_n 0, 1) := by decide +kernel
theorem dX13_returnsHere_35 : decode cX13_returnsHere 35 = .ok (.getfield 533, 3) := by decide +kernel
theorem dX13_returnsHere_38 : decode cX13_returnsHere 38 = .ok (.iaload, 1) := by decide +kernel
theorem dX13_returnsHere_39 : decode cX13_returnsHere 39 = .ok (.istore_n 2, 1) := by decide +kernel
theorem dX13_returnsHere_40 : decode cX13_returnsHere 40 = .ok (.aload_n 0, 1) := by decide +kernel
theorem dX13_returnsHere_41 : decode cX13_returnsHere 41 = .ok (.getfield 533, 3) := by decide +kernel
theorem dX13_returnsHere_44 : decode cX13_returnsHere 44 = .ok (.ifCond .ne 32, 3) := by decide +kernel
theorem dX13_returnsHere_47 : decode cX13_returnsHere 47 = .ok (.aload_n 0, 1) := by decide +kernel
theorem dX13_returnsHere_48 : decode cX13_returnsHere 48 = .ok (.iconst 3, 1) := by decide +kernel
theorem dX13_returnsHere_49 : decode cX13_returnsHere 49 = .ok (.putfield 512, 3) := by decide +kernel
theorem dX13_returnsHere_52 : decode cX13_returnsHere 52 = .ok (.aload_n 0, 1) := by decide +kernel
theorem dX13_returnsHere_53 : decode cX13_returnsHere 53 = .ok (.aload_n 0, 1) := by decide +kernel
theorem dX13_returnsHere_54 : decode cX13_returnsHere 54 = .ok (.getfield 86, 3) := by decide +kernel
theorem dX13_returnsHere_57 : decode cX13_returnsHere 57 = .ok (.iload_n 2, 1) := by decide +kernel
theorem dX13_returnsHere_58 : decode cX13_returnsHere 58 = .ok (.baload, 1) := by decide +kernel
theorem dX13_returnsHere_59 : decode cX13_returnsHere 59 = .ok (.ifCond .eq 7, 3) := by decide +kernel
theorem dX13_returnsHere_62 : decode cX13_returnsHere 62 = .ok (.iconst 0, 1) := by decide +kernel
theorem dX13_returnsHere_63 : decode cX13_returnsHere 63 = .ok (.goto 4, 3) := by decide +kernel
theorem dX13_returnsHere_66 : decode cX13_returnsHere 66 = .ok (.iload_n 1, 1) := by decide +kernel
theorem dX13_returnsHere_67 : decode cX13_returnsHere 67 = .ok (.putfield 539, 3) := by decide +kernel
theorem dX13_returnsHere_70 : decode cX13_returnsHere 70 = .ok (.aload_n 0, 1) := by decide +kernel
theorem dX13_returnsHere_71 : decode cX13_returnsHere 71 = .ok (.iconst 0, 1) := by decide +kernel
theorem dX13_returnsHere_72 : decode cX13_returnsHere 72 = .ok (.putfield 544, 3) := by decide +kernel
theorem dX13_returnsHere_75 : decode cX13_returnsHere 75 = .ok (.return_, 1) := by decide +kernel
theorem dX13_returnsHere_76 : decode cX13_returnsHere 76 = .ok (.aload_n 0, 1) := by decide +kernel
theorem dX13_returnsHere_77 : decode cX13_returnsHere 77 = .ok (.dup, 1) := by decide +kernel
theorem dX13_returnsHere_78 : decode cX13_returnsHere 78 = .ok (.getfield 544, 3) := by decide +kernel
theorem dX13_returnsHere_81 : decode cX13_returnsHere 81 = .ok (.aload_n 0, 1) := by decide +kernel
theorem dX13_returnsHere_82 : decode cX13_returnsHere 82 = .ok (.getfield 71, 3) := by decide +kernel
theorem dX13_returnsHere_85 : decode cX13_returnsHere 85 = .ok (.iload_n 2, 1) := by decide +kernel
theorem dX13_returnsHere_86 : decode cX13_returnsHere 86 = .ok (.iaload, 1) := by decide +kernel
theorem dX13_returnsHere_87 : decode cX13_returnsHere 87 = .ok (.isub, 1) := by decide +kernel
theorem dX13_returnsHere_88 : decode cX13_returnsHere 88 = .ok (.putfield 544, 3) := by decide +kernel
theorem dX13_returnsHere_91 : decode cX13_returnsHere 91 = .ok (.aload_n 0, 1) := by decide +kernel
theorem dX13_returnsHere_92 : decode cX13_returnsHere 92 = .ok (.aload_n 0, 1) := by decide +kernel
theorem dX13_returnsHere_93 : decode cX13_returnsHere 93 = .ok (.getfield 144, 3) := by decide +kernel
theorem dX13_returnsHere_96 : decode cX13_returnsHere 96 = .ok (.aload_n 0, 1) := by decide +kernel
theorem dX13_returnsHere_97 : decode cX13_returnsHere 97 = .ok (.getfield 533, 3) := by decide +kernel
theorem dX13_returnsHere_100 : decode cX13_returnsHere 100 = .ok (.iaload, 1) := by decide +kernel
theorem dX13_returnsHere_101 : decode cX13_returnsHere 101 = .ok (.putfield 547, 3) := by decide +kernel
theorem dX13_returnsHere_104 : decode cX13_returnsHere 104 = .ok (.aload_n 0, 1) := by decide +kernel
theorem dX13_returnsHere_105 : decode cX13_returnsHere 105 = .ok (.aload_n 0, 1) := by decide +kernel
theorem dX13_returnsHere_106 : decode cX13_returnsHere 106 = .ok (.getfield 144, 3) := by decide +kernel
theorem dX13_returnsHere_109 : decode cX13_returnsHere 109 = .ok (.aload_n 0, 1) := by decide +kernel
theorem dX13_returnsHere_110 : decode cX13_returnsHere 110 = .ok (.getfield 533, 3) := by decide +kernel
theorem dX13_returnsHere_113 : decode cX13_returnsHere 113 = .ok (.iconst 1, 1) := by decide +kernel
theorem dX13_returnsHere_114 : decode cX13_returnsHere 114 = .ok (.isub, 1) := by decide +kernel
theorem dX13_returnsHere_115 : decode cX13_returnsHere 115 = .ok (.iaload, 1) := by decide +kernel
theorem dX13_returnsHere_116 : decode cX13_returnsHere 116 = .ok (.putfield 550, 3) := by decide +kernel
theorem dX13_returnsHere_119 : decode cX13_returnsHere 119 = .ok (.aload_n 0, 1) := by decide +kernel
theorem dX13_returnsHere_120 : decode cX13_returnsHere 120 = .ok (.aload_n 0, 1) := by decide +kernel
theorem dX13_returnsHere_121 : decode cX13_returnsHere 121 = .ok (.getfield 141, 3) := by decide +kernel
theorem dX13_returnsHere_124 : decode cX13_returnsHere 124 = .ok (.aload_n 0, 1) := by decide +kernel
theorem dX13_returnsHere_125 : decode cX13_returnsHere 125 = .ok (.getfield 533, 3) := by decide +kernel
theorem dX13_returnsHere_128 : decode cX13_returnsHere 128 = .ok (.iaload, 1) := by decide +kernel
theorem dX13_returnsHere_129 : decode cX13_returnsHere 129 = .ok (.putfield 553, 3) := by decide +kernel
theorem dX13_returnsHere_132 : decode cX13_returnsHere 132 = .ok (.aload_n 0, 1) := by decide +kernel
theorem dX13_returnsHere_133 : decode cX13_returnsHere 133 = .ok (.getfield 126, 3) := by decide +kernel
theorem dX13_returnsHere_136 : decode cX13_returnsHere 136 = .ok (.aload_n 0, 1) := by decide +kernel
theorem dX13_returnsHere_137 : decode cX13_returnsHere 137 = .ok (.getfield 497, 3) := by decide +kernel
theorem dX13_returnsHere_140 : decode cX13_returnsHere 140 = .ok (.iload_n 1, 1) := by decide +kernel
theorem dX13_returnsHere_141 : decode cX13_returnsHere 141 = .ok (.iastore, 1) := by decide +kernel
theorem dX13_returnsHere_142 : decode cX13_returnsHere 142 = .ok (.aload_n 0, 1) := by decide +kernel
theorem dX13_returnsHere_143 : decode cX13_returnsHere 143 = .ok (.dup, 1) := by decide +kernel
theorem dX13_returnsHere_144 : decode cX13_returnsHere 144 = .ok (.getfield 497, 3) := by decide +kernel
theorem dX13_returnsHere_147 : decode cX13_returnsHere 147 = .ok (.iconst 1, 1) := by decide +kernel
theorem dX13_returnsHere_148 : decode cX13_returnsHere 148 = .ok (.iadd, 1) := by decide +kernel
theorem dX13_returnsHere_149 : decode cX13_returnsHere 149 = .ok (.putfield 497, 3) := by decide +kernel
theorem dX13_returnsHere_152 : decode cX13_returnsHere 152 = .ok (.return_, 1) := by decide +kernel
theorem dX13_output_0 : decode cX13_output 0 = .ok (.iload_n 1, 1) := by decide +kernel
theorem dX13_output_1 : decode cX13_output 1 = .ok (.ifCond .lt 18, 3) := by decide +kernel
theorem dX13_output_4 : decode cX13_output 4 = .ok (.iload_n 1, 1) := by decide +kernel
theorem dX13_output_5 : decode cX13_output 5 = .ok (.aload_n 0, 1) := by decide +kernel
theorem dX13_output_6 : decode cX13_output 6 = .ok (.getfield 518, 3) := by decide +kernel
theorem dX13_output_9 : decode cX13_output 9 = .ok (.if_icmp .ge 10, 3) := by decide +kernel
theorem dX13_output_12 : decode cX13_output 12 = .ok (.iload_n 1, 1) := by decide +kernel
theorem dX13_output_13 : decode cX13_output 13 = .ok (.sipush 2000, 3) := by decide +kernel
theorem dX13_output_16 : decode cX13_output 16 = .ok (.if_icmp .lt 7, 3) := by decide +kernel
theorem dX13_output_19 : decode cX13_output 19 = .ok (.iconst 0, 1) := by decide +kernel
theorem dX13_output_20 : decode cX13_output 20 = .ok (.goto 9, 3) := by decide +kernel
theorem dX13_output_23 : decode cX13_output 23 = .ok (.aload_n 0, 1) := by decide +kernel
theorem dX13_output_24 : decode cX13_output 24 = .ok (.getfield 132, 3) := by decide +kernel
theorem dX13_output_27 : decode cX13_output 27 = .ok (.iload_n 1, 1) := by decide +kernel
theorem dX13_output_28 : decode cX13_output 28 = .ok (.iaload, 1) := by decide +kernel
theorem dX13_output_29 : decode cX13_output 29 = .ok (.ireturn, 1) := by decide +kernel
theorem dX13_world_0 : decode cX13_world 0 = .ok (.iload_n 1, 1) := by decide +kernel
theorem dX13_world_1 : decode cX13_world 1 = .ok (.tableswitch 161 0 7 #[47, 52, 68, 73, 78, 103, 129, 145], 47) := by decide +kernel
theorem dX13_world_48 : decode cX13_world 48 = .ok (.aload_n 0, 1) := by decide +kernel
theorem dX13_world_49 : decode cX13_world 49 = .ok (.getfield 512, 3) := by decide +kernel
theorem dX13_world_52 : decode cX13_world 52 = .ok (.ireturn, 1) := by decide +kernel
theorem dX13_world_53 : decode cX13_world 53 = .ok (.aload_n 0, 1) := by decide +kernel
theorem dX13_world_54 : decode cX13_world 54 = .ok (.getfield 512, 3) := by decide +kernel
theorem dX13_world_57 : decode cX13_world 57 = .ok (.ifCond .ne 7, 3) := by decide +kernel
theorem dX13_world_60 : decode cX13_world 60 = .ok (.iconst 0, 1) := by decide +kernel
theorem dX13_world_61 : decode cX13_world 61 = .ok (.goto 7, 3) := by decide +kernel
theorem dX13_world_64 : decode cX13_world 64 = .ok (.aload_n 0, 1) := by decide +kernel
theorem dX13_world_65 : decode cX13_world 65 = .ok (.getfield 536, 3) := by decide +kernel
theorem dX13_world_68 : decode cX13_world 68 = .ok (.ireturn, 1) := by decide +kernel
theorem dX13_world_69 : decode cX13_world 69 = .ok (.aload_n 0, 1) := by decide +kernel
theorem dX13_world_70 : decode cX13_world 70 = .ok (.getfield 518, 3) := by decide +kernel
theorem dX13_world_73 : decode cX13_world 73 = .ok (.ireturn, 1) := by decide +kernel
theorem dX13_world_74 : decode cX13_world 74 = .ok (.aload_n 0, 1) := by decide +kernel
theorem dX13_world_75 : decode cX13_world 75 = .ok (.getfield 515, 3) := by decide +kernel
theorem dX13_world_78 : decode cX13_world 78 = .ok (.ireturn, 1) := by decide +kernel
theorem dX13_world_79 : decode cX13_world 79 = .ok (.aload_n 0, 1) := by decide +kernel
theorem dX13_world_80 : decode cX13_world 80 = .ok (.getfield 512, 3) := by decide +kernel
theorem dX13_world_83 : decode cX13_world 83 = .ok (.iconst 3, 1) := by decide +kernel
theorem dX13_world_84 : decode cX13_world 84 = .ok (.if_icmp .eq 11, 3) := by decide +kernel
theorem dX13_world_87 : decode cX13_world 87 = .ok (.aload_n 0, 1) := by decide +kernel
theorem dX13_world_88 : decode cX13_world 88 = .ok (.getfield 512, 3) := by decide +kernel
theorem dX13_world_91 : decode cX13_world 91 = .ok (.iconst 4, 1) := by decide +kernel
theorem dX13_world_92 : decode cX13_world 92 = .ok (.if_icmp .ne 10, 3) := by decide +kernel
theorem dX13_world_95 : decode cX13_world 95 = .ok (.aload_n 0, 1) := by decide +kernel
theorem dX13_world_96 : decode cX13_world 96 = .ok (.getfield 539, 3) := by decide +kernel
theorem dX13_world_99 : decode cX13_world 99 = .ok (.goto 4, 3) := by decide +kernel
theorem dX13_world_102 : decode cX13_world 102 = .ok (.iconst 0, 1) := by decide +kernel
theorem dX13_world_103 : decode cX13_world 103 = .ok (.ireturn, 1) := by decide +kernel
theorem dX13_world_104 : decode cX13_world 104 = .ok (.aload_n 0, 1) := by decide +kernel
theorem dX13_world_105 : decode cX13_world 105 = .ok (.getfield 512, 3) := by decide +kernel
theorem dX13_world_108 : decode cX13_world 108 = .ok (.iconst 5, 1) := by decide +kernel
theorem dX13_world_109 : decode cX13_world 109 = .ok (.if_icmp .eq 12, 3) := by decide +kernel
theorem dX13_world_112 : decode cX13_world 112 = .ok (.aload_n 0, 1) := by decide +kernel
theorem dX13_world_113 : decode cX13_world 113 = .ok (.getfield 512, 3) := by decide +kernel
theorem dX13_world_116 : decode cX13_world 116 = .ok (.bipush 6, 2) := by decide +kernel
theorem dX13_world_118 : decode cX13_world 118 = .ok (.if_icmp .ne 10, 3) := by decide +kernel
theorem dX13_world_121 : decode cX13_world 121 = .ok (.aload_n 0, 1) := by decide +kernel
theorem dX13_world_122 : decode cX13_world 122 = .ok (.getfield 541, 3) := by decide +kernel
theorem dX13_world_125 : decode cX13_world 125 = .ok (.goto 4, 3) := by decide +kernel
theorem dX13_world_128 : decode cX13_world 128 = .ok (.iconst (-1), 1) := by decide +kernel
theorem dX13_world_129 : decode cX13_world 129 = .ok (.ireturn, 1) := by decide +kernel
theorem dX13_world_130 : decode cX13_world 130 = .ok (.aload_n 0, 1) := by decide +kernel
theorem dX13_world_131 : decode cX13_world 131 = .ok (.getfield 512, 3) := by decide +kernel
theorem dX13_world_134 : decode cX13_world 134 = .ok (.ifCond .ne 7, 3) := by decide +kernel
theorem dX13_world_137 : decode cX13_world 137 = .ok (.iconst 0, 1) := by decide +kernel
theorem dX13_world_138 : decode cX13_world 138 = .ok (.goto 7, 3) := by decide +kernel
theorem dX13_world_141 : decode cX13_world 141 = .ok (.aload_n 0, 1) := by decide +kernel
theorem dX13_world_142 : decode cX13_world 142 = .ok (.getfield 544, 3) := by decide +kernel
theorem dX13_world_145 : decode cX13_world 145 = .ok (.ireturn, 1) := by decide +kernel
theorem dX13_world_146 : decode cX13_world 146 = .ok (.aload_n 0, 1) := by decide +kernel
theorem dX13_world_147 : decode cX13_world 147 = .ok (.getfield 512, 3) := by decide +kernel
theorem dX13_world_150 : decode cX13_world 150 = .ok (.ifCond .ne 7, 3) := by decide +kernel
theorem dX13_world_153 : decode cX13_world 153 = .ok (.iconst 0, 1) := by decide +kernel
theorem dX13_world_154 : decode cX13_world 154 = .ok (.goto 7, 3) := by decide +kernel
theorem dX13_world_157 : decode cX13_world 157 = .ok (.aload_n 0, 1) := by decide +kernel
theorem dX13_world_158 : decode cX13_world 158 = .ok (.getfield 530, 3) := by decide +kernel
theorem dX13_world_161 : decode cX13_world 161 = .ok (.ireturn, 1) := by decide +kernel
theorem dX13_world_162 : decode cX13_world 162 = .ok (.iconst (-1), 1) := by decide +kernel
theorem dX13_world_163 : decode cX13_world 163 = .ok (.ireturn, 1) := by decide +kernel
theorem dX13_global_0 : decode cX13_global 0 = .ok (.aload_n 0, 1) := by decide +kernel
theorem dX13_global_1 : decode cX13_global 1 = .ok (.getfield 509, 3) := by decide +kernel
theorem dX13_global_4 : decode cX13_global 4 = .ok (.ifCond .eq 15, 3) := by decide +kernel
theorem dX13_global_7 : decode cX13_global 7 = .ok (.iload_n 1, 1) := by decide +kernel
theorem dX13_global_8 : decode cX13_global 8 = .ok (.ifCond .lt 11, 3) := by decide +kernel
theorem dX13_global_11 : decode cX13_global 11 = .ok (.iload_n 1, 1) := by decide +kernel
theorem dX13_global_12 : decode cX13_global 12 = .ok (.aload_n 0, 1) := by decide +kernel
theorem dX13_global_13 : decode cX13_global 13 = .ok (.getfield 288, 3) := by decide +kernel
theorem dX13_global_16 : decode cX13_global 16 = .ok (.if_icmp .lt 5, 3) := by decide +kernel
theorem dX13_global_19 : decode cX13_global 19 = .ok (.iconst 0, 1) := by decide +kernel
theorem dX13_global_20 : decode cX13_global 20 = .ok (.ireturn, 1) := by decide +kernel
theorem dX13_global_21 : decode cX13_global 21 = .ok (.iconst 0, 1) := by decide +kernel
theorem dX13_global_22 : decode cX13_global 22 = .ok (.istore_n 2, 1) := by decide +kernel
theorem dX13_global_23 : decode cX13_global 23 = .ok (.aload_n 0, 1) := by decide +kernel
theorem dX13_global_24 : decode cX13_global 24 = .ok (.getfield 92, 3) := by decide +kernel
theorem dX13_global_27 : decode cX13_global 27 = .ok (.iload_n 1, 1) := by decide +kernel
theorem dX13_global_28 : decode cX13_global 28 = .ok (.iaload, 1) := by decide +kernel
theorem dX13_global_29 : decode cX13_global 29 = .ok (.iconst 1, 1) := by decide +kernel
theorem dX13_global_30 : decode cX13_global 30 = .ok (.isub, 1) := by decide +kernel
theorem dX13_global_31 : decode cX13_global 31 = .ok (.istore_n 3, 1) := by decide +kernel
theorem dX13_global_32 : decode cX13_global 32 = .ok (.iload_n 3, 1) := by decide +kernel
theorem dX13_global_33 : decode cX13_global 33 = .ok (.ifCond .lt 73, 3) := by decide +kernel
theorem dX13_global_36 : decode cX13_global 36 = .ok (.aload_n 0, 1) := by decide +kernel
theorem dX13_global_37 : decode cX13_global 37 = .ok (.getfield 512, 3) := by decide +kernel
theorem dX13_global_40 : decode cX13_global 40 = .ok (.ifCond .ne 19, 3) := by decide +kernel
theorem dX13_global_43 : decode cX13_global 43 = .ok (.aload_n 0, 1) := by decide +kernel
theorem dX13_global_44 : decode cX13_global 44 = .ok (.getfield 101, 3) := by decide +kernel
theorem dX13_global_47 : decode cX13_global 47 = .ok (.aload_n 0, 1) := by decide +kernel
theorem dX13_global_48 : decode cX13_global 48 = .ok (.getfield 95, 3) := by decide +kernel
theorem dX13_global_51 : decode cX13_global 51 = .ok (.iload_n 1, 1) := by decide +kernel
theorem dX13_global_52 : decode cX13_global 52 = .ok (.iaload, 1) := by decide +kernel
theorem dX13_global_53 : decode cX13_global 53 = .ok (.iload_n 3, 1) := by decide +kernel
theorem dX13_global_54 : decode cX13_global 54 = .ok (.iadd, 1) := by decide +kernel
theorem dX13_global_55 : decode cX13_global 55 = .ok (.iaload, 1) := by decide +kernel
theorem dX13_global_56 : decode cX13_global 56 = .ok (.goto 16, 3) := by decide +kernel
theorem dX13_global_59 : decode cX13_global 59 = .ok (.aload_n 0, 1) := by decide +kernel
theorem dX13_global_60 : decode cX13_global 60 = .ok (.getfield 135, 3) := by decide +kernel
theorem dX13_global_63 : decode cX13_global 63 = .ok (.aload_n 0, 1) := by decide +kernel
theorem dX13_global_64 : decode cX13_global 64 = .ok (.getfield 95, 3) := by decide +kernel
theorem dX13_global_67 : decode cX13_global 67 = .ok (.iload_n 1, 1) := by decide +kernel
theorem dX13_global_68 : decode cX13_global 68 = .ok (.iaload, 1) := by decide +kernel
theorem dX13_global_69 : decode cX13_global 69 = .ok (.iload_n 3, 1) := by decide +kernel
theorem dX13_global_70 : decode cX13_global 70 = .ok (.iadd, 1) := by decide +kernel
theorem dX13_global_71 : decode cX13_global 71 = .ok (.iaload, 1) := by decide +kernel
theorem dX13_global_72 : decode cX13_global 72 = .ok (.istore 4, 2) := by decide +kernel
theorem dX13_global_74 : decode cX13_global 74 = .ok (.aload_n 0, 1) := by decide +kernel
theorem dX13_global_75 : decode cX13_global 75 = .ok (.getfield 98, 3) := by decide +kernel
theorem dX13_global_78 : decode cX13_global 78 = .ok (.iload_n 1, 1) := by decide +kernel
theorem dX13_global_79 : decode cX13_global 79 = .ok (.baload, 1) := by decide +kernel
theorem dX13_global_80 : decode cX13_global 80 = .ok (.ifCond .eq 17, 3) := by decide +kernel
theorem dX13_global_83 : decode cX13_global 83 = .ok (.iload_n 2, 1) := by decide +kernel
theorem dX13_global_84 : decode cX13_global 84 = .ok (.bipush 8, 2) := by decide +kernel
theorem dX13_global_86 : decode cX13_global 86 = .ok (.ishl, 1) := by decide +kernel
theorem dX13_global_87 : decode cX13_global 87 = .ok (.iload 4, 2) := by decide +kernel
theorem dX13_global_89 : decode cX13_global 89 = .ok (.sipush 255, 3) := by decide +kernel
theorem dX13_global_92 : decode cX13_global 92 = .ok (.iand, 1) := by decide +kernel
theorem dX13_global_93 : decode cX13_global 93 = .ok (.ior, 1) := by decide +kernel
theorem dX13_global_94 : decode cX13_global 94 = .ok (.goto 5, 3) := by decide +kernel
theorem dX13_global_97 : decode cX13_global 97 = .ok (.iload 4, 2) := by decide +kernel
theorem dX13_global_99 : decode cX13_global 99 = .ok (.istore_n 2, 1) := by decide +kernel
theorem dX13_global_100 : decode cX13_global 100 = .ok (.iinc 3 (-1), 3) := by decide +kernel
theorem dX13_global_103 : decode cX13_global 103 = .ok (.goto (-71), 3) := by decide +kernel
theorem dX13_global_106 : decode cX13_global 106 = .ok (.iload_n 2, 1) := by decide +kernel
theorem dX13_global_107 : decode cX13_global 107 = .ok (.ireturn, 1) := by decide +kernel
theorem dX13_put_0 : decode cX13_put 0 = .ok (.iload_n 1, 1) := by decide +kernel
theorem dX13_put_1 : decode cX13_put 1 = .ok (.iconst 3, 1) := by decide +kernel
theorem dX13_put_2 : decode cX13_put 2 = .ok (.iand, 1) := by decide +kernel
theorem dX13_put_3 : decode cX13_put 3 = .ok (.ifCond .ne 14, 3) := by decide +kernel
theorem dX13_put_6 : decode cX13_put 6 = .ok (.iload_n 1, 1) := by decide +kernel
theorem dX13_put_7 : decode cX13_put 7 = .ok (.ifCond .lt 10, 3) := by decide +kernel
theorem dX13_put_10 : decode cX13_put 10 = .ok (.iload_n 1, 1) := by decide +kernel
theorem dX13_put_11 : decode cX13_put 11 = .ok (.sipush 16380, 3) := by decide +kernel
theorem dX13_put_14 : decode cX13_put 14 = .ok (.if_icmp .le 5, 3) := by decide +kernel
theorem dX13_put_17 : decode cX13_put 17 = .ok (.iconst 0, 1) := by decide +kernel
theorem dX13_put_18 : decode cX13_put 18 = .ok (.ireturn, 1) := by decide +kernel
theorem dX13_put_19 : decode cX13_put 19 = .ok (.aload_n 0, 1) := by decide +kernel
theorem dX13_put_20 : decode cX13_put 20 = .ok (.getfield 147, 3) := by decide +kernel
theorem dX13_put_23 : decode cX13_put 23 = .ok (.iload_n 1, 1) := by decide +kernel
theorem dX13_put_24 : decode cX13_put 24 = .ok (.iconst 2, 1) := by decide +kernel
theorem dX13_put_25 : decode cX13_put 25 = .ok (.ishr, 1) := by decide +kernel
theorem dX13_put_26 : decode cX13_put 26 = .ok (.iload_n 2, 1) := by decide +kernel
theorem dX13_put_27 : decode cX13_put 27 = .ok (.iastore, 1) := by decide +kernel
theorem dX13_put_28 : decode cX13_put 28 = .ok (.iconst 1, 1) := by decide +kernel
theorem dX13_put_29 : decode cX13_put 29 = .ok (.ireturn, 1) := by decide +kernel
theorem dX13_set_0 : decode cX13_set 0 = .ok (.iload_n 1, 1) := by decide +kernel
theorem dX13_set_1 : decode cX13_set 1 = .ok (.iconst 1, 1) := by decide +kernel
theorem dX13_set_2 : decode cX13_set 2 = .ok (.if_icmp .lt 9, 3) := by decide +kernel
theorem dX13_set_5 : decode cX13_set 5 = .ok (.iload_n 1, 1) := by decide +kernel
theorem dX13_set_6 : decode cX13_set 6 = .ok (.bipush 32, 2) := by decide +kernel
theorem dX13_set_8 : decode cX13_set 8 = .ok (.if_icmp .le 5, 3) := by decide +kernel
theorem dX13_set_11 : decode cX13_set 11 = .ok (.iconst 0, 1) := by decide +kernel
theorem dX13_set_12 : decode cX13_set 12 = .ok (.ireturn, 1) := by decide +kernel
theorem dX13_set_13 : decode cX13_set 13 = .ok (.aload_n 0, 1) := by decide +kernel
theorem dX13_set_14 : decode cX13_set 14 = .ok (.getfield 150, 3) := by decide +kernel
theorem dX13_set_17 : decode cX13_set 17 = .ok (.iload_n 1, 1) := by decide +kernel
theorem dX13_set_18 : decode cX13_set 18 = .ok (.iload_n 2, 1) := by decide +kernel
theorem dX13_set_19 : decode cX13_set 19 = .ok (.iastore, 1) := by decide +kernel
theorem dX13_set_20 : decode cX13_set 20 = .ok (.iconst 1, 1) := by decide +kernel
theorem dX13_set_21 : decode cX13_set 21 = .ok (.ireturn, 1) := by decide +kernel
theorem dX13_board_0 : decode cX13_board 0 = .ok (.iload_n 1, 1) := by decide +kernel
theorem dX13_board_1 : decode cX13_board 1 = .ok (.ifCond .lt 18, 3) := by decide +kernel
theorem dX13_board_4 : decode cX13_board 4 = .ok (.iload_n 1, 1) := by decide +kernel
theorem dX13_board_5 : decode cX13_board 5 = .ok (.bipush 33, 2) := by decide +kernel
theorem dX13_board_7 : decode cX13_board 7 = .ok (.if_icmp .ge 12, 3) := by decide +kernel
theorem dX13_board_10 : decode cX13_board 10 = .ok (.aload_n 0, 1) := by decide +kernel
theorem dX13_board_11 : decode cX13_board 11 = .ok (.getfield 150, 3) := by decide +kernel
theorem dX13_board_14 : decode cX13_board 14 = .ok (.iload_n 1, 1) := by decide +kernel
theorem dX13_board_15 : decode cX13_board 15 = .ok (.iaload, 1) := by decide +kernel
theorem dX13_board_16 : decode cX13_board 16 = .ok (.goto 42, 3) := by decide +kernel
theorem dX13_board_19 : decode cX13_board 19 = .ok (.iload_n 1, 1) := by decide +kernel
theorem dX13_board_20 : decode cX13_board 20 = .ok (.bipush 33, 2) := by decide +kernel
theorem dX13_board_22 : decode cX13_board 22 = .ok (.if_icmp .ne 10, 3) := by decide +kernel
theorem dX13_board_25 : decode cX13_board 25 = .ok (.aload_n 0, 1) := by decide +kernel
theorem dX13_board_26 : decode cX13_board 26 = .ok (.getfield 570, 3) := by decide +kernel
theorem dX13_board_29 : decode cX13_board 29 = .ok (.goto 29, 3) := by decide +kernel
theorem dX13_board_32 : decode cX13_board 32 = .ok (.iload_n 1, 1) := by decide +kernel
theorem dX13_board_33 : decode cX13_board 33 = .ok (.bipush 100, 2) := by decide +kernel
theorem dX13_board_35 : decode cX13_board 35 = .ok (.if_icmp .lt 22, 3) := by decide +kernel
theorem dX13_board_38 : decode cX13_board 38 = .ok (.iload_n 1, 1) := by decide +kernel
theorem dX13_board_39 : decode cX13_board 39 = .ok (.sipush 4196, 3) := by decide +kernel
theorem dX13_board_42 : decode cX13_board 42 = .ok (.if_icmp .ge 15, 3) := by decide +kernel
theorem dX13_board_45 : decode cX13_board 45 = .ok (.aload_n 0, 1) := by decide +kernel
theorem dX13_board_46 : decode cX13_board 46 = .ok (.getfield 147, 3) := by decide +kernel
theorem dX13_board_49 : decode cX13_board 49 = .ok (.iload_n 1, 1) := by decide +kernel
theorem dX13_board_50 : decode cX13_board 50 = .ok (.bipush 100, 2) := by decide +kernel
theorem dX13_board_52 : decode cX13_board 52 = .ok (.isub, 1) := by decide +kernel
theorem dX13_board_53 : decode cX13_board 53 = .ok (.iaload, 1) := by decide +kernel
theorem dX13_board_54 : decode cX13_board 54 = .ok (.goto 4, 3) := by decide +kernel
theorem dX13_board_57 : decode cX13_board 57 = .ok (.iconst (-1), 1) := by decide +kernel
theorem dX13_board_58 : decode cX13_board 58 = .ok (.ireturn, 1) := by decide +kernel
theorem dX13_go_0 : decode cX13_go 0 = .ok (.iload_n 1, 1) := by decide +kernel
theorem dX13_go_1 : decode cX13_go 1 = .ok (.iconst 1, 1) := by decide +kernel
theorem dX13_go_2 : decode cX13_go 2 = .ok (.if_icmp .lt 10, 3) := by decide +kernel
theorem dX13_go_5 : decode cX13_go 5 = .ok (.iload_n 1, 1) := by decide +kernel
theorem dX13_go_6 : decode cX13_go 6 = .ok (.sipush 1000, 3) := by decide +kernel
theorem dX13_go_9 : decode cX13_go 9 = .ok (.if_icmp .le 5, 3) := by decide +kernel
theorem dX13_go_12 : decode cX13_go 12 = .ok (.iconst (-1), 1) := by decide +kernel
theorem dX13_go_13 : decode cX13_go 13 = .ok (.ireturn, 1) := by decide +kernel
theorem dX13_go_14 : decode cX13_go 14 = .ok (.iconst 0, 1) := by decide +kernel
theorem dX13_go_15 : decode cX13_go 15 = .ok (.istore_n 2, 1) := by decide +kernel
theorem dX13_go_16 : decode cX13_go 16 = .ok (.iconst 0, 1) := by decide +kernel
theorem dX13_go_17 : decode cX13_go 17 = .ok (.istore_n 3, 1) := by decide +kernel
theorem dX13_go_18 : decode cX13_go 18 = .ok (.iload_n 3, 1) := by decide +kernel
theorem dX13_go_19 : decode cX13_go 19 = .ok (.iload_n 1, 1) := by decide +kernel
theorem dX13_go_20 : decode cX13_go 20 = .ok (.if_icmp .ge 18, 3) := by decide +kernel
theorem dX13_go_23 : decode cX13_go 23 = .ok (.iload_n 2, 1) := by decide +kernel
theorem dX13_go_24 : decode cX13_go 24 = .ok (.ifCond .ne 14, 3) := by decide +kernel
theorem dX13_go_27 : decode cX13_go 27 = .ok (.aload_n 0, 1) := by decide +kernel
theorem dX13_go_28 : decode cX13_go 28 = .ok (.invokevirtual 573, 3) := by decide +kernel
theorem dX13_go_31 : decode cX13_go 31 = .ok (.istore_n 2, 1) := by decide +kernel
theorem dX13_go_32 : decode cX13_go 32 = .ok (.iinc 3 1, 3) := by decide +kernel
theorem dX13_go_35 : decode cX13_go 35 = .ok (.goto (-17), 3) := by decide +kernel
theorem dX13_go_38 : decode cX13_go 38 = .ok (.iload_n 2, 1) := by decide +kernel
theorem dX13_go_39 : decode cX13_go 39 = .ok (.ireturn, 1) := by decide +kernel
