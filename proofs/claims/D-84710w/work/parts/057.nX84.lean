/-! names: X8_join X8_useless (tools/chunk.py) -/
set_option maxRecDepth 100000
theorem q2605 : (Jvm.Cond.methodLink "CompiledHouse$Cleaner" (172 : Nat) ({ cls := "java/util/ArrayList", name := "clear", desc := "()V" } : Jvm.MethodName)) ∈ lw_all := lw_g (lw_at lw_m11 9 rfl) rfl
theorem lk_X8_172 : xLk RX8 172 yJ5_clear := Or.inl q2605
theorem q2606 : (Jvm.Cond.methodLink "CompiledHouse$Cleaner" (175 : Nat) ({ cls := "CompiledHouse$Block", name := "ends", desc := "(IJLCompiledHouse$Block;)V" } : Jvm.MethodName)) ∈ lw_all := lw_g (lw_at lw_m11 10 rfl) rfl
theorem lk_X8_175 : xLk RX8 175 yX36_ends := Or.inl q2606
theorem q2611 : (Jvm.Cond.methodLink "CompiledHouse$Cleaner" (410 : Nat) ({ cls := "CompiledHouse$Living", name := "find", desc := "(LCompiledHouse$Code;)V" } : Jvm.MethodName)) ∈ lw_all := lw_g (lw_at lw_m11 15 rfl) rfl
theorem lk_X8_410 : xLk RX8 410 yX7_find := Or.inl q2611
theorem q2647 : (Jvm.Cond.methodLink "CompiledHouse$Cleaner" (416 : Nat) ({ cls := "CompiledHouse$Living", name := "begin", desc := "(LCompiledHouse$Block;)V" } : Jvm.MethodName)) ∈ lw_all := lw_g (lw_at lw_m11 51 rfl) rfl
theorem lk_X8_416 : xLk RX8 416 yX7_begin := Or.inl q2647
theorem q2648 : (Jvm.Cond.methodLink "CompiledHouse$Cleaner" (418 : Nat) ({ cls := "CompiledHouse$Living", name := "is", desc := "(I)Z" } : Jvm.MethodName)) ∈ lw_all := lw_g (lw_at lw_m11 52 rfl) rfl
theorem lk_X8_418 : xLk RX8 418 yX7_is := Or.inl q2648
theorem q2652 : (Jvm.Cond.methodLink "CompiledHouse$Cleaner" (421 : Nat) ({ cls := "CompiledHouse$Act", name := "isPure", desc := "()Z" } : Jvm.MethodName)) ∈ lw_all := lw_g (lw_at lw_m11 56 rfl) rfl
theorem lk_X8_421 : xLk RX8 421 yX37_isPure := Or.inl q2652
theorem q1937 : (Jvm.Cond.fieldLinkNest "CompiledHouse$Cleaner" (424 : Nat) "CompiledHouse$Act" "isWanted" "Z" "CompiledHouse") ∈ lw_tbl := lw_at lw_m8 61 rfl
theorem f_X8_424_35 : xF RX8 424 35 6 := ⟨_, "CompiledHouse$Act", rfl, by decide, Or.inr ⟨_, q1937⟩, Or.inl rfl⟩
theorem q2656 : (Jvm.Cond.methodLink "CompiledHouse$Cleaner" (427 : Nat) ({ cls := "CompiledHouse$Living", name := "back", desc := "(LCompiledHouse$Act;)V" } : Jvm.MethodName)) ∈ lw_all := lw_g (lw_at lw_m11 60 rfl) rfl
theorem lk_X8_427 : xLk RX8 427 yX7_back := Or.inl q2656
theorem dX8_join_0 : decode cX8_join 0 = .ok (.aload_n 0, 1) := by decide +kernel
theorem dX8_join_1 : decode cX8_join 1 = .ok (.getfield 56, 3) := by decide +kernel
theorem dX8_join_4 : decode cX8_join 4 = .ok (.getfield 101, 3) := by decide +kernel
theorem dX8_join_7 : decode cX8_join 7 = .ok (.iconst 0, 1) := by decide +kernel
theorem dX8_join_8 : decode cX8_join 8 = .ok (.invokevirtual 77, 3) := by decide +kernel
theorem dX8_join_11 : decode cX8_join 11 = .ok (.checkcast 104, 3) := by decide +kernel
theorem dX8_join_14 : decode cX8_join 14 = .ok (.astore_n 1, 1) := by decide +kernel
theorem dX8_join_15 : decode cX8_join 15 = .ok (.iconst 0, 1) := by decide +kernel
theorem dX8_join_16 : decode cX8_join 16 = .ok (.istore_n 2, 1) := by decide +kernel
theorem dX8_join_17 : decode cX8_join 17 = .ok (.iload_n 2, 1) := by decide +kernel
theorem dX8_join_18 : decode cX8_join 18 = .ok (.aload_n 0, 1) := by decide +kernel
theorem dX8_join_19 : decode cX8_join 19 = .ok (.getfield 56, 3) := by decide +kernel
theorem dX8_join_22 : decode cX8_join 22 = .ok (.getfield 101, 3) := by decide +kernel
theorem dX8_join_25 : decode cX8_join 25 = .ok (.invokevirtual 73, 3) := by decide +kernel
theorem dX8_join_28 : decode cX8_join 28 = .ok (.if_icmp .ge 187, 3) := by decide +kernel
theorem dX8_join_31 : decode cX8_join 31 = .ok (.aload_n 0, 1) := by decide +kernel
theorem dX8_join_32 : decode cX8_join 32 = .ok (.getfield 56, 3) := by decide +kernel
theorem dX8_join_35 : decode cX8_join 35 = .ok (.getfield 101, 3) := by decide +kernel
theorem dX8_join_38 : decode cX8_join 38 = .ok (.iload_n 2, 1) := by decide +kernel
theorem dX8_join_39 : decode cX8_join 39 = .ok (.invokevirtual 77, 3) := by decide +kernel
theorem dX8_join_42 : decode cX8_join 42 = .ok (.checkcast 104, 3) := by decide +kernel
theorem dX8_join_45 : decode cX8_join 45 = .ok (.astore_n 3, 1) := by decide +kernel
theorem dX8_join_46 : decode cX8_join 46 = .ok (.aload_n 3, 1) := by decide +kernel
theorem dX8_join_47 : decode cX8_join 47 = .ok (.getfield 124, 3) := by decide +kernel
theorem dX8_join_50 : decode cX8_join 50 = .ok (.iconst 1, 1) := by decide +kernel
theorem dX8_join_51 : decode cX8_join 51 = .ok (.if_icmp .ne 158, 3) := by decide +kernel
theorem dX8_join_54 : decode cX8_join 54 = .ok (.aload_n 3, 1) := by decide +kernel
theorem dX8_join_55 : decode cX8_join 55 = .ok (.getfield 127, 3) := by decide +kernel
theorem dX8_join_58 : decode cX8_join 58 = .ok (.getfield 110, 3) := by decide +kernel
theorem dX8_join_61 : decode cX8_join 61 = .ok (.iconst 1, 1) := by decide +kernel
theorem dX8_join_62 : decode cX8_join 62 = .ok (.if_icmp .ne 147, 3) := by decide +kernel
theorem dX8_join_65 : decode cX8_join 65 = .ok (.aload_n 3, 1) := by decide +kernel
theorem dX8_join_66 : decode cX8_join 66 = .ok (.getfield 127, 3) := by decide +kernel
theorem dX8_join_69 : decode cX8_join 69 = .ok (.aload_n 1, 1) := by decide +kernel
theorem dX8_join_70 : decode cX8_join 70 = .ok (.if_acmp .eq 139, 3) := by decide +kernel
theorem dX8_join_73 : decode cX8_join 73 = .ok (.aload_n 3, 1) := by decide +kernel
theorem dX8_join_74 : decode cX8_join 74 = .ok (.getfield 127, 3) := by decide +kernel
theorem dX8_join_77 : decode cX8_join 77 = .ok (.aload_n 3, 1) := by decide +kernel
theorem dX8_join_78 : decode cX8_join 78 = .ok (.if_acmp .eq 131, 3) := by decide +kernel
theorem dX8_join_81 : decode cX8_join 81 = .ok (.aload_n 3, 1) := by decide +kernel
theorem dX8_join_82 : decode cX8_join 82 = .ok (.getfield 127, 3) := by decide +kernel
theorem dX8_join_85 : decode cX8_join 85 = .ok (.astore 4, 2) := by decide +kernel
theorem dX8_join_87 : decode cX8_join 87 = .ok (.iconst 0, 1) := by decide +kernel
theorem dX8_join_88 : decode cX8_join 88 = .ok (.istore 5, 2) := by decide +kernel
theorem dX8_join_90 : decode cX8_join 90 = .ok (.iload 5, 2) := by decide +kernel
theorem dX8_join_92 : decode cX8_join 92 = .ok (.aload 4, 2) := by decide +kernel
theorem dX8_join_94 : decode cX8_join 94 = .ok (.getfield 153, 3) := by decide +kernel
theorem dX8_join_97 : decode cX8_join 97 = .ok (.invokevirtual 73, 3) := by decide +kernel
theorem dX8_join_100 : decode cX8_join 100 = .ok (.if_icmp .ge 30, 3) := by decide +kernel
theorem dX8_join_103 : decode cX8_join 103 = .ok (.aload_n 3, 1) := by decide +kernel
theorem dX8_join_104 : decode cX8_join 104 = .ok (.getfield 153, 3) := by decide +kernel
theorem dX8_join_107 : decode cX8_join 107 = .ok (.aload 4, 2) := by decide +kernel
theorem dX8_join_109 : decode cX8_join 109 = .ok (.getfield 153, 3) := by decide +kernel
theorem dX8_join_112 : decode cX8_join 112 = .ok (.iload 5, 2) := by decide +kernel
theorem dX8_join_114 : decode cX8_join 114 = .ok (.invokevirtual 77, 3) := by decide +kernel
theorem dX8_join_117 : decode cX8_join 117 = .ok (.checkcast 160, 3) := by decide +kernel
theorem dX8_join_120 : decode cX8_join 120 = .ok (.invokevirtual 156, 3) := by decide +kernel
theorem dX8_join_123 : decode cX8_join 123 = .ok (.pop, 1) := by decide +kernel
theorem dX8_join_124 : decode cX8_join 124 = .ok (.iinc 5 1, 3) := by decide +kernel
theorem dX8_join_127 : decode cX8_join 127 = .ok (.goto (-37), 3) := by decide +kernel
theorem dX8_join_130 : decode cX8_join 130 = .ok (.aload_n 3, 1) := by decide +kernel
theorem dX8_join_131 : decode cX8_join 131 = .ok (.aload 4, 2) := by decide +kernel
theorem dX8_join_133 : decode cX8_join 133 = .ok (.getfield 124, 3) := by decide +kernel
theorem dX8_join_136 : decode cX8_join 136 = .ok (.putfield 124, 3) := by decide +kernel
theorem dX8_join_139 : decode cX8_join 139 = .ok (.aload_n 3, 1) := by decide +kernel
theorem dX8_join_140 : decode cX8_join 140 = .ok (.aload 4, 2) := by decide +kernel
theorem dX8_join_142 : decode cX8_join 142 = .ok (.getfield 162, 3) := by decide +kernel
theorem dX8_join_145 : decode cX8_join 145 = .ok (.putfield 162, 3) := by decide +kernel
theorem dX8_join_148 : decode cX8_join 148 = .ok (.aload_n 3, 1) := by decide +kernel
theorem dX8_join_149 : decode cX8_join 149 = .ok (.aload 4, 2) := by decide +kernel
theorem dX8_join_151 : decode cX8_join 151 = .ok (.getfield 165, 3) := by decide +kernel
theorem dX8_join_154 : decode cX8_join 154 = .ok (.putfield 165, 3) := by decide +kernel
theorem dX8_join_157 : decode cX8_join 157 = .ok (.aload_n 3, 1) := by decide +kernel
theorem dX8_join_158 : decode cX8_join 158 = .ok (.aload 4, 2) := by decide +kernel
theorem dX8_join_160 : decode cX8_join 160 = .ok (.getfield 169, 3) := by decide +kernel
theorem dX8_join_163 : decode cX8_join 163 = .ok (.putfield 169, 3) := by decide +kernel
theorem dX8_join_166 : decode cX8_join 166 = .ok (.aload_n 3, 1) := by decide +kernel
theorem dX8_join_167 : decode cX8_join 167 = .ok (.aload 4, 2) := by decide +kernel
theorem dX8_join_169 : decode cX8_join 169 = .ok (.getfield 127, 3) := by decide +kernel
theorem dX8_join_172 : decode cX8_join 172 = .ok (.putfield 127, 3) := by decide +kernel
theorem dX8_join_175 : decode cX8_join 175 = .ok (.aload_n 3, 1) := by decide +kernel
theorem dX8_join_176 : decode cX8_join 176 = .ok (.aload 4, 2) := by decide +kernel
theorem dX8_join_178 : decode cX8_join 178 = .ok (.getfield 131, 3) := by decide +kernel
theorem dX8_join_181 : decode cX8_join 181 = .ok (.putfield 131, 3) := by decide +kernel
theorem dX8_join_184 : decode cX8_join 184 = .ok (.aload 4, 2) := by decide +kernel
theorem dX8_join_186 : decode cX8_join 186 = .ok (.getfield 153, 3) := by decide +kernel
theorem dX8_join_189 : decode cX8_join 189 = .ok (.invokevirtual 172, 3) := by decide +kernel
theorem dX8_join_192 : decode cX8_join 192 = .ok (.aload 4, 2) := by decide +kernel
theorem dX8_join_194 : decode cX8_join 194 = .ok (.iconst 4, 1) := by decide +kernel
theorem dX8_join_195 : decode cX8_join 195 = .ok (.lconst 0, 1) := by decide +kernel
theorem dX8_join_196 : decode cX8_join 196 = .ok (.aconst_null, 1) := by decide +kernel
theorem dX8_join_197 : decode cX8_join 197 = .ok (.invokevirtual 175, 3) := by decide +kernel
theorem dX8_join_200 : decode cX8_join 200 = .ok (.aload 4, 2) := by decide +kernel
theorem dX8_join_202 : decode cX8_join 202 = .ok (.iconst 0, 1) := by decide +kernel
theorem dX8_join_203 : decode cX8_join 203 = .ok (.putfield 110, 3) := by decide +kernel
theorem dX8_join_206 : decode cX8_join 206 = .ok (.goto (-160), 3) := by decide +kernel
theorem dX8_join_209 : decode cX8_join 209 = .ok (.iinc 2 1, 3) := by decide +kernel
theorem dX8_join_212 : decode cX8_join 212 = .ok (.goto (-195), 3) := by decide +kernel
theorem dX8_join_215 : decode cX8_join 215 = .ok (.return_, 1) := by decide +kernel
theorem dX8_useless_0 : decode cX8_useless 0 = .ok (.aload_n 0, 1) := by decide +kernel
theorem dX8_useless_1 : decode cX8_useless 1 = .ok (.getfield 52, 3) := by decide +kernel
theorem dX8_useless_4 : decode cX8_useless 4 = .ok (.aload_n 0, 1) := by decide +kernel
theorem dX8_useless_5 : decode cX8_useless 5 = .ok (.getfield 56, 3) := by decide +kernel
theorem dX8_useless_8 : decode cX8_useless 8 = .ok (.invokevirtual 410, 3) := by decide +kernel
theorem dX8_useless_11 : decode cX8_useless 11 = .ok (.iconst 0, 1) := by decide +kernel
theorem dX8_useless_12 : decode cX8_useless 12 = .ok (.istore_n 1, 1) := by decide +kernel
theorem dX8_useless_13 : decode cX8_useless 13 = .ok (.iload_n 1, 1) := by decide +kernel
theorem dX8_useless_14 : decode cX8_useless 14 = .ok (.aload_n 0, 1) := by decide +kernel
theorem dX8_useless_15 : decode cX8_useless 15 = .ok (.getfield 56, 3) := by decide +kernel
theorem dX8_useless_18 : decode cX8_useless 18 = .ok (.getfield 101, 3) := by decide +kernel
theorem dX8_useless_21 : decode cX8_useless 21 = .ok (.invokevirtual 73, 3) := by decide +kernel
theorem dX8_useless_24 : decode cX8_useless 24 = .ok (.if_icmp .ge 233, 3) := by decide +kernel
theorem dX8_useless_27 : decode cX8_useless 27 = .ok (.aload_n 0, 1) := by decide +kernel
theorem dX8_useless_28 : decode cX8_useless 28 = .ok (.getfield 56, 3) := by decide +kernel
theorem dX8_useless_31 : decode cX8_useless 31 = .ok (.getfield 101, 3) := by decide +kernel
theorem dX8_useless_34 : decode cX8_useless 34 = .ok (.iload_n 1, 1) := by decide +kernel
theorem dX8_useless_35 : decode cX8_useless 35 = .ok (.invokevirtual 77, 3) := by decide +kernel
theorem dX8_useless_38 : decode cX8_useless 38 = .ok (.checkcast 104, 3) := by decide +kernel
theorem dX8_useless_41 : decode cX8_useless 41 = .ok (.astore_n 2, 1) := by decide +kernel
theorem dX8_useless_42 : decode cX8_useless 42 = .ok (.aload_n 0, 1) := by decide +kernel
theorem dX8_useless_43 : decode cX8_useless 43 = .ok (.getfield 52, 3) := by decide +kernel
theorem dX8_useless_46 : decode cX8_useless 46 = .ok (.aload_n 2, 1) := by decide +kernel
theorem dX8_useless_47 : decode cX8_useless 47 = .ok (.invokevirtual 416, 3) := by decide +kernel
theorem dX8_useless_50 : decode cX8_useless 50 = .ok (.aload_n 2, 1) := by decide +kernel
theorem dX8_useless_51 : decode cX8_useless 51 = .ok (.getfield 153, 3) := by decide +kernel
theorem dX8_useless_54 : decode cX8_useless 54 = .ok (.invokevirtual 73, 3) := by decide +kernel
theorem dX8_useless_57 : decode cX8_useless 57 = .ok (.iconst 1, 1) := by decide +kernel
theorem dX8_useless_58 : decode cX8_useless 58 = .ok (.isub, 1) := by decide +kernel
theorem dX8_useless_59 : decode cX8_useless 59 = .ok (.istore_n 3, 1) := by decide +kernel
theorem dX8_useless_60 : decode cX8_useless 60 = .ok (.iload_n 3, 1) := by decide +kernel
theorem dX8_useless_61 : decode cX8_useless 61 = .ok (.ifCond .lt 114, 3) := by decide +kernel
theorem dX8_useless_64 : decode cX8_useless 64 = .ok (.aload_n 2, 1) := by decide +kernel
theorem dX8_useless_65 : decode cX8_useless 65 = .ok (.getfield 153, 3) := by decide +kernel
theorem dX8_useless_68 : decode cX8_useless 68 = .ok (.iload_n 3, 1) := by decide +kernel
theorem dX8_useless_69 : decode cX8_useless 69 = .ok (.invokevirtual 77, 3) := by decide +kernel
theorem dX8_useless_72 : decode cX8_useless 72 = .ok (.checkcast 160, 3) := by decide +kernel
theorem dX8_useless_75 : decode cX8_useless 75 = .ok (.astore 4, 2) := by decide +kernel
theorem dX8_useless_77 : decode cX8_useless 77 = .ok (.aload 4, 2) := by decide +kernel
theorem dX8_useless_79 : decode cX8_useless 79 = .ok (.getfield 209, 3) := by decide +kernel
theorem dX8_useless_82 : decode cX8_useless 82 = .ok (.ifCond .lt 22, 3) := by decide +kernel
theorem dX8_useless_85 : decode cX8_useless 85 = .ok (.aload_n 0, 1) := by decide +kernel
theorem dX8_useless_86 : decode cX8_useless 86 = .ok (.getfield 52, 3) := by decide +kernel
theorem dX8_useless_89 : decode cX8_useless 89 = .ok (.aload 4, 2) := by decide +kernel
theorem dX8_useless_91 : decode cX8_useless 91 = .ok (.getfield 209, 3) := by decide +kernel
theorem dX8_useless_94 : decode cX8_useless 94 = .ok (.invokevirtual 418, 3) := by decide +kernel
theorem dX8_useless_97 : decode cX8_useless 97 = .ok (.ifCond .eq 7, 3) := by decide +kernel
theorem dX8_useless_100 : decode cX8_useless 100 = .ok (.iconst 1, 1) := by decide +kernel
theorem dX8_useless_101 : decode cX8_useless 101 = .ok (.goto 4, 3) := by decide +kernel
theorem dX8_useless_104 : decode cX8_useless 104 = .ok (.iconst 0, 1) := by decide +kernel
theorem dX8_useless_105 : decode cX8_useless 105 = .ok (.istore 5, 2) := by decide +kernel
theorem dX8_useless_107 : decode cX8_useless 107 = .ok (.aload 4, 2) := by decide +kernel
theorem dX8_useless_109 : decode cX8_useless 109 = .ok (.iload 5, 2) := by decide +kernel
theorem dX8_useless_111 : decode cX8_useless 111 = .ok (.ifCond .ne 11, 3) := by decide +kernel
theorem dX8_useless_114 : decode cX8_useless 114 = .ok (.aload 4, 2) := by decide +kernel
theorem dX8_useless_116 : decode cX8_useless 116 = .ok (.invokevirtual 421, 3) := by decide +kernel
theorem dX8_useless_119 : decode cX8_useless 119 = .ok (.ifCond .ne 7, 3) := by decide +kernel
theorem dX8_useless_122 : decode cX8_useless 122 = .ok (.iconst 1, 1) := by decide +kernel
theorem dX8_useless_123 : decode cX8_useless 123 = .ok (.goto 4, 3) := by decide +kernel
theorem dX8_useless_126 : decode cX8_useless 126 = .ok (.iconst 0, 1) := by decide +kernel
theorem dX8_useless_127 : decode cX8_useless 127 = .ok (.putfield 424, 3) := by decide +kernel
theorem dX8_useless_130 : decode cX8_useless 130 = .ok (.aload 4, 2) := by decide +kernel
theorem dX8_useless_132 : decode cX8_useless 132 = .ok (.getfield 424, 3) := by decide +kernel
theorem dX8_useless_135 : decode cX8_useless 135 = .ok (.ifCond .ne 6, 3) := by decide +kernel
theorem dX8_useless_138 : decode cX8_useless 138 = .ok (.goto 31, 3) := by decide +kernel
theorem dX8_useless_141 : decode cX8_useless 141 = .ok (.aload 4, 2) := by decide +kernel
theorem dX8_useless_143 : decode cX8_useless 143 = .ok (.getfield 209, 3) := by decide +kernel
theorem dX8_useless_146 : decode cX8_useless 146 = .ok (.ifCond .lt 14, 3) := by decide +kernel
theorem dX8_useless_149 : decode cX8_useless 149 = .ok (.iload 5, 2) := by decide +kernel
theorem dX8_useless_151 : decode cX8_useless 151 = .ok (.ifCond .ne 9, 3) := by decide +kernel
theorem dX8_useless_154 : decode cX8_useless 154 = .ok (.aload 4, 2) := by decide +kernel
theorem dX8_useless_156 : decode cX8_useless 156 = .ok (.iconst (-1), 1) := by decide +kernel
theorem dX8_useless_157 : decode cX8_useless 157 = .ok (.putfield 209, 3) := by decide +kernel
theorem dX8_useless_160 : decode cX8_useless 160 = .ok (.aload_n 0, 1) := by decide +kernel
theorem dX8_useless_161 : decode cX8_useless 161 = .ok (.getfield 52, 3) := by decide +kernel
theorem dX8_useless_164 : decode cX8_useless 164 = .ok (.aload 4, 2) := by decide +kernel
theorem dX8_useless_166 : decode cX8_useless 166 = .ok (.invokevirtual 427, 3) := by decide +kernel
theorem dX8_useless_169 : decode cX8_useless 169 = .ok (.iinc 3 (-1), 3) := by decide +kernel
theorem dX8_useless_172 : decode cX8_useless 172 = .ok (.goto (-112), 3) := by decide +kernel
theorem dX8_useless_175 : decode cX8_useless 175 = .ok (.iconst 0, 1) := by decide +kernel
theorem dX8_useless_176 : decode cX8_useless 176 = .ok (.istore_n 3, 1) := by decide +kernel
theorem dX8_useless_177 : decode cX8_useless 177 = .ok (.iconst 0, 1) := by decide +kernel
theorem dX8_useless_178 : decode cX8_useless 178 = .ok (.istore 4, 2) := by decide +kernel
theorem dX8_useless_180 : decode cX8_useless 180 = .ok (.iload 4, 2) := by decide +kernel
theorem dX8_useless_182 : decode cX8_useless 182 = .ok (.aload_n 2, 1) := by decide +kernel
theorem dX8_useless_183 : decode cX8_useless 183 = .ok (.getfield 153, 3) := by decide +kernel
theorem dX8_useless_186 : decode cX8_useless 186 = .ok (.invokevirtual 73, 3) := by decide +kernel
theorem dX8_useless_189 : decode cX8_useless 189 = .ok (.if_icmp .ge 54, 3) := by decide +kernel
theorem dX8_useless_192 : decode cX8_useless 192 = .ok (.aload_n 2, 1) := by decide +kernel
theorem dX8_useless_193 : decode cX8_useless 193 = .ok (.getfield 153, 3) := by decide +kernel
theorem dX8_useless_196 : decode cX8_useless 196 = .ok (.iload 4, 2) := by decide +kernel
theorem dX8_useless_198 : decode cX8_useless 198 = .ok (.invokevirtual 77, 3) := by decide +kernel
theorem dX8_useless_201 : decode cX8_useless 201 = .ok (.checkcast 160, 3) := by decide +kernel
theorem dX8_useless_204 : decode cX8_useless 204 = .ok (.getfield 424, 3) := by decide +kernel
theorem dX8_useless_207 : decode cX8_useless 207 = .ok (.ifCond .ne 6, 3) := by decide +kernel
theorem dX8_useless_210 : decode cX8_useless 210 = .ok (.goto 27, 3) := by decide +kernel
theorem dX8_useless_213 : decode cX8_useless 213 = .ok (.aload_n 2, 1) := by decide +kernel
theorem dX8_useless_214 : decode cX8_useless 214 = .ok (.getfield 153, 3) := by decide +kernel
theorem dX8_useless_217 : decode cX8_useless 217 = .ok (.iload_n 3, 1) := by decide +kernel
theorem dX8_useless_218 : decode cX8_useless 218 = .ok (.aload_n 2, 1) := by decide +kernel
theorem dX8_useless_219 : decode cX8_useless 219 = .ok (.getfield 153, 3) := by decide +kernel
theorem dX8_useless_222 : decode cX8_useless 222 = .ok (.iload 4, 2) := by decide +kernel
theorem dX8_useless_224 : decode cX8_useless 224 = .ok (.invokevirtual 77, 3) := by decide +kernel
theorem dX8_useless_227 : decode cX8_useless 227 = .ok (.checkcast 160, 3) := by decide +kernel
theorem dX8_useless_230 : decode cX8_useless 230 = .ok (.invokevirtual 145, 3) := by decide +kernel
theorem dX8_useless_233 : decode cX8_useless 233 = .ok (.pop, 1) := by decide +kernel
theorem dX8_useless_234 : decode cX8_useless 234 = .ok (.iinc 3 1, 3) := by decide +kernel
theorem dX8_useless_237 : decode cX8_useless 237 = .ok (.iinc 4 1, 3) := by decide +kernel
theorem dX8_useless_240 : decode cX8_useless 240 = .ok (.goto (-60), 3) := by decide +kernel
theorem dX8_useless_243 : decode cX8_useless 243 = .ok (.aload_n 2, 1) := by decide +kernel
theorem dX8_useless_244 : decode cX8_useless 244 = .ok (.getfield 153, 3) := by decide +kernel
theorem dX8_useless_247 : decode cX8_useless 247 = .ok (.iload_n 3, 1) := by decide +kernel
theorem dX8_useless_248 : decode cX8_useless 248 = .ok (.invokestatic 149, 3) := by decide +kernel
theorem dX8_useless_251 : decode cX8_useless 251 = .ok (.iinc 1 1, 3) := by decide +kernel
theorem dX8_useless_254 : decode cX8_useless 254 = .ok (.goto (-241), 3) := by decide +kernel
theorem dX8_useless_257 : decode cX8_useless 257 = .ok (.return_, 1) := by decide +kernel
