/-! names: X10_check X10_call X10_turn X10_zero X10_end (tools/chunk.py) -/
set_option maxRecDepth 100000
theorem q2817 : (Jvm.Cond.methodLink "CompiledHouse$Layer" (257 : Nat) ({ cls := "CompiledHouse$Words", name := "branchWord", desc := "(III)I" } : Jvm.MethodName)) ∈ lw_all := lw_g (lw_at lw_m11 221 rfl) rfl
theorem lk_X10_257 : xLk RX10 257 yX9_branchWord := Or.inl q2817
theorem q2820 : (Jvm.Cond.methodLink "CompiledHouse$Layer" (261 : Nat) ({ cls := "CompiledHouse$Words", name := "add", desc := "(I)V" } : Jvm.MethodName)) ∈ lw_all := lw_g (lw_at lw_m11 224 rfl) rfl
theorem lk_X10_261 : xLk RX10 261 yX9_add := Or.inl q2820
theorem q2822 : (Jvm.Cond.methodLink "CompiledHouse$Layer" (264 : Nat) ({ cls := "CompiledHouse$Words", name := "over", desc := "(I)V" } : Jvm.MethodName)) ∈ lw_all := lw_g (lw_at lw_m11 226 rfl) rfl
theorem lk_X10_264 : xLk RX10 264 yX9_over := Or.inl q2822
theorem q1941 : (Jvm.Cond.fieldLinkNest "CompiledHouse$Layer" (267 : Nat) "CompiledHouse$Act" "told" "LCompiledHouse$Told;" "CompiledHouse") ∈ lw_tbl := lw_at lw_m8 65 rfl
theorem f_X10_267_35 : xF RX10 267 35 8 := ⟨_, "CompiledHouse$Act", rfl, by decide, Or.inr ⟨_, q1941⟩, Or.inl rfl⟩
theorem q1141 : (Jvm.Cond.fieldLinkNest "CompiledHouse$Layer" (268 : Nat) "CompiledHouse$Told" "measure" "I" "CompiledHouse") ∈ lw_tbl := lw_at lw_m4 225 rfl
theorem f_X10_268_13 : xF RX10 268 13 12 := ⟨_, "CompiledHouse$Told", rfl, by decide, Or.inr ⟨_, q1141⟩, Or.inl rfl⟩
theorem q1946 : (Jvm.Cond.fieldLinkNest "CompiledHouse$Layer" (271 : Nat) "CompiledHouse$Act" "args" "[J" "CompiledHouse") ∈ lw_tbl := lw_at lw_m8 70 rfl
theorem f_X10_271_35 : xF RX10 271 35 9 := ⟨_, "CompiledHouse$Act", rfl, by decide, Or.inr ⟨_, q1946⟩, Or.inl rfl⟩
theorem q2837 : (Jvm.Cond.methodLink "CompiledHouse$Layer" (275 : Nat) ({ cls := "CompiledHouse$Words", name := "add", desc := "(II)V" } : Jvm.MethodName)) ∈ lw_all := lw_g (lw_at lw_m12 1 rfl) rfl
theorem lk_X10_275 : xLk RX10 275 yX9_add_2 := Or.inl q2837
theorem q1710 : (Jvm.Cond.fieldLinkNest "CompiledHouse$Layer" (277 : Nat) "CompiledHouse$Symbol" "isByte" "Z" "CompiledHouse") ∈ lw_tbl := lw_at lw_m7 74 rfl
theorem f_X10_277_32 : xF RX10 277 32 3 := ⟨_, "CompiledHouse$Symbol", rfl, by decide, Or.inr ⟨_, q1710⟩, Or.inl rfl⟩
theorem q1714 : (Jvm.Cond.fieldLinkNest "CompiledHouse$Layer" (280 : Nat) "CompiledHouse$Symbol" "size" "I" "CompiledHouse") ∈ lw_tbl := lw_at lw_m7 78 rfl
theorem f_X10_280_32 : xF RX10 280 32 4 := ⟨_, "CompiledHouse$Symbol", rfl, by decide, Or.inr ⟨_, q1714⟩, Or.inl rfl⟩
theorem q2842 : (Jvm.Cond.methodLinkNest "CompiledHouse$Layer" (282 : Nat) ({ cls := "CompiledHouse", name := "wordsOf", desc := "(ZI)I" } : Jvm.MethodName) "CompiledHouse") ∈ lw_tbl := lw_at lw_m12 6 rfl
theorem lk_X10_282 : xLk RX10 282 yX0_wordsOf := Or.inr ⟨_, q2842⟩
theorem q2843 : (Jvm.Cond.methodLinkNest "CompiledHouse$Layer" (286 : Nat) ({ cls := "CompiledHouse$Words", name := "branch", desc := "(I)I" } : Jvm.MethodName) "CompiledHouse") ∈ lw_tbl := lw_at lw_m12 7 rfl
theorem lk_X10_286 : xLk RX10 286 yX9_branch := Or.inr ⟨_, q2843⟩
theorem q1802 : (Jvm.Cond.fieldLinkNest "CompiledHouse$Layer" (289 : Nat) "CompiledHouse$Block" "end" "I" "CompiledHouse") ∈ lw_tbl := lw_at lw_m7 166 rfl
theorem f_X10_289_34 : xF RX10 289 34 1 := ⟨_, "CompiledHouse$Block", rfl, by decide, Or.inr ⟨_, q1802⟩, Or.inl rfl⟩
theorem q1817 : (Jvm.Cond.fieldLinkNest "CompiledHouse$Layer" (291 : Nat) "CompiledHouse$Block" "yes" "LCompiledHouse$Block;" "CompiledHouse") ∈ lw_tbl := lw_at lw_m7 181 rfl
theorem f_X10_291_34 : xF RX10 291 34 5 := ⟨_, "CompiledHouse$Block", rfl, by decide, Or.inr ⟨_, q1817⟩, Or.inl rfl⟩
theorem q1804 : (Jvm.Cond.fieldLinkNest "CompiledHouse$Layer" (295 : Nat) "CompiledHouse$Block" "act" "I" "CompiledHouse") ∈ lw_tbl := lw_at lw_m7 168 rfl
theorem f_X10_295_34 : xF RX10 295 34 2 := ⟨_, "CompiledHouse$Block", rfl, by decide, Or.inr ⟨_, q1804⟩, Or.inl rfl⟩
theorem q1809 : (Jvm.Cond.fieldLinkNest "CompiledHouse$Layer" (296 : Nat) "CompiledHouse$Block" "a" "J" "CompiledHouse") ∈ lw_tbl := lw_at lw_m7 173 rfl
theorem f_X10_296_34 : xF RX10 296 34 3 := ⟨_, "CompiledHouse$Block", rfl, by decide, Or.inr ⟨_, q1809⟩, Or.inl rfl⟩
theorem q1812 : (Jvm.Cond.fieldLinkNest "CompiledHouse$Layer" (297 : Nat) "CompiledHouse$Block" "b" "J" "CompiledHouse") ∈ lw_tbl := lw_at lw_m7 176 rfl
theorem f_X10_297_34 : xF RX10 297 34 4 := ⟨_, "CompiledHouse$Block", rfl, by decide, Or.inr ⟨_, q1812⟩, Or.inl rfl⟩
theorem q1821 : (Jvm.Cond.fieldLinkNest "CompiledHouse$Layer" (298 : Nat) "CompiledHouse$Block" "no" "LCompiledHouse$Block;" "CompiledHouse") ∈ lw_tbl := lw_at lw_m7 185 rfl
theorem f_X10_298_34 : xF RX10 298 34 6 := ⟨_, "CompiledHouse$Block", rfl, by decide, Or.inr ⟨_, q1821⟩, Or.inl rfl⟩
theorem q2848 : (Jvm.Cond.constant "CompiledHouse$Layer" (301 : Nat) (32871 : Int32)) ∈ lw_all := lw_g (lw_at lw_m12 12 rfl) rfl
theorem dX10_check_0 : decode cX10_check 0 = .ok (.aload_n 0, 1) := by decide +kernel
theorem dX10_check_1 : decode cX10_check 1 = .ok (.aload_n 1, 1) := by decide +kernel
theorem dX10_check_2 : decode cX10_check 2 = .ok (.getfield 189, 3) := by decide +kernel
theorem dX10_check_5 : decode cX10_check 5 = .ok (.bipush 30, 2) := by decide +kernel
theorem dX10_check_7 : decode cX10_check 7 = .ok (.invokevirtual 172, 3) := by decide +kernel
theorem dX10_check_10 : decode cX10_check 10 = .ok (.istore_n 2, 1) := by decide +kernel
theorem dX10_check_11 : decode cX10_check 11 = .ok (.aload_n 0, 1) := by decide +kernel
theorem dX10_check_12 : decode cX10_check 12 = .ok (.aload_n 1, 1) := by decide +kernel
theorem dX10_check_13 : decode cX10_check 13 = .ok (.getfield 229, 3) := by decide +kernel
theorem dX10_check_16 : decode cX10_check 16 = .ok (.bipush 31, 2) := by decide +kernel
theorem dX10_check_18 : decode cX10_check 18 = .ok (.invokevirtual 172, 3) := by decide +kernel
theorem dX10_check_21 : decode cX10_check 21 = .ok (.istore_n 3, 1) := by decide +kernel
theorem dX10_check_22 : decode cX10_check 22 = .ok (.aload_n 0, 1) := by decide +kernel
theorem dX10_check_23 : decode cX10_check 23 = .ok (.getfield 15, 3) := by decide +kernel
theorem dX10_check_26 : decode cX10_check 26 = .ok (.getfield 110, 3) := by decide +kernel
theorem dX10_check_29 : decode cX10_check 29 = .ok (.istore 4, 2) := by decide +kernel
theorem dX10_check_31 : decode cX10_check 31 = .ok (.aload_n 0, 1) := by decide +kernel
theorem dX10_check_32 : decode cX10_check 32 = .ok (.getfield 15, 3) := by decide +kernel
theorem dX10_check_35 : decode cX10_check 35 = .ok (.bipush 6, 2) := by decide +kernel
theorem dX10_check_37 : decode cX10_check 37 = .ok (.iload_n 2, 1) := by decide +kernel
theorem dX10_check_38 : decode cX10_check 38 = .ok (.iload_n 3, 1) := by decide +kernel
theorem dX10_check_39 : decode cX10_check 39 = .ok (.invokestatic 257, 3) := by decide +kernel
theorem dX10_check_42 : decode cX10_check 42 = .ok (.invokevirtual 261, 3) := by decide +kernel
theorem dX10_check_45 : decode cX10_check 45 = .ok (.aload_n 0, 1) := by decide +kernel
theorem dX10_check_46 : decode cX10_check 46 = .ok (.getfield 15, 3) := by decide +kernel
theorem dX10_check_49 : decode cX10_check 49 = .ok (.bipush 10, 2) := by decide +kernel
theorem dX10_check_51 : decode cX10_check 51 = .ok (.aload_n 1, 1) := by decide +kernel
theorem dX10_check_52 : decode cX10_check 52 = .ok (.getfield 226, 3) := by decide +kernel
theorem dX10_check_55 : decode cX10_check 55 = .ok (.invokevirtual 135, 3) := by decide +kernel
theorem dX10_check_58 : decode cX10_check 58 = .ok (.aload_n 0, 1) := by decide +kernel
theorem dX10_check_59 : decode cX10_check 59 = .ok (.getfield 15, 3) := by decide +kernel
theorem dX10_check_62 : decode cX10_check 62 = .ok (.iconst 5, 1) := by decide +kernel
theorem dX10_check_63 : decode cX10_check 63 = .ok (.invokevirtual 215, 3) := by decide +kernel
theorem dX10_check_66 : decode cX10_check 66 = .ok (.aload_n 0, 1) := by decide +kernel
theorem dX10_check_67 : decode cX10_check 67 = .ok (.getfield 15, 3) := by decide +kernel
theorem dX10_check_70 : decode cX10_check 70 = .ok (.iload 4, 2) := by decide +kernel
theorem dX10_check_72 : decode cX10_check 72 = .ok (.invokevirtual 264, 3) := by decide +kernel
theorem dX10_check_75 : decode cX10_check 75 = .ok (.return_, 1) := by decide +kernel
theorem dX10_call_0 : decode cX10_call 0 = .ok (.aload_n 0, 1) := by decide +kernel
theorem dX10_call_1 : decode cX10_call 1 = .ok (.invokevirtual 212, 3) := by decide +kernel
theorem dX10_call_4 : decode cX10_call 4 = .ok (.aload_n 1, 1) := by decide +kernel
theorem dX10_call_5 : decode cX10_call 5 = .ok (.getfield 267, 3) := by decide +kernel
theorem dX10_call_8 : decode cX10_call 8 = .ok (.getfield 268, 3) := by decide +kernel
theorem dX10_call_11 : decode cX10_call 11 = .ok (.istore_n 2, 1) := by decide +kernel
theorem dX10_call_12 : decode cX10_call 12 = .ok (.aload_n 0, 1) := by decide +kernel
theorem dX10_call_13 : decode cX10_call 13 = .ok (.getfield 15, 3) := by decide +kernel
theorem dX10_call_16 : decode cX10_call 16 = .ok (.iconst 0, 1) := by decide +kernel
theorem dX10_call_17 : decode cX10_call 17 = .ok (.bipush 30, 2) := by decide +kernel
theorem dX10_call_19 : decode cX10_call 19 = .ok (.bipush 27, 2) := by decide +kernel
theorem dX10_call_21 : decode cX10_call 21 = .ok (.iload_n 2, 1) := by decide +kernel
theorem dX10_call_22 : decode cX10_call 22 = .ok (.invokevirtual 131, 3) := by decide +kernel
theorem dX10_call_25 : decode cX10_call 25 = .ok (.aload_n 0, 1) := by decide +kernel
theorem dX10_call_26 : decode cX10_call 26 = .ok (.getfield 15, 3) := by decide +kernel
theorem dX10_call_29 : decode cX10_call 29 = .ok (.getfield 110, 3) := by decide +kernel
theorem dX10_call_32 : decode cX10_call 32 = .ok (.istore_n 3, 1) := by decide +kernel
theorem dX10_call_33 : decode cX10_call 33 = .ok (.aload_n 0, 1) := by decide +kernel
theorem dX10_call_34 : decode cX10_call 34 = .ok (.getfield 15, 3) := by decide +kernel
theorem dX10_call_37 : decode cX10_call 37 = .ok (.iconst 5, 1) := by decide +kernel
theorem dX10_call_38 : decode cX10_call 38 = .ok (.iconst 4, 1) := by decide +kernel
theorem dX10_call_39 : decode cX10_call 39 = .ok (.bipush 30, 2) := by decide +kernel
theorem dX10_call_41 : decode cX10_call 41 = .ok (.invokestatic 257, 3) := by decide +kernel
theorem dX10_call_44 : decode cX10_call 44 = .ok (.invokevirtual 261, 3) := by decide +kernel
theorem dX10_call_47 : decode cX10_call 47 = .ok (.aload_n 0, 1) := by decide +kernel
theorem dX10_call_48 : decode cX10_call 48 = .ok (.getfield 15, 3) := by decide +kernel
theorem dX10_call_51 : decode cX10_call 51 = .ok (.bipush 10, 2) := by decide +kernel
theorem dX10_call_53 : decode cX10_call 53 = .ok (.aload_n 1, 1) := by decide +kernel
theorem dX10_call_54 : decode cX10_call 54 = .ok (.getfield 226, 3) := by decide +kernel
theorem dX10_call_57 : decode cX10_call 57 = .ok (.invokevirtual 135, 3) := by decide +kernel
theorem dX10_call_60 : decode cX10_call 60 = .ok (.aload_n 0, 1) := by decide +kernel
theorem dX10_call_61 : decode cX10_call 61 = .ok (.getfield 15, 3) := by decide +kernel
theorem dX10_call_64 : decode cX10_call 64 = .ok (.bipush 6, 2) := by decide +kernel
theorem dX10_call_66 : decode cX10_call 66 = .ok (.invokevirtual 215, 3) := by decide +kernel
theorem dX10_call_69 : decode cX10_call 69 = .ok (.aload_n 0, 1) := by decide +kernel
theorem dX10_call_70 : decode cX10_call 70 = .ok (.getfield 15, 3) := by decide +kernel
theorem dX10_call_73 : decode cX10_call 73 = .ok (.iload_n 3, 1) := by decide +kernel
theorem dX10_call_74 : decode cX10_call 74 = .ok (.invokevirtual 264, 3) := by decide +kernel
theorem dX10_call_77 : decode cX10_call 77 = .ok (.aload_n 0, 1) := by decide +kernel
theorem dX10_call_78 : decode cX10_call 78 = .ok (.getfield 15, 3) := by decide +kernel
theorem dX10_call_81 : decode cX10_call 81 = .ok (.bipush 27, 2) := by decide +kernel
theorem dX10_call_83 : decode cX10_call 83 = .ok (.bipush 30, 2) := by decide +kernel
theorem dX10_call_85 : decode cX10_call 85 = .ok (.invokevirtual 176, 3) := by decide +kernel
theorem dX10_call_88 : decode cX10_call 88 = .ok (.iconst 0, 1) := by decide +kernel
theorem dX10_call_89 : decode cX10_call 89 = .ok (.istore 4, 2) := by decide +kernel
theorem dX10_call_91 : decode cX10_call 91 = .ok (.iload 4, 2) := by decide +kernel
theorem dX10_call_93 : decode cX10_call 93 = .ok (.aload_n 1, 1) := by decide +kernel
theorem dX10_call_94 : decode cX10_call 94 = .ok (.getfield 271, 3) := by decide +kernel
theorem dX10_call_97 : decode cX10_call 97 = .ok (.arraylength, 1) := by decide +kernel
theorem dX10_call_98 : decode cX10_call 98 = .ok (.if_icmp .ge 25, 3) := by decide +kernel
theorem dX10_call_101 : decode cX10_call 101 = .ok (.aload_n 0, 1) := by decide +kernel
theorem dX10_call_102 : decode cX10_call 102 = .ok (.aload_n 1, 1) := by decide +kernel
theorem dX10_call_103 : decode cX10_call 103 = .ok (.getfield 271, 3) := by decide +kernel
theorem dX10_call_106 : decode cX10_call 106 = .ok (.iload 4, 2) := by decide +kernel
theorem dX10_call_108 : decode cX10_call 108 = .ok (.laload, 1) := by decide +kernel
theorem dX10_call_109 : decode cX10_call 109 = .ok (.bipush 10, 2) := by decide +kernel
theorem dX10_call_111 : decode cX10_call 111 = .ok (.iload 4, 2) := by decide +kernel
theorem dX10_call_113 : decode cX10_call 113 = .ok (.iadd, 1) := by decide +kernel
theorem dX10_call_114 : decode cX10_call 114 = .ok (.invokevirtual 196, 3) := by decide +kernel
theorem dX10_call_117 : decode cX10_call 117 = .ok (.iinc 4 1, 3) := by decide +kernel
theorem dX10_call_120 : decode cX10_call 120 = .ok (.goto (-29), 3) := by decide +kernel
theorem dX10_call_123 : decode cX10_call 123 = .ok (.aload_n 0, 1) := by decide +kernel
theorem dX10_call_124 : decode cX10_call 124 = .ok (.getfield 15, 3) := by decide +kernel
theorem dX10_call_127 : decode cX10_call 127 = .ok (.sipush 239, 3) := by decide +kernel
theorem dX10_call_130 : decode cX10_call 130 = .ok (.aload_n 0, 1) := by decide +kernel
theorem dX10_call_131 : decode cX10_call 131 = .ok (.getfield 9, 3) := by decide +kernel
theorem dX10_call_134 : decode cX10_call 134 = .ok (.aload_n 1, 1) := by decide +kernel
theorem dX10_call_135 : decode cX10_call 135 = .ok (.getfield 267, 3) := by decide +kernel
theorem dX10_call_138 : decode cX10_call 138 = .ok (.getfield 107, 3) := by decide +kernel
theorem dX10_call_141 : decode cX10_call 141 = .ok (.iaload, 1) := by decide +kernel
theorem dX10_call_142 : decode cX10_call 142 = .ok (.invokevirtual 275, 3) := by decide +kernel
theorem dX10_call_145 : decode cX10_call 145 = .ok (.aload_n 0, 1) := by decide +kernel
theorem dX10_call_146 : decode cX10_call 146 = .ok (.getfield 15, 3) := by decide +kernel
theorem dX10_call_149 : decode cX10_call 149 = .ok (.iconst 0, 1) := by decide +kernel
theorem dX10_call_150 : decode cX10_call 150 = .ok (.bipush 27, 2) := by decide +kernel
theorem dX10_call_152 : decode cX10_call 152 = .ok (.bipush 27, 2) := by decide +kernel
theorem dX10_call_154 : decode cX10_call 154 = .ok (.iload_n 2, 1) := by decide +kernel
theorem dX10_call_155 : decode cX10_call 155 = .ok (.ineg, 1) := by decide +kernel
theorem dX10_call_156 : decode cX10_call 156 = .ok (.invokevirtual 131, 3) := by decide +kernel
theorem dX10_call_159 : decode cX10_call 159 = .ok (.aload_n 1, 1) := by decide +kernel
theorem dX10_call_160 : decode cX10_call 160 = .ok (.getfield 186, 3) := by decide +kernel
theorem dX10_call_163 : decode cX10_call 163 = .ok (.ifCond .lt 13, 3) := by decide +kernel
theorem dX10_call_166 : decode cX10_call 166 = .ok (.aload_n 0, 1) := by decide +kernel
theorem dX10_call_167 : decode cX10_call 167 = .ok (.aload_n 1, 1) := by decide +kernel
theorem dX10_call_168 : decode cX10_call 168 = .ok (.getfield 186, 3) := by decide +kernel
theorem dX10_call_171 : decode cX10_call 171 = .ok (.bipush 10, 2) := by decide +kernel
theorem dX10_call_173 : decode cX10_call 173 = .ok (.invokevirtual 200, 3) := by decide +kernel
theorem dX10_call_176 : decode cX10_call 176 = .ok (.return_, 1) := by decide +kernel
theorem dX10_turn_0 : decode cX10_turn 0 = .ok (.aload_n 0, 1) := by decide +kernel
theorem dX10_turn_1 : decode cX10_turn 1 = .ok (.getfield 15, 3) := by decide +kernel
theorem dX10_turn_4 : decode cX10_turn 4 = .ok (.iconst 0, 1) := by decide +kernel
theorem dX10_turn_5 : decode cX10_turn 5 = .ok (.bipush 26, 2) := by decide +kernel
theorem dX10_turn_7 : decode cX10_turn 7 = .ok (.bipush 26, 2) := by decide +kernel
theorem dX10_turn_9 : decode cX10_turn 9 = .ok (.iconst (-1), 1) := by decide +kernel
theorem dX10_turn_10 : decode cX10_turn 10 = .ok (.invokevirtual 131, 3) := by decide +kernel
theorem dX10_turn_13 : decode cX10_turn 13 = .ok (.aload_n 0, 1) := by decide +kernel
theorem dX10_turn_14 : decode cX10_turn 14 = .ok (.getfield 15, 3) := by decide +kernel
theorem dX10_turn_17 : decode cX10_turn 17 = .ok (.getfield 110, 3) := by decide +kernel
theorem dX10_turn_20 : decode cX10_turn 20 = .ok (.istore_n 1, 1) := by decide +kernel
theorem dX10_turn_21 : decode cX10_turn 21 = .ok (.aload_n 0, 1) := by decide +kernel
theorem dX10_turn_22 : decode cX10_turn 22 = .ok (.getfield 15, 3) := by decide +kernel
theorem dX10_turn_25 : decode cX10_turn 25 = .ok (.iconst 5, 1) := by decide +kernel
theorem dX10_turn_26 : decode cX10_turn 26 = .ok (.bipush 26, 2) := by decide +kernel
theorem dX10_turn_28 : decode cX10_turn 28 = .ok (.iconst 0, 1) := by decide +kernel
theorem dX10_turn_29 : decode cX10_turn 29 = .ok (.invokestatic 257, 3) := by decide +kernel
theorem dX10_turn_32 : decode cX10_turn 32 = .ok (.invokevirtual 261, 3) := by decide +kernel
theorem dX10_turn_35 : decode cX10_turn 35 = .ok (.aload_n 0, 1) := by decide +kernel
theorem dX10_turn_36 : decode cX10_turn 36 = .ok (.getfield 15, 3) := by decide +kernel
theorem dX10_turn_39 : decode cX10_turn 39 = .ok (.iconst 1, 1) := by decide +kernel
theorem dX10_turn_40 : decode cX10_turn 40 = .ok (.invokevirtual 215, 3) := by decide +kernel
theorem dX10_turn_43 : decode cX10_turn 43 = .ok (.aload_n 0, 1) := by decide +kernel
theorem dX10_turn_44 : decode cX10_turn 44 = .ok (.getfield 15, 3) := by decide +kernel
theorem dX10_turn_47 : decode cX10_turn 47 = .ok (.iload_n 1, 1) := by decide +kernel
theorem dX10_turn_48 : decode cX10_turn 48 = .ok (.invokevirtual 264, 3) := by decide +kernel
theorem dX10_turn_51 : decode cX10_turn 51 = .ok (.return_, 1) := by decide +kernel
theorem dX10_zero_0 : decode cX10_zero 0 = .ok (.aload_n 0, 1) := by decide +kernel
theorem dX10_zero_1 : decode cX10_zero 1 = .ok (.getfield 15, 3) := by decide +kernel
theorem dX10_zero_4 : decode cX10_zero 4 = .ok (.iconst 0, 1) := by decide +kernel
theorem dX10_zero_5 : decode cX10_zero 5 = .ok (.bipush 30, 2) := by decide +kernel
theorem dX10_zero_7 : decode cX10_zero 7 = .ok (.iconst 2, 1) := by decide +kernel
theorem dX10_zero_8 : decode cX10_zero 8 = .ok (.iconst 4, 1) := by decide +kernel
theorem dX10_zero_9 : decode cX10_zero 9 = .ok (.aload_n 1, 1) := by decide +kernel
theorem dX10_zero_10 : decode cX10_zero 10 = .ok (.getfield 247, 3) := by decide +kernel
theorem dX10_zero_13 : decode cX10_zero 13 = .ok (.imul, 1) := by decide +kernel
theorem dX10_zero_14 : decode cX10_zero 14 = .ok (.invokevirtual 131, 3) := by decide +kernel
theorem dX10_zero_17 : decode cX10_zero 17 = .ok (.aload_n 0, 1) := by decide +kernel
theorem dX10_zero_18 : decode cX10_zero 18 = .ok (.getfield 15, 3) := by decide +kernel
theorem dX10_zero_21 : decode cX10_zero 21 = .ok (.bipush 31, 2) := by decide +kernel
theorem dX10_zero_23 : decode cX10_zero 23 = .ok (.aload_n 1, 1) := by decide +kernel
theorem dX10_zero_24 : decode cX10_zero 24 = .ok (.getfield 277, 3) := by decide +kernel
theorem dX10_zero_27 : decode cX10_zero 27 = .ok (.aload_n 1, 1) := by decide +kernel
theorem dX10_zero_28 : decode cX10_zero 28 = .ok (.getfield 280, 3) := by decide +kernel
theorem dX10_zero_31 : decode cX10_zero 31 = .ok (.invokestatic 282, 3) := by decide +kernel
theorem dX10_zero_34 : decode cX10_zero 34 = .ok (.invokevirtual 135, 3) := by decide +kernel
theorem dX10_zero_37 : decode cX10_zero 37 = .ok (.aload_n 0, 1) := by decide +kernel
theorem dX10_zero_38 : decode cX10_zero 38 = .ok (.getfield 15, 3) := by decide +kernel
theorem dX10_zero_41 : decode cX10_zero 41 = .ok (.iconst 2, 1) := by decide +kernel
theorem dX10_zero_42 : decode cX10_zero 42 = .ok (.iconst 0, 1) := by decide +kernel
theorem dX10_zero_43 : decode cX10_zero 43 = .ok (.bipush 30, 2) := by decide +kernel
theorem dX10_zero_45 : decode cX10_zero 45 = .ok (.iconst 0, 1) := by decide +kernel
theorem dX10_zero_46 : decode cX10_zero 46 = .ok (.invokevirtual 156, 3) := by decide +kernel
theorem dX10_zero_49 : decode cX10_zero 49 = .ok (.aload_n 0, 1) := by decide +kernel
theorem dX10_zero_50 : decode cX10_zero 50 = .ok (.getfield 15, 3) := by decide +kernel
theorem dX10_zero_53 : decode cX10_zero 53 = .ok (.iconst 0, 1) := by decide +kernel
theorem dX10_zero_54 : decode cX10_zero 54 = .ok (.bipush 30, 2) := by decide +kernel
theorem dX10_zero_56 : decode cX10_zero 56 = .ok (.bipush 30, 2) := by decide +kernel
theorem dX10_zero_58 : decode cX10_zero 58 = .ok (.iconst 4, 1) := by decide +kernel
theorem dX10_zero_59 : decode cX10_zero 59 = .ok (.invokevirtual 131, 3) := by decide +kernel
theorem dX10_zero_62 : decode cX10_zero 62 = .ok (.aload_n 0, 1) := by decide +kernel
theorem dX10_zero_63 : decode cX10_zero 63 = .ok (.getfield 15, 3) := by decide +kernel
theorem dX10_zero_66 : decode cX10_zero 66 = .ok (.iconst 0, 1) := by decide +kernel
theorem dX10_zero_67 : decode cX10_zero 67 = .ok (.bipush 31, 2) := by decide +kernel
theorem dX10_zero_69 : decode cX10_zero 69 = .ok (.bipush 31, 2) := by decide +kernel
theorem dX10_zero_71 : decode cX10_zero 71 = .ok (.iconst (-1), 1) := by decide +kernel
theorem dX10_zero_72 : decode cX10_zero 72 = .ok (.invokevirtual 131, 3) := by decide +kernel
theorem dX10_zero_75 : decode cX10_zero 75 = .ok (.aload_n 0, 1) := by decide +kernel
theorem dX10_zero_76 : decode cX10_zero 76 = .ok (.getfield 15, 3) := by decide +kernel
theorem dX10_zero_79 : decode cX10_zero 79 = .ok (.iconst 1, 1) := by decide +kernel
theorem dX10_zero_80 : decode cX10_zero 80 = .ok (.bipush 31, 2) := by decide +kernel
theorem dX10_zero_82 : decode cX10_zero 82 = .ok (.iconst 0, 1) := by decide +kernel
theorem dX10_zero_83 : decode cX10_zero 83 = .ok (.invokestatic 257, 3) := by decide +kernel
theorem dX10_zero_86 : decode cX10_zero 86 = .ok (.bipush (-12), 2) := by decide +kernel
theorem dX10_zero_88 : decode cX10_zero 88 = .ok (.invokestatic 286, 3) := by decide +kernel
theorem dX10_zero_91 : decode cX10_zero 91 = .ok (.ior, 1) := by decide +kernel
theorem dX10_zero_92 : decode cX10_zero 92 = .ok (.invokevirtual 261, 3) := by decide +kernel
theorem dX10_zero_95 : decode cX10_zero 95 = .ok (.return_, 1) := by decide +kernel
theorem dX10_end_0 : decode cX10_end 0 = .ok (.aload_n 1, 1) := by decide +kernel
theorem dX10_end_1 : decode cX10_end 1 = .ok (.getfield 289, 3) := by decide +kernel
theorem dX10_end_4 : decode cX10_end 4 = .ok (.tableswitch 252 1 3 #[28, 55, 215], 28) := by decide +kernel
theorem dX10_end_32 : decode cX10_end 32 = .ok (.aload_n 1, 1) := by decide +kernel
theorem dX10_end_33 : decode cX10_end 33 = .ok (.getfield 291, 3) := by decide +kernel
theorem dX10_end_36 : decode cX10_end 36 = .ok (.aload_n 2, 1) := by decide +kernel
theorem dX10_end_37 : decode cX10_end 37 = .ok (.if_acmp .eq 219, 3) := by decide +kernel
theorem dX10_end_40 : decode cX10_end 40 = .ok (.aload_n 0, 1) := by decide +kernel
theorem dX10_end_41 : decode cX10_end 41 = .ok (.getfield 15, 3) := by decide +kernel
theorem dX10_end_44 : decode cX10_end 44 = .ok (.bipush 111, 2) := by decide +kernel
theorem dX10_end_46 : decode cX10_end 46 = .ok (.aload_n 1, 1) := by decide +kernel
theorem dX10_end_47 : decode cX10_end 47 = .ok (.getfield 291, 3) := by decide +kernel
theorem dX10_end_50 : decode cX10_end 50 = .ok (.getfield 74, 3) := by decide +kernel
theorem dX10_end_53 : decode cX10_end 53 = .ok (.invokevirtual 275, 3) := by decide +kernel
theorem dX10_end_56 : decode cX10_end 56 = .ok (.goto 200, 3) := by decide +kernel
theorem dX10_end_59 : decode cX10_end 59 = .ok (.aload_n 1, 1) := by decide +kernel
theorem dX10_end_60 : decode cX10_end 60 = .ok (.getfield 295, 3) := by decide +kernel
theorem dX10_end_63 : decode cX10_end 63 = .ok (.bipush 11, 2) := by decide +kernel
theorem dX10_end_65 : decode cX10_end 65 = .ok (.if_icmp .ne 7, 3) := by decide +kernel
theorem dX10_end_68 : decode cX10_end 68 = .ok (.iconst 0, 1) := by decide +kernel
theorem dX10_end_69 : decode cX10_end 69 = .ok (.goto 30, 3) := by decide +kernel
theorem dX10_end_72 : decode cX10_end 72 = .ok (.aload_n 1, 1) := by decide +kernel
theorem dX10_end_73 : decode cX10_end 73 = .ok (.getfield 295, 3) := by decide +kernel
theorem dX10_end_76 : decode cX10_end 76 = .ok (.bipush 12, 2) := by decide +kernel
theorem dX10_end_78 : decode cX10_end 78 = .ok (.if_icmp .ne 7, 3) := by decide +kernel
theorem dX10_end_81 : decode cX10_end 81 = .ok (.iconst 1, 1) := by decide +kernel
theorem dX10_end_82 : decode cX10_end 82 = .ok (.goto 17, 3) := by decide +kernel
theorem dX10_end_85 : decode cX10_end 85 = .ok (.aload_n 1, 1) := by decide +kernel
theorem dX10_end_86 : decode cX10_end 86 = .ok (.getfield 295, 3) := by decide +kernel
theorem dX10_end_89 : decode cX10_end 89 = .ok (.bipush 13, 2) := by decide +kernel
theorem dX10_end_91 : decode cX10_end 91 = .ok (.if_icmp .ne 7, 3) := by decide +kernel
theorem dX10_end_94 : decode cX10_end 94 = .ok (.iconst 4, 1) := by decide +kernel
theorem dX10_end_95 : decode cX10_end 95 = .ok (.goto 4, 3) := by decide +kernel
theorem dX10_end_98 : decode cX10_end 98 = .ok (.iconst 5, 1) := by decide +kernel
theorem dX10_end_99 : decode cX10_end 99 = .ok (.istore 4, 2) := by decide +kernel
theorem dX10_end_101 : decode cX10_end 101 = .ok (.aload_n 0, 1) := by decide +kernel
theorem dX10_end_102 : decode cX10_end 102 = .ok (.aload_n 1, 1) := by decide +kernel
theorem dX10_end_103 : decode cX10_end 103 = .ok (.getfield 296, 3) := by decide +kernel
theorem dX10_end_106 : decode cX10_end 106 = .ok (.bipush 30, 2) := by decide +kernel
theorem dX10_end_108 : decode cX10_end 108 = .ok (.invokevirtual 172, 3) := by decide +kernel
theorem dX10_end_111 : decode cX10_end 111 = .ok (.istore 5, 2) := by decide +kernel
theorem dX10_end_113 : decode cX10_end 113 = .ok (.aload_n 0, 1) := by decide +kernel
theorem dX10_end_114 : decode cX10_end 114 = .ok (.aload_n 1, 1) := by decide +kernel
theorem dX10_end_115 : decode cX10_end 115 = .ok (.getfield 297, 3) := by decide +kernel
theorem dX10_end_118 : decode cX10_end 118 = .ok (.bipush 31, 2) := by decide +kernel
theorem dX10_end_120 : decode cX10_end 120 = .ok (.invokevirtual 172, 3) := by decide +kernel
theorem dX10_end_123 : decode cX10_end 123 = .ok (.istore 6, 2) := by decide +kernel
theorem dX10_end_125 : decode cX10_end 125 = .ok (.aload_n 1, 1) := by decide +kernel
theorem dX10_end_126 : decode cX10_end 126 = .ok (.getfield 291, 3) := by decide +kernel
theorem dX10_end_129 : decode cX10_end 129 = .ok (.aload_n 2, 1) := by decide +kernel
theorem dX10_end_130 : decode cX10_end 130 = .ok (.if_acmp .ne 7, 3) := by decide +kernel
theorem dX10_end_133 : decode cX10_end 133 = .ok (.iconst 1, 1) := by decide +kernel
theorem dX10_end_134 : decode cX10_end 134 = .ok (.goto 4, 3) := by decide +kernel
theorem dX10_end_137 : decode cX10_end 137 = .ok (.iconst 0, 1) := by decide +kernel
theorem dX10_end_138 : decode cX10_end 138 = .ok (.istore 7, 2) := by decide +kernel
theorem dX10_end_140 : decode cX10_end 140 = .ok (.aload_n 0, 1) := by decide +kernel
theorem dX10_end_141 : decode cX10_end 141 = .ok (.getfield 15, 3) := by decide +kernel
theorem dX10_end_144 : decode cX10_end 144 = .ok (.iload 7, 2) := by decide +kernel
theorem dX10_end_146 : decode cX10_end 146 = .ok (.ifCond .eq 10, 3) := by decide +kernel
theorem dX10_end_149 : decode cX10_end 149 = .ok (.iload 4, 2) := by decide +kernel
theorem dX10_end_151 : decode cX10_end 151 = .ok (.iconst 1, 1) := by decide +kernel
theorem dX10_end_152 : decode cX10_end 152 = .ok (.ixor, 1) := by decide +kernel
theorem dX10_end_153 : decode cX10_end 153 = .ok (.goto 5, 3) := by decide +kernel
theorem dX10_end_156 : decode cX10_end 156 = .ok (.iload 4, 2) := by decide +kernel
theorem dX10_end_158 : decode cX10_end 158 = .ok (.iload 5, 2) := by decide +kernel
theorem dX10_end_160 : decode cX10_end 160 = .ok (.iload 6, 2) := by decide +kernel
theorem dX10_end_162 : decode cX10_end 162 = .ok (.invokestatic 257, 3) := by decide +kernel
theorem dX10_end_165 : decode cX10_end 165 = .ok (.iload 7, 2) := by decide +kernel
theorem dX10_end_167 : decode cX10_end 167 = .ok (.ifCond .eq 10, 3) := by decide +kernel
theorem dX10_end_170 : decode cX10_end 170 = .ok (.aload_n 1, 1) := by decide +kernel
theorem dX10_end_171 : decode cX10_end 171 = .ok (.getfield 298, 3) := by decide +kernel
theorem dX10_end_174 : decode cX10_end 174 = .ok (.goto 7, 3) := by decide +kernel
theorem dX10_end_177 : decode cX10_end 177 = .ok (.aload_n 1, 1) := by decide +kernel
theorem dX10_end_178 : decode cX10_end 178 = .ok (.getfield 291, 3) := by decide +kernel
theorem dX10_end_181 : decode cX10_end 181 = .ok (.getfield 74, 3) := by decide +kernel
theorem dX10_end_184 : decode cX10_end 184 = .ok (.invokevirtual 275, 3) := by decide +kernel
theorem dX10_end_187 : decode cX10_end 187 = .ok (.iload 7, 2) := by decide +kernel
theorem dX10_end_189 : decode cX10_end 189 = .ok (.ifCond .ne 67, 3) := by decide +kernel
theorem dX10_end_192 : decode cX10_end 192 = .ok (.aload_n 1, 1) := by decide +kernel
theorem dX10_end_193 : decode cX10_end 193 = .ok (.getfield 298, 3) := by decide +kernel
theorem dX10_end_196 : decode cX10_end 196 = .ok (.aload_n 2, 1) := by decide +kernel
theorem dX10_end_197 : decode cX10_end 197 = .ok (.if_acmp .eq 59, 3) := by decide +kernel
theorem dX10_end_200 : decode cX10_end 200 = .ok (.aload_n 0, 1) := by decide +kernel
theorem dX10_end_201 : decode cX10_end 201 = .ok (.getfield 15, 3) := by decide +kernel
theorem dX10_end_204 : decode cX10_end 204 = .ok (.bipush 111, 2) := by decide +kernel
theorem dX10_end_206 : decode cX10_end 206 = .ok (.aload_n 1, 1) := by decide +kernel
theorem dX10_end_207 : decode cX10_end 207 = .ok (.getfield 298, 3) := by decide +kernel
theorem dX10_end_210 : decode cX10_end 210 = .ok (.getfield 74, 3) := by decide +kernel
theorem dX10_end_213 : decode cX10_end 213 = .ok (.invokevirtual 275, 3) := by decide +kernel
theorem dX10_end_216 : decode cX10_end 216 = .ok (.goto 40, 3) := by decide +kernel
theorem dX10_end_219 : decode cX10_end 219 = .ok (.aload_n 0, 1) := by decide +kernel
theorem dX10_end_220 : decode cX10_end 220 = .ok (.aload_n 1, 1) := by decide +kernel
theorem dX10_end_221 : decode cX10_end 221 = .ok (.getfield 296, 3) := by decide +kernel
theorem dX10_end_224 : decode cX10_end 224 = .ok (.bipush 10, 2) := by decide +kernel
theorem dX10_end_226 : decode cX10_end 226 = .ok (.invokevirtual 196, 3) := by decide +kernel
theorem dX10_end_229 : decode cX10_end 229 = .ok (.aload_n 0, 1) := by decide +kernel
theorem dX10_end_230 : decode cX10_end 230 = .ok (.iload_n 3, 1) := by decide +kernel
theorem dX10_end_231 : decode cX10_end 231 = .ok (.iconst 0, 1) := by decide +kernel
theorem dX10_end_232 : decode cX10_end 232 = .ok (.invokevirtual 117, 3) := by decide +kernel
theorem dX10_end_235 : decode cX10_end 235 = .ok (.aload_n 0, 1) := by decide +kernel
theorem dX10_end_236 : decode cX10_end 236 = .ok (.aload_n 0, 1) := by decide +kernel
theorem dX10_end_237 : decode cX10_end 237 = .ok (.getfield 97, 3) := by decide +kernel
theorem dX10_end_240 : decode cX10_end 240 = .ok (.invokevirtual 113, 3) := by decide +kernel
theorem dX10_end_243 : decode cX10_end 243 = .ok (.aload_n 0, 1) := by decide +kernel
theorem dX10_end_244 : decode cX10_end 244 = .ok (.getfield 15, 3) := by decide +kernel
theorem dX10_end_247 : decode cX10_end 247 = .ok (.ldc_w 301, 3) := by decide +kernel
theorem dX10_end_250 : decode cX10_end 250 = .ok (.invokevirtual 261, 3) := by decide +kernel
theorem dX10_end_253 : decode cX10_end 253 = .ok (.goto 3, 3) := by decide +kernel
theorem dX10_end_256 : decode cX10_end 256 = .ok (.return_, 1) := by decide +kernel
