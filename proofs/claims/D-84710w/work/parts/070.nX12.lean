/-! names: X1_row_2 (tools/chunk.py) -/
set_option maxRecDepth 100000
theorem q1116 : (Jvm.Cond.fieldLinkNest "CompiledHouse$Parser" (124 : Nat) "CompiledHouse$Told" "isByte" "Z" "CompiledHouse") ∈ lw_tbl := lw_at lw_m4 200 rfl
theorem f_X1_124_13 : xF RX1 124 13 3 := ⟨_, "CompiledHouse$Told", rfl, by decide, Or.inr ⟨_, q1116⟩, Or.inl rfl⟩
theorem q1126 : (Jvm.Cond.fieldLinkNest "CompiledHouse$Parser" (136 : Nat) "CompiledHouse$Told" "values" "Ljava/util/ArrayList;" "CompiledHouse") ∈ lw_tbl := lw_at lw_m4 210 rfl
theorem f_X1_136_13 : xF RX1 136 13 7 := ⟨_, "CompiledHouse$Told", rfl, by decide, Or.inr ⟨_, q1126⟩, Or.inl rfl⟩
theorem dX1_row_2_0 : decode cX1_row_2 0 = .ok (.aload_n 1, 1) := by decide +kernel
theorem dX1_row_2_1 : decode cX1_row_2 1 = .ok (.iload_n 2, 1) := by decide +kernel
theorem dX1_row_2_2 : decode cX1_row_2 2 = .ok (.putfield 124, 3) := by decide +kernel
theorem dX1_row_2_5 : decode cX1_row_2 5 = .ok (.aload_n 0, 1) := by decide +kernel
theorem dX1_row_2_6 : decode cX1_row_2 6 = .ok (.bipush 64, 2) := by decide +kernel
theorem dX1_row_2_8 : decode cX1_row_2 8 = .ok (.invokevirtual 128, 3) := by decide +kernel
theorem dX1_row_2_11 : decode cX1_row_2 11 = .ok (.aload_n 1, 1) := by decide +kernel
theorem dX1_row_2_12 : decode cX1_row_2 12 = .ok (.aload_n 0, 1) := by decide +kernel
theorem dX1_row_2_13 : decode cX1_row_2 13 = .ok (.invokevirtual 101, 3) := by decide +kernel
theorem dX1_row_2_16 : decode cX1_row_2 16 = .ok (.putfield 105, 3) := by decide +kernel
theorem dX1_row_2_19 : decode cX1_row_2 19 = .ok (.aload_n 0, 1) := by decide +kernel
theorem dX1_row_2_20 : decode cX1_row_2 20 = .ok (.bipush 65, 2) := by decide +kernel
theorem dX1_row_2_22 : decode cX1_row_2 22 = .ok (.invokevirtual 131, 3) := by decide +kernel
theorem dX1_row_2_25 : decode cX1_row_2 25 = .ok (.aload_n 1, 1) := by decide +kernel
theorem dX1_row_2_26 : decode cX1_row_2 26 = .ok (.new 46, 3) := by decide +kernel
theorem dX1_row_2_29 : decode cX1_row_2 29 = .ok (.dup, 1) := by decide +kernel
theorem dX1_row_2_30 : decode cX1_row_2 30 = .ok (.iconst 0, 1) := by decide +kernel
theorem dX1_row_2_31 : decode cX1_row_2 31 = .ok (.invokespecial 134, 3) := by decide +kernel
theorem dX1_row_2_34 : decode cX1_row_2 34 = .ok (.putfield 136, 3) := by decide +kernel
theorem dX1_row_2_37 : decode cX1_row_2 37 = .ok (.aload_n 0, 1) := by decide +kernel
theorem dX1_row_2_38 : decode cX1_row_2 38 = .ok (.bipush 72, 2) := by decide +kernel
theorem dX1_row_2_40 : decode cX1_row_2 40 = .ok (.invokevirtual 79, 3) := by decide +kernel
theorem dX1_row_2_43 : decode cX1_row_2 43 = .ok (.ifCond .eq 36, 3) := by decide +kernel
theorem dX1_row_2_46 : decode cX1_row_2 46 = .ok (.aload_n 0, 1) := by decide +kernel
theorem dX1_row_2_47 : decode cX1_row_2 47 = .ok (.bipush 66, 2) := by decide +kernel
theorem dX1_row_2_49 : decode cX1_row_2 49 = .ok (.invokevirtual 128, 3) := by decide +kernel
theorem dX1_row_2_52 : decode cX1_row_2 52 = .ok (.aload_n 1, 1) := by decide +kernel
theorem dX1_row_2_53 : decode cX1_row_2 53 = .ok (.getfield 136, 3) := by decide +kernel
theorem dX1_row_2_56 : decode cX1_row_2 56 = .ok (.aload_n 0, 1) := by decide +kernel
theorem dX1_row_2_57 : decode cX1_row_2 57 = .ok (.invokevirtual 101, 3) := by decide +kernel
theorem dX1_row_2_60 : decode cX1_row_2 60 = .ok (.invokevirtual 120, 3) := by decide +kernel
theorem dX1_row_2_63 : decode cX1_row_2 63 = .ok (.pop, 1) := by decide +kernel
theorem dX1_row_2_64 : decode cX1_row_2 64 = .ok (.aload_n 0, 1) := by decide +kernel
theorem dX1_row_2_65 : decode cX1_row_2 65 = .ok (.bipush 68, 2) := by decide +kernel
theorem dX1_row_2_67 : decode cX1_row_2 67 = .ok (.invokevirtual 79, 3) := by decide +kernel
theorem dX1_row_2_70 : decode cX1_row_2 70 = .ok (.ifCond .ne (-18), 3) := by decide +kernel
theorem dX1_row_2_73 : decode cX1_row_2 73 = .ok (.aload_n 0, 1) := by decide +kernel
theorem dX1_row_2_74 : decode cX1_row_2 74 = .ok (.bipush 67, 2) := by decide +kernel
theorem dX1_row_2_76 : decode cX1_row_2 76 = .ok (.invokevirtual 131, 3) := by decide +kernel
theorem dX1_row_2_79 : decode cX1_row_2 79 = .ok (.aload_n 0, 1) := by decide +kernel
theorem dX1_row_2_80 : decode cX1_row_2 80 = .ok (.aload_n 1, 1) := by decide +kernel
theorem dX1_row_2_81 : decode cX1_row_2 81 = .ok (.invokevirtual 109, 3) := by decide +kernel
theorem dX1_row_2_84 : decode cX1_row_2 84 = .ok (.return_, 1) := by decide +kernel
