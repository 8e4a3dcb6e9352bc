/-! ===== the start: statics, Strings, the cache (tools/m119.py) ===== -/
set_option maxRecDepth 100000
theorem q1031 : (Jvm.Cond.laysStatic "jdk/internal/util/Preconditions" "SIOOBE_FORMATTER" "Ljava/util/function/BiFunction;") ∈ lw_tbl := lw_at lw_m4 115 rfl
theorem q1634 : (Jvm.Cond.laysStatic "CompiledHouse" "ACTS" "[I") ∈ lw_tbl := lw_at lw_m6 238 rfl
theorem q2709 : (Jvm.Cond.laysStatic "CompiledHouse" "COLOUR" "[I") ∈ lw_tbl := lw_at lw_m11 113 rfl
theorem q466 : (Jvm.Cond.laysStatic "java/util/ArrayList" "DEFAULTCAPACITY_EMPTY_ELEMENTDATA" "[Ljava/lang/Object;") ∈ lw_tbl := lw_at lw_m2 30 rfl
theorem q1223 : (Jvm.Cond.laysStatic "java/util/ArrayList" "EMPTY_ELEMENTDATA" "[Ljava/lang/Object;") ∈ lw_tbl := lw_at lw_m5 67 rfl
theorem q406 : (Jvm.Cond.laysStatic "java/lang/Throwable" "UNASSIGNED_STACK" "[Ljava/lang/StackTraceElement;") ∈ lw_tbl := lw_at lw_m1 210 rfl
theorem q408 : (Jvm.Cond.laysStatic "java/lang/Throwable" "SUPPRESSED_SENTINEL" "Ljava/util/List;") ∈ lw_tbl := lw_at lw_m1 212 rfl
theorem q251 : (Jvm.Cond.initialized "java/lang/Integer$IntegerCache") ∈ lw_all := lw_g (lw_at lw_m1 55 rfl) rfl
theorem q1884 : (Jvm.Cond.laysStatic "java/lang/Integer$IntegerCache" "high" "I") ∈ lw_tbl := lw_at lw_m8 8 rfl
theorem q1886 : (Jvm.Cond.laysStatic "java/lang/Integer$IntegerCache" "cache" "[Ljava/lang/Integer;") ∈ lw_tbl := lw_at lw_m8 10 rfl
theorem q1015 : (Jvm.Cond.laysStatic "java/lang/String" "COMPACT_STRINGS" "Z") ∈ lw_tbl := lw_at lw_m4 99 rfl
theorem str_word : ∀ q ∈ strT, ∃ text, Cond.stringRef q.1 q.2.1 text ∈ lw_tbl := by
  intro q h
  simp only [strT, List.mem_cons, List.not_mem_nil, or_false] at h
  rcases h with rfl | rfl | rfl | rfl | rfl | rfl | rfl | rfl | rfl | rfl | rfl | rfl | rfl | rfl | rfl | rfl | rfl | rfl | rfl | rfl | rfl | rfl | rfl | rfl | rfl | rfl | rfl | rfl | rfl | rfl | rfl | rfl | rfl | rfl | rfl | rfl | rfl | rfl | rfl | rfl | rfl | rfl | rfl | rfl | rfl | rfl | rfl | rfl | rfl | rfl | rfl | rfl | rfl | rfl | rfl | rfl | rfl | rfl | rfl | rfl | rfl | rfl | rfl
  · exact ⟨_, q277⟩
  · exact ⟨_, q278⟩
  · exact ⟨_, q279⟩
  · exact ⟨_, q280⟩
  · exact ⟨_, q281⟩
  · exact ⟨_, q282⟩
  · exact ⟨_, q283⟩
  · exact ⟨_, q284⟩
  · exact ⟨_, q285⟩
  · exact ⟨_, q286⟩
  · exact ⟨_, q287⟩
  · exact ⟨_, q288⟩
  · exact ⟨_, q289⟩
  · exact ⟨_, q290⟩
  · exact ⟨_, q291⟩
  · exact ⟨_, q292⟩
  · exact ⟨_, q293⟩
  · exact ⟨_, q294⟩
  · exact ⟨_, q295⟩
  · exact ⟨_, q296⟩
  · exact ⟨_, q297⟩
  · exact ⟨_, q298⟩
  · exact ⟨_, q299⟩
  · exact ⟨_, q300⟩
  · exact ⟨_, q301⟩
  · exact ⟨_, q302⟩
  · exact ⟨_, q303⟩
  · exact ⟨_, q304⟩
  · exact ⟨_, q305⟩
  · exact ⟨_, q306⟩
  · exact ⟨_, q307⟩
  · exact ⟨_, q308⟩
  · exact ⟨_, q309⟩
  · exact ⟨_, q310⟩
  · exact ⟨_, q311⟩
  · exact ⟨_, q312⟩
  · exact ⟨_, q313⟩
  · exact ⟨_, q314⟩
  · exact ⟨_, q315⟩
  · exact ⟨_, q316⟩
  · exact ⟨_, q317⟩
  · exact ⟨_, q318⟩
  · exact ⟨_, q319⟩
  · exact ⟨_, q320⟩
  · exact ⟨_, q321⟩
  · exact ⟨_, q322⟩
  · exact ⟨_, q323⟩
  · exact ⟨_, q324⟩
  · exact ⟨_, q325⟩
  · exact ⟨_, q326⟩
  · exact ⟨_, q327⟩
  · exact ⟨_, q328⟩
  · exact ⟨_, q329⟩
  · exact ⟨_, q330⟩
  · exact ⟨_, q331⟩
  · exact ⟨_, q332⟩
  · exact ⟨_, q333⟩
  · exact ⟨_, q334⟩
  · exact ⟨_, q335⟩
  · exact ⟨_, q336⟩
  · exact ⟨_, q1471⟩
  · exact ⟨_, q3332⟩
  · exact ⟨_, q3357⟩
theorem strT_at : ∀ q ∈ strT, strT[q.2.2.1]? = some q := by decide +kernel
theorem strT_cls : ∀ q ∈ strT, (q.1 = "CompiledHouse$Tokens" ∨ q.1 = "CompiledHouseModel") ∧ q.2.2.2.length < 1000 := by decide +kernel
def nF : List Cond := flatC (Jvm.Cond.and given_1 narrow_1)
def strV (q : String × Nat × Nat × List Int32) : Term := .field (.string q.1 q.2.1) "java/lang/String" "value" "[B"
def strE : List Cond := strT.flatMap (fun q => [Cond.exactly (.string q.1 q.2.1) "java/lang/String", Cond.eq (.field (.string q.1 q.2.1) "java/lang/String" "coder" "B") (.int 0), Cond.arrayOf (strV q) .byte, Cond.eq (.length (strV q)) (.int (Int32.ofNat q.2.2.2.length))] ++ (List.range q.2.2.2.length).map (fun j => Cond.eq (.elem (strV q) (.int (Int32.ofNat j))) (.int (q.2.2.2.getD j 0))))
theorem strE_in : (nF.drop 93).take 584 = strE := by decide +kernel
theorem strE_mem {c : Cond} (h : c ∈ strE) : c ∈ nF := by
  rw [← strE_in] at h
  exact List.mem_of_mem_drop (List.mem_of_mem_take h)
theorem str_flat : ∀ q ∈ strT, (Cond.exactly (.string q.1 q.2.1) "java/lang/String") ∈ nF ∧ (Cond.eq (.field (.string q.1 q.2.1) "java/lang/String" "coder" "B") (.int 0)) ∈ nF ∧ (Cond.arrayOf (strV q) .byte) ∈ nF ∧ (Cond.eq (.length (strV q)) (.int (Int32.ofNat q.2.2.2.length))) ∈ nF := fun q hq =>
  ⟨strE_mem (List.mem_flatMap.mpr ⟨q, hq, List.mem_append_left _ (by simp)⟩), strE_mem (List.mem_flatMap.mpr ⟨q, hq, List.mem_append_left _ (by simp)⟩), strE_mem (List.mem_flatMap.mpr ⟨q, hq, List.mem_append_left _ (by simp)⟩), strE_mem (List.mem_flatMap.mpr ⟨q, hq, List.mem_append_left _ (by simp)⟩)⟩
theorem str_flat2 : ∀ q ∈ strT, ∀ j, j < q.2.2.2.length → (Cond.eq (.elem (strV q) (.int (Int32.ofNat j))) (.int (q.2.2.2.getD j 0))) ∈ nF := fun q hq j hj =>
  strE_mem (List.mem_flatMap.mpr ⟨q, hq, List.mem_append_right _ (List.mem_map.mpr ⟨j, List.mem_range.mpr hj, rfl⟩)⟩)
theorem col_flat : (∀ j, j < 15 → (Cond.eq (.elem (.static "CompiledHouse" "COLOUR" "[I") (.int (Int32.ofNat j))) (.int (colourOf j))) ∈ nF) ∧ (∀ j, j < 8 → (Cond.eq (.elem (.static "CompiledHouse" "ACTS" "[I") (.int (Int32.ofNat j))) (.int (Int32.ofNat j))) ∈ nF) := by decide +kernel
/-- a String constant at the start -/
def sStr (s : State) (q : String × Nat × Nat × List Int32) (a v : Nat) : Prop := (∃ (cur : ClassId) (k : Class), s.vm.findClass q.1 = some cur ∧ s.vm.classes[cur]? = some k ∧ k.resolved[q.2.1]? = some (some (.string a))) ∧ va_O "java/lang/String" a (fun z => s.heap.size ≤ z) s s.heap ∧ va_OF "java/lang/String" "coder" "B" (.int 0) a (fun z => s.heap.size ≤ z) s s.heap ∧ va_OF "java/lang/String" "value" "[B" (.ref v) a (fun z => s.heap.size ≤ z) s s.heap ∧ va_T .byte v q.2.2.2.length (fun j => .int (q.2.2.2.getD j 0)) (fun z => s.heap.size ≤ z) s s.heap
theorem s_strs {za : Array Value} {s : State} (hts : ∀ w ∈ lw_tbl, w.before za s = true) (hs : ∀ c ∈ nF, c.before za s = true) (hc : ∀ q ∈ strT, ∃ cur, s.vm.findClass q.1 = some cur) : ∃ f : Nat → Nat × Nat, ∀ q ∈ strT, sStr s q (f q.2.2.1).1 (f q.2.2.1).2 := by
  have hA : ∀ a : Nat, a < s.heap.size → ¬ (fun z => s.heap.size ≤ z) a := fun a h => Nat.not_le.mpr h
  have h : ∀ i : Nat, ∃ z : Nat × Nat, ∀ q ∈ strT, q.2.2.1 = i → sStr s q z.1 z.2 := by
    intro i
    cases hq : strT[i]? with
    | none => exact ⟨(0, 0), fun q hm e => by have := strT_at q hm; rw [e, hq] at this; cases this⟩
    | some q0 =>
      have hm0 : q0 ∈ strT := List.mem_of_getElem? hq
      obtain ⟨x1, x2, x3, x4⟩ := str_flat q0 hm0
      obtain ⟨a, c, cell, k, e1, e2, e3, e4, e5, e6, -⟩ := Cond.exactly_spec (hs _ x1)
      obtain ⟨t, ht, hT⟩ := va_Tof (N := q0.2.2.2.length) (f := fun j => .int (q0.2.2.2.getD j 0)) (A := fun z => s.heap.size ≤ z) (Nat.lt_trans (strT_cls q0 hm0).2 (by decide)) (hs _ x3) (va_eqt (hs _ x4)) (fun j hj => va_eqt (hs _ (str_flat2 q0 hm0 j hj))) hA
      obtain ⟨cur, hcur⟩ := hc q0 hm0
      obtain ⟨text, hw⟩ := str_word q0 hm0
      obtain ⟨k1, cf, i1, a1, y1, y2, y3, y4, y5, y6⟩ := Cond.stringRef_spec hcur (hts _ hw)
      have ea : a1 = a := by
        have := y6.symm.trans e1
        injection this with this
        injection this
      subst ea
      refine ⟨(a1, t), fun q hm e => ?_⟩
      have : q = q0 := by
        have h2 := strT_at q hm
        rw [e, hq] at h2
        exact (Option.some.inj h2).symm
      subst this
      exact ⟨⟨cur, k1, hcur, y1, y5⟩, va_Oof (hs _ x1) e1 hA, vk_OFof e1 (va_eqt (hs _ x2)) hA, vk_OFof e1 ht hA, hT⟩
  obtain ⟨f, hf⟩ := Classical.axiomOfChoice h
  exact ⟨f, fun q hm => hf _ q hm rfl⟩
