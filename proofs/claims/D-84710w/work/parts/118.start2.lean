/-! ===== the start: classes, arrays ===== -/
set_option maxRecDepth 100000
theorem s_classes {za : Array Value} {s : State} (hts : ∀ w ∈ lw_tbl, w.before za s = true) : ∃ D : va_G, ∀ (c : Nat) (q : vw_C), xcl[c]? = some q → u_Kn s q.1 q.2.1 q.2.2 (D.1 c) (D.2 c) := by
  have h : ∀ c : Nat, ∃ z : ClassId × (Nat → Nat), ∀ q : vw_C, xcl[c]? = some q → u_Kn s q.1 q.2.1 q.2.2 z.1 z.2 := by
    intro c
    cases hq : xcl[c]? with
    | none => exact ⟨(0, fun _ => 0), fun q h => by cases h⟩
    | some r =>
      obtain ⟨-, hcl⟩ := xclass_ok c r hq
      obtain ⟨cC, iS, h⟩ := u_known (ws := lw_all) (fun w hw => hts w (lw_all_tbl hw)) hcl.1 (hts _ (lw_all_tbl hcl.2.2.2.1))
      exact ⟨(cC, iS), fun q h' => by cases h'; exact h⟩
  obtain ⟨f, hf⟩ := Classical.axiomOfChoice h
  exact ⟨(fun c => (f c).1, fun c => (f c).2), fun c q hq => hf c q hq⟩
theorem s_prim {za : Array Value} {s : State} {ty : FieldType} (h : (Cond.arrayClass ty).before za s = true) (hp : ∀ cA, s.vm.findClass ("[" ++ ty.toString) = some cA → va_RA s cA ty) : ∃ cA, ArrOfT s cA ty ∧ va_RA s cA ty := by
  obtain ⟨c, k, comp, h1, h2, h3⟩ := Cond.arrayClass_spec h
  exact ⟨c, fun n z => ⟨fun k h => (by cases h), k, h2, comp, h3⟩, hp c h1⟩
theorem s_obj {za : Array Value} {s : State} {C : String} (h : (Cond.arrayOver (.object C)).before za s = true) : ∃ cA, ArrOfT s cA (.object C) ∧ va_RA s cA (.object C) := by
  obtain ⟨comp, c, k, h1, -, h3, h4, h5⟩ := Cond.arrayOver_spec h
  exact ⟨c, fun n z => ⟨fun k h => (by cases h), k, h3, comp, h4⟩, k, comp, h3, h4, h1, h5⟩
theorem s_arrays {za : Array Value} {s : State} (hts : ∀ w ∈ lw_tbl, w.before za s = true) : ∃ dA : Nat → ClassId, ∀ j, j < 7 → ArrOfT s (dA j) (xty j) ∧ va_RA s (dA j) (xty j) := by
  have h : ∀ j : Nat, ∃ cA : ClassId, j < 7 → ArrOfT s cA (xty j) ∧ va_RA s cA (xty j) := by
    intro j
    match j with
    | 0 => obtain ⟨c, h⟩ := s_prim (ty := .int) (hts _ (lw_all_tbl q378)) (fun _ h => h); exact ⟨c, fun _ => h⟩
    | 1 => obtain ⟨c, h⟩ := s_prim (ty := .long) (hts _ (lw_all_tbl q599)) (fun _ h => h); exact ⟨c, fun _ => h⟩
    | 2 => obtain ⟨c, h⟩ := s_prim (ty := .byte) (hts _ (lw_all_tbl q377)) (fun _ h => h); exact ⟨c, fun _ => h⟩
    | 3 => obtain ⟨c, h⟩ := s_prim (ty := .boolean) (hts _ (lw_all_tbl q756)) (fun _ h => h); exact ⟨c, fun _ => h⟩
    | 4 => obtain ⟨c, h⟩ := s_obj (hts _ q1221); exact ⟨c, fun _ => h⟩
    | 5 => obtain ⟨c, h⟩ := s_obj (hts _ q276); exact ⟨c, fun _ => h⟩
    | 6 => obtain ⟨c, h⟩ := s_obj (hts _ q2515); exact ⟨c, fun _ => h⟩
    | n + 7 => exact ⟨0, fun h => absurd h (by omega)⟩
  obtain ⟨f, hf⟩ := Classical.axiomOfChoice h
  exact ⟨f, hf⟩
theorem s_K {za : Array Value} {s : State} (hts : ∀ w ∈ lw_tbl, w.before za s = true) : ∃ (D : va_G) (dA : Nat → ClassId), va_K D xcl (xtys dA) s := by
  obtain ⟨D, h1⟩ := s_classes hts
  obtain ⟨dA, h2⟩ := s_arrays hts
  refine ⟨D, dA, h1, fun k q hq => ?_⟩
  have hk : k < 7 := by
    have := (List.getElem?_eq_some_iff.mp hq).1
    exact this
  rw [xtys_at hk] at hq
  cases hq
  exact h2 k hk
