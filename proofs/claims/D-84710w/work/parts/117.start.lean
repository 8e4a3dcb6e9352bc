/-! ===== the start: the world that the law begins in ===== -/
set_option maxRecDepth 100000
def rdI (H : Heap) (a k : Nat) : Int32 := match H[a]? with
  | some c => (match c.slots[k]? with
    | some (.int v) => v
    | _ => 0)
  | none => 0
def sLn (H : Heap) (a : Nat) : Nat := match H[a]? with
  | some c => c.slots.size % 4294967296
  | none => 0
def sArr (s : State) (j a : Nat) : Prop := ∃ cell : Cell, s.heap[a]? = some cell ∧ s.isArrayOf cell (xty j) ∧ cell.vm ≠ .unknown ∧ cell.slots.size % 4294967296 < 2147483648 ∧ ∀ k : Nat, k < cell.slots.size % 4294967296 → ∃ v : Int32, cell.slots[k]? = some (.int v)
def sEmp (s : State) (a : Nat) : Prop := ∃ cell : Cell, s.heap[a]? = some cell ∧ s.isArrayOf cell (xty 4) ∧ cell.vm ≠ .unknown ∧ cell.slots.size % 4294967296 = 0
def sInt (s : State) (D : va_G) (a : Nat) : Prop := ∃ (cell : Cell) (v : Int32), s.heap[a]? = some cell ∧ cell.cls = D.1 37 ∧ cell.vm ≠ .unknown ∧ (∀ k, cell.vm ≠ .statics k) ∧ cell.slots[D.2 37 0]? = some (.int v)
noncomputable def sTg (s : State) (D : va_G) (a : Nat) : Nat := @ite _ (sArr s 0 a) (Classical.propDecidable _) 200 (@ite _ (sArr s 2 a) (Classical.propDecidable _) 202 (@ite _ (sEmp s a) (Classical.propDecidable _) 204 (@ite _ (sInt s D a) (Classical.propDecidable _) 38 0)))
theorem sTg_cases (s : State) (D : va_G) (a : Nat) : (sTg s D a = 200 ∧ sArr s 0 a) ∨ (sTg s D a = 202 ∧ sArr s 2 a) ∨ (sTg s D a = 204 ∧ sEmp s a) ∨ (sTg s D a = 38 ∧ sInt s D a) ∨ sTg s D a = 0 := by
  by_cases h0 : sArr s 0 a
  · exact Or.inl ⟨by rw [sTg, if_pos h0], h0⟩
  · by_cases h2 : sArr s 2 a
    · exact Or.inr (Or.inl ⟨by rw [sTg, if_neg h0, if_pos h2], h2⟩)
    · by_cases h4 : sEmp s a
      · exact Or.inr (Or.inr (Or.inl ⟨by rw [sTg, if_neg h0, if_neg h2, if_pos h4], h4⟩))
      · by_cases h5 : sInt s D a
        · exact Or.inr (Or.inr (Or.inr (Or.inl ⟨by rw [sTg, if_neg h0, if_neg h2, if_neg h4, if_pos h5], h5⟩)))
        · exact Or.inr (Or.inr (Or.inr (Or.inr (by rw [sTg, if_neg h0, if_neg h2, if_neg h4, if_neg h5]))))
theorem arrOne {s : State} {c : Cell} {t u : FieldType} (h1 : s.isArrayOf c t) (h2 : s.isArrayOf c u) : t = u := by
  obtain ⟨-, k, hk, comp, e1⟩ := h1
  obtain ⟨-, k', hk', comp', e2⟩ := h2
  cases hk.symm.trans hk'
  rw [e1] at e2
  injection e2
theorem sz_mod {n N : Nat} (h : n.toInt32 = Int32.ofNat N) (hN : N < 2147483648) : n % 4294967296 = N := by
  have h1 : BitVec.ofNat 32 n = BitVec.ofNat 32 N := congrArg Int32.toBitVec h
  have h2 := congrArg BitVec.toNat h1
  simp at h2
  omega
theorem sz_ofNat (n : Nat) : n.toInt32 = Int32.ofNat (n % 4294967296) := by
  apply Int32.toBitVec_inj.mp
  show BitVec.ofNat 32 n = BitVec.ofNat 32 (n % 4294967296)
  apply BitVec.eq_of_toNat_eq
  simp
theorem sArr_of {s : State} {A : Nat → Prop} {j t N : Nat} {f : Nat → Int32} (h : va_T (xty j) t N (fun k => .int (f k)) A s s.heap) (hN : N < 2147483648) : sArr s j t ∧ t < s.heap.size ∧ sLn s.heap t = N ∧ ∀ k, k < N → rdI s.heap t k = f k := by
  obtain ⟨cell, h1, h2, h3, h4, h5, h6, -⟩ := h
  have h7 := sz_mod h5 hN
  refine ⟨⟨cell, h1, h2, h3, by omega, fun k hk => ⟨f k, h6 k (by omega)⟩⟩, (Array.getElem?_eq_some_iff.mp h1).1, by simp [sLn, h1, h7], fun k hk => by simp [rdI, h1, h6 k hk]⟩
theorem tg_arr0 {s : State} {D : va_G} {a : Nat} (h : sArr s 0 a) : sTg s D a = 200 := by rw [sTg, if_pos h]
theorem tg_arr2 {s : State} {D : va_G} {a : Nat} (h : sArr s 2 a) : sTg s D a = 202 := by
  have h0 : ¬ sArr s 0 a := by
    rintro ⟨c, q1, q2, -⟩
    obtain ⟨c', r1, r2, -⟩ := h
    cases q1.symm.trans r1
    exact absurd (arrOne q2 r2) (by decide)
  rw [sTg, if_neg h0, if_pos h]
theorem tg_emp {s : State} {D : va_G} {a : Nat} (h : sEmp s a) : sTg s D a = 204 := by
  obtain ⟨c', r1, r2, r3⟩ := h
  have h0 : ¬ sArr s 0 a := by
    rintro ⟨c, q1, q2, -⟩
    cases q1.symm.trans r1
    exact absurd (arrOne q2 r2) (by decide)
  have h2 : ¬ sArr s 2 a := by
    rintro ⟨c, q1, q2, -⟩
    cases q1.symm.trans r1
    exact absurd (arrOne q2 r2) (by decide)
  rw [sTg, if_neg h0, if_neg h2, if_pos ⟨c', r1, r2, r3⟩]
theorem tg_int {s : State} {D : va_G} {C : String} {a : Nat} (hC : ClassAt s C (D.1 37)) (h : sInt s D a) : sTg s D a = 38 := by
  obtain ⟨c', v, r1, r2, r3⟩ := h
  obtain ⟨-, kC, hk, hkind⟩ := hC
  have hno : ∀ t, ¬ s.isArrayOf c' t := by
    rintro t ⟨-, k, hk', comp, e⟩
    rw [r2] at hk'
    cases hk.symm.trans hk'
    rw [hkind] at e
    cases e
  have h0 : ∀ j, ¬ sArr s j a := by
    rintro j ⟨c, q1, q2, -⟩
    cases q1.symm.trans r1
    exact hno _ q2
  have h4 : ¬ sEmp s a := by
    rintro ⟨c, q1, q2, -⟩
    cases q1.symm.trans r1
    exact hno _ q2
  rw [sTg, if_neg (h0 0), if_neg (h0 2), if_neg h4, if_pos ⟨c', v, r1, r2, r3⟩]
noncomputable def sA (s : State) (D : va_G) : xA := (s.heap.size, hU s.heap, sTg s D, sLn s.heap, fun a k => if sTg s D a = 38 then rdI s.heap a (D.2 37 k) else rdI s.heap a k, fun _ _ => 0, fun _ _ => none, fun _ => 0)
theorem sA_I {s : State} {D : va_G} {a k : Nat} (h : sTg s D a ≠ 38) : (sA s D).I a k = rdI s.heap a k := if_neg h
theorem sA_rel {l : Launch} {s : State} {za : Array Value} {D : va_G} {dA : Nat → ClassId} {cs : Nat → Nat} : xRel (l, s, za, D, dA, sA s D, cs) (sA s D) s.heap := by
  have hout : ∀ a, s.heap.size ≤ a → sTg s D a = 0 := by
    intro a ha
    have hn : s.heap[a]? = none := Array.getElem?_eq_none ha
    rcases sTg_cases s D a with ⟨-, c, h, -⟩ | ⟨-, c, h, -⟩ | ⟨-, c, h, -⟩ | ⟨-, c, v, h, -⟩ | h
    · rw [hn] at h; cases h
    · rw [hn] at h; cases h
    · rw [hn] at h; cases h
    · rw [hn] at h; cases h
    · exact h
  refine ⟨rfl, rfl, fun q hq => rfl, fun a c ha ht hc => ?_, fun a j ha ht => ?_, fun a ha => ⟨rfl, rfl, rfl, rfl, rfl, rfl⟩, Nat.le_refl _⟩
  · have h1 : sTg s D a = c + 1 := ht
    rw [hout a ha] at h1
    omega
  · have h1 : sTg s D a = 200 + j := ht
    rw [hout a ha] at h1
    omega
theorem sA_ok {l : Launch} {s : State} {za : Array Value} {D : va_G} {dA : Nat → ClassId} {cs : Nat → Nat} (hts : ∀ w ∈ lw_tbl, w.before za s = true) (hK : va_K D xcl (xtys dA) s) : xOK (l, s, za, D, dA, sA s D, cs) := by
  refine ⟨hts, hK, fun a c ha ht hc => ?_, fun a j ha ht => ?_⟩
  · have ht : sTg s D a = c + 1 := ht
    rcases sTg_cases s D a with ⟨e, -⟩ | ⟨e, -⟩ | ⟨e, -⟩ | ⟨e, cell, v, h1, h2, h3, h4, h5⟩ | e
    · omega
    · omega
    · omega
    · have hc37 : c = 37 := by omega
      subst hc37
      refine ⟨_, cell, rfl, h1, h2, h3, h4, fun k hk => ?_⟩
      have hk0 : k = 0 := by
        have : k < 1 := hk
        omega
      subst hk0
      show cell.slots[D.2 37 0]? = some (.int ((sA s D).I a 0))
      have : (sA s D).I a 0 = v := by
        show (if sTg s D a = 38 then rdI s.heap a (D.2 37 0) else rdI s.heap a 0) = v
        rw [if_pos e]
        simp [rdI, h1, h5]
      rw [this]
      exact h5
    · omega
  · have ht : sTg s D a = 200 + j := ht
    have key : ∀ j, (j = 0 ∨ j = 2) → sTg s D a = 200 + j → sArr s j a → xTa s s.heap a j (sLn s.heap a) (fun k => xval (xty j) ((sA s D).I a k) ((sA s D).L a k) ((sA s D).P a k)) := by
      rintro j hj e ⟨cell, h1, h2, h3, h4, h5⟩
      have hl : sLn s.heap a = cell.slots.size % 4294967296 := by simp [sLn, h1]
      rw [hl]
      refine ⟨cell, h1, h2, h3, Nat.mod_le _ _, sz_ofNat _, fun k hk => ?_⟩
      obtain ⟨v, hv⟩ := h5 k hk
      have e2 : (sA s D).I a k = v := by
        rw [sA_I (by omega)]
        simp [rdI, h1, hv]
      rcases hj with rfl | rfl
      · show cell.slots[k]? = some (.int ((sA s D).I a k))
        rw [e2]
        exact hv
      · show cell.slots[k]? = some (.int ((sA s D).I a k))
        rw [e2]
        exact hv
    rcases sTg_cases s D a with ⟨e, h⟩ | ⟨e, h⟩ | ⟨e, cell, h1, h2, h3, h4⟩ | ⟨e, -⟩ | e
    · have : j = 0 := by omega
      subst this
      exact ⟨by omega, key 0 (Or.inl rfl) e h⟩
    · have : j = 2 := by omega
      subst this
      exact ⟨by omega, key 2 (Or.inr rfl) e h⟩
    · have : j = 4 := by omega
      subst this
      refine ⟨by omega, ?_⟩
      have hl : sLn s.heap a = 0 := by simp [sLn, h1, h4]
      show xTa s s.heap a 4 (sLn s.heap a) _
      rw [hl]
      exact ⟨cell, h1, h2, h3, Nat.zero_le _, by rw [sz_ofNat, h4], fun k hk => absurd hk (Nat.not_lt_zero _)⟩
    · omega
    · omega
