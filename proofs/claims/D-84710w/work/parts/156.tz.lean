/-! ===== rows of tokens are as they should be ===== -/
set_option maxRecDepth 100000
section TZ1
variable {tx : Nat → Int32} {n p : Nat} {nm : List (Nat × Nat)}
theorem tkOne_val (h2 : (tkOne tx n p nm).1 = 2) : ∃ k, k < (tkOne tx n p nm).2.2.2.length ∧ (tkOne tx n p nm).2.1 = nI k := by
  unfold tkOne at h2 ⊢
  by_cases hd : ¬ f_X2_isDigit (tx p) = 0
  · rw [if_pos hd] at h2 ⊢
    cases hn : nbT tx n p with
    | none => rw [hn] at h2; exact absurd h2 (by decide : ¬ (1 : Int32) = 2)
    | some q => rw [hn] at h2; exact absurd h2 (by decide : ¬ (3 : Int32) = 2)
  · rw [if_neg hd] at h2 ⊢
    by_cases hl : ¬ f_X2_isLetter (tx p) = 0
    · rw [if_pos hl] at h2 ⊢
      by_cases h16 : ¬ rnL tx n p ≤ 16
      · rw [if_pos h16] at h2
        exact absurd h2 (by decide : ¬ (1 : Int32) = 2)
      · rw [if_neg h16] at h2 ⊢
        cases hw : wIx tx p (rnL tx n p) with
        | some k =>
          rw [hw] at h2
          have := (fst1_some hw).2.2.1
          exact absurd h2 (nI_ne (a := 10 + k) (b := 2) (by omega) (by decide) (by omega))
        | none =>
          cases hx : nIx tx nm p (rnL tx n p) with
          | some k =>
            have := (fst1_some hx).2.2.1
            exact ⟨k, by simpa using this, rfl⟩
          | none => exact ⟨nm.length, by show nm.length < (nm ++ [(p, rnL tx n p)]).length; simp, rfl⟩
    · rw [if_neg hl] at h2 ⊢
      cases hs : sIx tx n p with
      | some k =>
        rw [hs] at h2
        have := (fst1_some hs).2.2.1
        exact absurd h2 (nI_ne (a := 40 + k) (b := 2) (by omega) (by decide) (by omega))
      | none => rw [hs] at h2; exact absurd h2 (by decide : ¬ (1 : Int32) = 2)
theorem tkOne_grow : nm.length ≤ (tkOne tx n p nm).2.2.2.length := by
  unfold tkOne
  by_cases hd : ¬ f_X2_isDigit (tx p) = 0
  · rw [if_pos hd]
    cases hn : nbT tx n p <;> exact Nat.le_refl _
  · rw [if_neg hd]
    by_cases hl : ¬ f_X2_isLetter (tx p) = 0
    · rw [if_pos hl]
      by_cases h16 : ¬ rnL tx n p ≤ 16
      · rw [if_pos h16]
        exact Nat.le_refl _
      · rw [if_neg h16]
        cases hw : wIx tx p (rnL tx n p) with
        | some k => exact Nat.le_refl _
        | none =>
          cases hx : nIx tx nm p (rnL tx n p) with
          | some k => exact Nat.le_refl _
          | none => show nm.length ≤ (nm ++ [(p, rnL tx n p)]).length; simp
    · rw [if_neg hl]
      cases hs : sIx tx n p <;> exact Nat.le_refl _
def TZ (n p : Nat) (nm : List (Nat × Nat)) (R : tkL × List (Nat × Nat)) : Prop := R.1.length ≤ n - p + 1 ∧ (∃ I l, R.1 = I ++ [l] ∧ (l.1 = 0 ∨ l.1 = 1) ∧ ∀ q ∈ I, ¬ q.1 = 0 ∧ ¬ q.1 = 1) ∧ nmIn n R.2 ∧ nm.length ≤ R.2.length ∧ R.2.length + 1 ≤ nm.length + R.1.length ∧ (∀ q ∈ R.1, q.1 = 2 → ∃ k, k < R.2.length ∧ q.2.1 = nI k) ∧ (∀ q ∈ R.1, p ≤ q.2.2 ∧ q.2.2 ≤ n) ∧ R.1.Pairwise fun a b => a.2.2 < b.2.2
theorem TZ_one {k : Int32} {s : Nat} (hk : k = 0 ∨ k = 1) (hs : p ≤ s) (hs2 : s ≤ n) (hn : nmIn n nm) : TZ n p nm ([(k, 0, s)], nm) := by
  refine ⟨by simp, ⟨[], (k, 0, s), rfl, hk, fun q hq => by simp at hq⟩, hn, Nat.le_refl _, by simp, fun q hq h2 => ?_, fun q hq => ?_, List.pairwise_singleton _ _⟩
  · rw [List.mem_singleton.mp hq] at h2
    rcases hk with rfl | rfl
    · exact absurd h2 (by decide : ¬ (0 : Int32) = 2)
    · exact absurd h2 (by decide : ¬ (1 : Int32) = 2)
  · rw [List.mem_singleton.mp hq]
    exact ⟨hs, hs2⟩
theorem tz_wf : ∀ (m p : Nat) (nm : List (Nat × Nat)), n - p ≤ m → p ≤ n → nmIn n nm → TZ n p nm (tz tx n p nm) := by
  intro m
  induction m with
  | zero =>
    intro p nm hm hp hn
    have hk := skR_le (tx := tx) (n := n) (n - p) p (Nat.le_refl _) hp
    by_cases h : (skR tx n p).1 = true
    · rw [tz_bad h]
      exact TZ_one (Or.inr rfl) hk.1 hk.2.1 hn
    · rw [tz_end h (by omega)]
      exact TZ_one (Or.inl rfl) hp (Nat.le_refl _) hn
  | succ m ih =>
    intro p nm hm hp hn
    have hk := skR_le (tx := tx) (n := n) (n - p) p (Nat.le_refl _) hp
    by_cases h : (skR tx n p).1 = true
    · rw [tz_bad h]
      exact TZ_one (Or.inr rfl) hk.1 hk.2.1 hn
    · by_cases h2 : (skR tx n p).2 < n
      · by_cases h3 : (tkOne tx n (skR tx n p).2 nm).1 = 1
        · rw [tz_none h h2 h3]
          exact TZ_one (Or.inr rfl) hk.1 hk.2.1 hn
        · rw [tz_more hp h h2 h3]
          have hl := tkOne_len h2 h3
          have hnm := tkOne_nm h2 hn h3
          have hg := tkOne_grow (tx := tx) (n := n) (p := (skR tx n p).2) (nm := nm)
          have h0 := tkOne_n0 (tx := tx) (n := n) (q := (skR tx n p).2) (nm := nm)
          have hv := tkOne_val (tx := tx) (n := n) (p := (skR tx n p).2) (nm := nm)
          have IH := ih ((skR tx n p).2 + (tkOne tx n (skR tx n p).2 nm).2.2.1) (tkOne tx n (skR tx n p).2 nm).2.2.2 (by omega) (by omega) hnm.1
          generalize tz tx n ((skR tx n p).2 + (tkOne tx n (skR tx n p).2 nm).2.2.1) (tkOne tx n (skR tx n p).2 nm).2.2.2 = R at IH ⊢
          generalize tkOne tx n (skR tx n p).2 nm = T at *
          generalize (skR tx n p).2 = s at *
          obtain ⟨i1, ⟨I, l, i2, i3, i4⟩, i5, i6, i7, i8, i9, i10⟩ := IH
          refine ⟨by simp only [List.length_cons]; omega, ⟨(T.1, T.2.1, s) :: I, l, by rw [i2]; rfl, i3, fun q hq => ?_⟩, i5, by show nm.length ≤ R.2.length; omega, by show R.2.length + 1 ≤ nm.length + (R.1.length + 1); omega, fun q hq z => ?_, fun q hq => ?_, ?_⟩
          · rcases List.mem_cons.mp hq with rfl | hq
            · exact ⟨h0, h3⟩
            · exact i4 q hq
          · rcases List.mem_cons.mp hq with rfl | hq
            · obtain ⟨k, k1, k2⟩ := hv z
              exact ⟨k, by show k < R.2.length; omega, k2⟩
            · exact i8 q hq z
          · rcases List.mem_cons.mp hq with rfl | hq
            · exact ⟨hk.1, hk.2.1⟩
            · have := i9 q hq
              omega
          · refine List.pairwise_cons.mpr ⟨fun q hq => ?_, i10⟩
            have := i9 q hq
            show s < q.2.2
            omega
      · rw [tz_end h h2]
        exact TZ_one (Or.inl rfl) hp (Nat.le_refl _) hn
theorem tK_mem {D : tkL} {t : Nat} (ht : t < D.length) : D.getD t (0, 0, 0) ∈ D := by
  rw [List.getD_eq_getElem?_getD, List.getElem?_eq_getElem ht]
  exact List.getElem_mem ht
theorem TZ.wf {R : tkL × List (Nat × Nat)} (h : TZ n 0 [] R) (hn : n ≤ 4000) : wfD R.1 ∧ nmIn n R.2 ∧ R.2.length ≤ 4000 ∧ nmK R.1 R.2 ∧ R.1.length ≤ n + 1 := by
  obtain ⟨i1, ⟨I, l, i2, i3, i4⟩, i5, i6, i7, i8, i9, i10⟩ := h
  have hlen : R.1.length = I.length + 1 := by rw [i2, List.length_append]; rfl
  refine ⟨⟨by omega, by omega, ?_, fun i hi => ?_⟩, i5, by simp at i7; omega, fun t ht => ?_, by omega⟩
  · have : tK R.1 (R.1.length - 1) = l.1 := by
      rw [hlen, Nat.add_sub_cancel, tK, i2, List.getD_eq_getElem?_getD, List.getElem?_append_right (Nat.le_refl _)]
      simp
    rw [this]
    exact i3
  · have hI : i < I.length := by omega
    have : tK R.1 i = (I.getD i (0, 0, 0)).1 := by
      rw [tK, i2, List.getD_eq_getElem?_getD, List.getElem?_append_left hI, ← List.getD_eq_getElem?_getD]
    rw [this]
    exact i4 _ (tK_mem hI)
  · by_cases hl : t < R.1.length
    · exact i8 _ (tK_mem hl) ht
    · have : tK R.1 t = 0 := by rw [tK, List.getD_eq_getElem?_getD, List.getElem?_eq_none (by omega)]; rfl
      rw [this] at ht
      exact absurd ht (by decide)
end TZ1
