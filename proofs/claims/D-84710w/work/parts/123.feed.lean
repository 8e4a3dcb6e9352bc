/-! ===== feed and end, on both sides ===== -/
set_option maxRecDepth 100000
/-- the k-th byte (from above) of an int, as the House keeps it -/
def fbyte (v : Int32) (k : Nat) : Int32 := (jishr v (24 - 8 * nI k)).toInt8.toInt32
/-- the tapes are alike -/
def xTape (A : xA) (x m : Nat) : Prop := ∃ n, n ≤ 4000 ∧ A.I x 1 = nI n ∧ A.I m 2 = nI n ∧ ∀ k, k < n → A.I (x + 1) k &&& 255 = A.I (m + 1) k
section FD
variable {G : xG} {A : xA} {x : Nat}
theorem s_X0_type (hH : xHs G A x) {n : Nat} (hn : n + 4 ≤ 4000) (h1 : A.I x 1 = nI n) {v : Int32} {Q : xA → Prop}
    (hQ : ∀ J : xII, J x 1 = nI (n + 4) → (∀ k, k < 4 → J (x + 1) (n + k) = fbyte v k) → (∀ a k, ¬ (a = x ∧ k = 1) → ¬ (a = x + 1 ∧ n ≤ k ∧ k < n + 4) → J a k = A.I a k) → Q (A.wI J)) : w_X0_type G x v Q A := by
  intro _
  refine ⟨fun q y B => ∃ (i : Nat) (J : xII), i ≤ 4 ∧ q = 4 - i ∧ y = 24 - 8 * nI i ∧ B = A.wI J ∧ J x 1 = nI (n + i) ∧ (∀ k, k < i → J (x + 1) (n + k) = fbyte v k) ∧ ∀ a k, ¬ (a = x ∧ k = 1) → ¬ (a = x + 1 ∧ n ≤ k ∧ k < n + i) → J a k = A.I a k, ⟨4, 0, A.I, by omega, rfl, by decide, rfl, h1, fun k hk => absurd hk (Nat.not_lt_zero _), fun a k _ _ => rfl⟩, ?_⟩
  rintro q y B ⟨i, J, hi, rfl, rfl, rfl, hJ1, hJ2, hJ3⟩
  have hy : (24 - 8 * nI i < 0) ↔ i = 4 := by
    have : ∀ i, i ≤ 4 → ((24 - 8 * nI i < 0) ↔ i = 4) := by decide
    exact this i hi
  refine ⟨fun h => ?_, fun h => ?_⟩
  · have := hy.mp h
    subst this
    exact hQ J hJ1 hJ2 hJ3
  · have hi4 : i < 4 := by
      rcases Nat.lt_or_ge i 4 with h' | h'
      · exact h'
      · exact absurd (hy.mpr (by omega)) h
    have hix : ix (nI (n + i)) = n + i := nI_clamp (by omega)
    have hbb : ∀ w : Int32, w.toInt8.toInt32.toInt8.toInt32 = w.toInt8.toInt32 := fun w => by
      rw [Int8.toInt8_toInt32]
    refine ⟨hs_t0 hH, x + 1, hs_P0_0 hH, hs_t1 hH, Nat.le_trans hH.1 (Nat.le_add_right _ _), ?_, ?_⟩
    · show vp_in (J x 1) (A.ln (x + 1))
      rw [hJ1, hs_n1 hH]
      exact vp_in_nI (by omega) (by decide)
    · rintro _ rfl _ rfl
      refine ⟨4 - (i + 1), by omega, i + 1, xup (xup J (x + 1) (n + i) (fbyte v i)) x 1 (nI (n + (i + 1))), by omega, rfl, ?_, ?_, xup_s, fun k hk => ?_, fun a k q1 q2 => ?_⟩
      · have : ∀ i, i < 4 → 24 - 8 * nI i + (-8) = 24 - 8 * nI (i + 1) := by decide
        exact this i hi4
      · show (((A.wI J).setI (x + 1) (ix (J x 1)) _).setI x 1 (J x 1 + 1)) = _
        rw [hJ1, hix, hbb]
        show A.wI (xup (xup J (x + 1) (n + i) (fbyte v i)) x 1 (nI (n + i) + 1)) = _
        rw [show nI (n + i) + 1 = nI (n + (i + 1)) from nI_1 _]
      · rw [xup_a (by omega)]
        rcases Nat.lt_or_ge k i with h' | h'
        · rw [xup_k (by omega)]
          exact hJ2 k h'
        · have : k = i := by omega
          subst this
          exact xup_s
      · have e1 : xup (xup J (x + 1) (n + i) (fbyte v i)) x 1 (nI (n + (i + 1))) a k = xup J (x + 1) (n + i) (fbyte v i) a k := by
          unfold xup
          rw [if_neg q1]
        rw [e1]
        have e2 : xup J (x + 1) (n + i) (fbyte v i) a k = J a k := by
          unfold xup
          rw [if_neg (by rintro ⟨rfl, rfl⟩; exact q2 ⟨rfl, by omega, by omega⟩)]
        rw [e2]
        exact hJ3 a k q1 (by rintro ⟨h1, h2, h3⟩; exact q2 ⟨h1, h2, by omega⟩)
end FD
def fsel (a b c d e : Int32) (k : Nat) : Int32 := if k < 4 then a else if k < 8 then b else if k < 12 then c else if k < 16 then d else e
section FD2
variable {G : xG} {A : xA} {x : Nat}
theorem s_X0_feed (hH : xHs G A x) {n : Nat} (hn : n ≤ 4000) (h1 : A.I x 1 = nI n) {a b c d e : Int32} {Q : Int32 → xA → Prop} (hq0 : ¬ n + 20 ≤ 4000 → Q (-1) A)
    (hq1 : n + 20 ≤ 4000 → ∀ J : xII, J x 1 = nI (n + 20) → (∀ k, k < 20 → J (x + 1) (n + k) = fbyte (fsel a b c d e k) (k % 4)) → (∀ z k, ¬ (z = x ∧ k = 1) → ¬ (z = x + 1 ∧ n ≤ k ∧ k < n + 20) → J z k = A.I z k) → Q (nI (n + 20)) (A.wI J)) : w_X0_feed G x a b c d e Q A := by
  intro _
  have hcmp : (A.I x 1 + 20 ≤ 4000) ↔ n + 20 ≤ 4000 := by
    rw [h1, show (20 : Int32) = nI 20 from rfl, show (4000 : Int32) = nI 4000 from rfl, nI_add]
    exact nI_leI (by omega) (by decide)
  refine ⟨hs_t0 hH, fun h => ?_, fun h => hq0 fun q => h (hcmp.mpr q)⟩
  have hn20 := hcmp.mp h
  refine ⟨_, s_X0_type hH (n := n) (by omega) h1 (v := a) (Q := fun B => ∃ J : xII, B = A.wI J ∧ J x 1 = nI (n + 4) ∧ (∀ k, k < 4 → J (x + 1) (n + k) = fbyte a k) ∧ ∀ z k, ¬ (z = x ∧ k = 1) → ¬ (z = x + 1 ∧ n ≤ k ∧ k < n + 4) → J z k = A.I z k) (fun J e1 e2 e3 => ⟨J, rfl, e1, e2, e3⟩), ?_⟩
  rintro _ _ ⟨J1, rfl, a1, a2, a3⟩
  refine ⟨hs_t0 hH, _, s_X0_type (A := A.wI J1) hH (n := n + 4) (by omega) a1 (v := b) (Q := fun B => ∃ J : xII, B = A.wI J ∧ J x 1 = nI (n + 8) ∧ (∀ k, k < 4 → J (x + 1) (n + 4 + k) = fbyte b k) ∧ ∀ z k, ¬ (z = x ∧ k = 1) → ¬ (z = x + 1 ∧ n + 4 ≤ k ∧ k < n + 4 + 4) → J z k = J1 z k) (fun J e1 e2 e3 => ⟨J, rfl, e1, e2, e3⟩), ?_⟩
  rintro _ _ ⟨J2, rfl, b1, b2, b3⟩
  refine ⟨hs_t0 hH, _, s_X0_type (A := A.wI J2) hH (n := n + 8) (by omega) b1 (v := c) (Q := fun B => ∃ J : xII, B = A.wI J ∧ J x 1 = nI (n + 12) ∧ (∀ k, k < 4 → J (x + 1) (n + 8 + k) = fbyte c k) ∧ ∀ z k, ¬ (z = x ∧ k = 1) → ¬ (z = x + 1 ∧ n + 8 ≤ k ∧ k < n + 8 + 4) → J z k = J2 z k) (fun J e1 e2 e3 => ⟨J, rfl, e1, e2, e3⟩), ?_⟩
  rintro _ _ ⟨J3, rfl, c1, c2, c3⟩
  refine ⟨hs_t0 hH, _, s_X0_type (A := A.wI J3) hH (n := n + 12) (by omega) c1 (v := d) (Q := fun B => ∃ J : xII, B = A.wI J ∧ J x 1 = nI (n + 16) ∧ (∀ k, k < 4 → J (x + 1) (n + 12 + k) = fbyte d k) ∧ ∀ z k, ¬ (z = x ∧ k = 1) → ¬ (z = x + 1 ∧ n + 12 ≤ k ∧ k < n + 12 + 4) → J z k = J3 z k) (fun J e1 e2 e3 => ⟨J, rfl, e1, e2, e3⟩), ?_⟩
  rintro _ _ ⟨J4, rfl, d1, d2, d3⟩
  refine ⟨hs_t0 hH, _, s_X0_type (A := A.wI J4) hH (n := n + 16) (by omega) d1 (v := e) (Q := fun B => ∃ J : xII, B = A.wI J ∧ J x 1 = nI (n + 20) ∧ (∀ k, k < 4 → J (x + 1) (n + 16 + k) = fbyte e k) ∧ ∀ z k, ¬ (z = x ∧ k = 1) → ¬ (z = x + 1 ∧ n + 16 ≤ k ∧ k < n + 16 + 4) → J z k = J4 z k) (fun J e1 e2 e3 => ⟨J, rfl, e1, e2, e3⟩), ?_⟩
  rintro _ _ ⟨J5, rfl, e1, e2, e3⟩
  refine ⟨hs_t0 hH, ?_⟩
  show Q (J5 x 1) (A.wI J5)
  rw [e1]
  refine hq1 hn20 J5 e1 (fun k hk => ?_) (fun z k q1 q2 => ?_)
  · have hx : ¬ x + 1 = x := by omega
    rcases Nat.lt_or_ge k 4 with h4 | h4
    · rw [e3 _ _ (by omega) (by omega), d3 _ _ (by omega) (by omega), c3 _ _ (by omega) (by omega), b3 _ _ (by omega) (by omega), a2 k h4]
      simp [fsel, h4, Nat.mod_eq_of_lt h4]
    · rcases Nat.lt_or_ge k 8 with h8 | h8
      · have := b2 (k - 4) (by omega)
        rw [show n + 4 + (k - 4) = n + k by omega] at this
        rw [e3 _ _ (by omega) (by omega), d3 _ _ (by omega) (by omega), c3 _ _ (by omega) (by omega), this, show k % 4 = k - 4 by omega]
        simp [fsel, h8, Nat.not_lt.mpr h4]
      · rcases Nat.lt_or_ge k 12 with h12 | h12
        · have := c2 (k - 8) (by omega)
          rw [show n + 8 + (k - 8) = n + k by omega] at this
          rw [e3 _ _ (by omega) (by omega), d3 _ _ (by omega) (by omega), this, show k % 4 = k - 8 by omega]
          simp [fsel, h12, Nat.not_lt.mpr h4, Nat.not_lt.mpr h8]
        · rcases Nat.lt_or_ge k 16 with h16 | h16
          · have := d2 (k - 12) (by omega)
            rw [show n + 12 + (k - 12) = n + k by omega] at this
            rw [e3 _ _ (by omega) (by omega), this, show k % 4 = k - 12 by omega]
            simp [fsel, h16, Nat.not_lt.mpr h4, Nat.not_lt.mpr h8, Nat.not_lt.mpr h12]
          · have := e2 (k - 16) (by omega)
            rw [show n + 16 + (k - 16) = n + k by omega] at this
            rw [this, show k % 4 = k - 16 by omega]
            simp [fsel, Nat.not_lt.mpr h4, Nat.not_lt.mpr h8, Nat.not_lt.mpr h12, Nat.not_lt.mpr h16]
  · rw [e3 z k q1 (by omega), d3 z k q1 (by omega), c3 z k q1 (by omega), b3 z k q1 (by omega), a3 z k q1 (by omega)]
theorem s_X0_end (hH : xHs G A x) {n : Nat} (h1 : A.I x 1 = nI n) (hn : n ≤ 4000) {v : Int32} {Q : Int32 → xA → Prop} (hq0 : (v < 0 ∨ ¬ v ≤ nI n) → Q (-1) A) (hq1 : ¬ v < 0 → v ≤ nI n → Q v (A.wI (xup A.I x 1 v))) : w_X0_end G x v Q A := by
  intro _
  refine ⟨fun h => hq0 (Or.inl h), fun h => ⟨hs_t0 hH, fun q => ?_, fun q => hq0 (Or.inr (by rw [← h1]; exact q))⟩⟩
  rintro _ rfl
  exact hq1 h (by rw [← h1]; exact q)
end FD2
/-! the Model -/
theorem s_X13_feed {m n : Nat} {I : xII} (hn : n ≤ 4000) (h1 : I m 2 = nI n) {a b c d e : Int32} {Q : Int32 → xII → Prop} (hq0 : ¬ n + 20 ≤ 4000 → Q (-1) I)
    (hq1 : n + 20 ≤ 4000 → ∀ J : xII, J m 2 = nI (n + 20) → (∀ k, k < 20 → J (m + 1) (n + k) = jishr (fsel a b c d e k) (24 - 8 * nI (k % 4)) &&& 255) → (∀ z k, ¬ (z = m ∧ k = 2) → ¬ (z = m + 1 ∧ n ≤ k ∧ k < n + 20) → J z k = I z k) → Q (nI (n + 20)) J) : w_X13_feed m a b c d e Q I := by
  have hcmp : (I m 2 + 20 ≤ 4000) ↔ n + 20 ≤ 4000 := by
    rw [h1, show (20 : Int32) = nI 20 from rfl, show (4000 : Int32) = nI 4000 from rfl, nI_add]
    exact nI_leI (by omega) (by decide)
  refine ⟨fun h => ?_, fun h => hq0 fun q => h (hcmp.mpr q)⟩
  have hn20 := hcmp.mp h
  refine ⟨fun q y J => ∃ i : Nat, i ≤ 20 ∧ q = 20 - i ∧ y = nI i ∧ (∀ k, k < i → J (m + 1) (n + k) = jishr (fsel a b c d e k) (24 - 8 * nI (k % 4)) &&& 255) ∧ ∀ z k, ¬ (z = m + 1 ∧ n ≤ k ∧ k < n + i) → J z k = I z k, ⟨20, 0, by omega, rfl, rfl, fun k hk => absurd hk (Nat.not_lt_zero _), fun _ _ _ => rfl⟩, ?_⟩
  rintro q y J ⟨i, hi, rfl, rfl, hJ1, hJ2⟩
  have hm2 : J m 2 = nI n := by rw [hJ2 m 2 (by omega), h1]
  have hle : (20 : Int32) ≤ nI i ↔ 20 ≤ i := by
    rw [show (20 : Int32) = nI 20 from rfl]
    exact nI_leI (by decide) (by omega)
  refine ⟨fun h => ?_, fun h => ?_⟩
  · have hi20 : i = 20 := by have := hle.mp h; omega
    subst hi20
    rintro _ rfl
    rw [hm2, show nI n + (20 : Int32) = nI (n + 20) from nI_add n 20]
    refine hq1 hn20 _ xup_s (fun k hk => ?_) (fun z k q1 q2 => ?_)
    · rw [xup_a (by omega)]
      exact hJ1 k hk
    · unfold xup
      rw [if_neg q1]
      exact hJ2 z k q2
  · have hi20 : i < 20 := by
      rcases Nat.lt_or_ge i 20 with h' | h'
      · exact h'
      · exact absurd (hle.mpr h') h
    rw [hm2, show nI n + nI i = nI (n + i) from nI_add _ _]
    refine ⟨vp_in_nI (by omega) (by decide), ?_⟩
    rintro _ rfl
    refine ⟨20 - (i + 1), by omega, i + 1, by omega, rfl, nI_1 i, fun k hk => ?_, fun z k q2 => ?_⟩
    · rw [show ix (nI (n + i)) = n + i from nI_clamp (by omega)]
      rcases Nat.lt_or_ge k i with h' | h'
      · rw [xup_k (by omega)]
        exact hJ1 k h'
      · have hki : k = i := by omega
        subst hki
        rw [xup_s]
        have hr : irem_ (nI k) 4 = nI (k % 4) := by
          have : ∀ k, k < 20 → irem_ (nI k) 4 = nI (k % 4) := by decide
          exact this k hi20
        rw [hr]
        have hs : (if (4 : Int32) ≤ nI k then (if (8 : Int32) ≤ nI k then (if (12 : Int32) ≤ nI k then (if (16 : Int32) ≤ nI k then e else d) else c) else b) else a) = fsel a b c d e k := by
          have h4 : (4 : Int32) ≤ nI k ↔ 4 ≤ k := nI_leI (a := 4) (by decide) (by omega)
          have h8 : (8 : Int32) ≤ nI k ↔ 8 ≤ k := nI_leI (a := 8) (by decide) (by omega)
          have h12 : (12 : Int32) ≤ nI k ↔ 12 ≤ k := nI_leI (a := 12) (by decide) (by omega)
          have h16 : (16 : Int32) ≤ nI k ↔ 16 ≤ k := nI_leI (a := 16) (by decide) (by omega)
          simp only [h4, h8, h12, h16, fsel]
          (repeat' split) <;> first | rfl | omega
        rw [hs]
    · rw [show ix (nI (n + i)) = n + i from nI_clamp (by omega)]
      unfold xup
      rw [if_neg (by rintro ⟨rfl, rfl⟩; exact q2 ⟨rfl, by omega, by omega⟩)]
      exact hJ2 z k (by rintro ⟨h1, h2, h3⟩; exact q2 ⟨h1, h2, by omega⟩)
theorem s_X13_end {m n : Nat} {I : xII} (h1 : I m 2 = nI n) {v : Int32} {Q : Int32 → xII → Prop} (hq0 : (v < 0 ∨ ¬ v ≤ nI n) → Q (-1) I) (hq1 : ¬ v < 0 → v ≤ nI n → Q v (xup I m 2 v)) : w_X13_end m v Q I := by
  refine ⟨fun h => hq0 (Or.inl h), fun h => ⟨fun q => ?_, fun q => hq0 (Or.inr (by rw [← h1]; exact q))⟩⟩
  rintro _ rfl
  exact hq1 h (by rw [← h1]; exact q)
