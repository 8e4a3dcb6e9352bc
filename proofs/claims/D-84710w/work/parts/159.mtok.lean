/-! ===== the Model's tokens: at, skip, placeIn ===== -/
set_option maxRecDepth 100000
def mAt (tx : Nat → Int32) (n k : Nat) : Int32 := if k < n then tx k else 0
theorem mAt_lt {tx : Nat → Int32} {n k : Nat} (h : k < n) : mAt tx n k = tx k := if_pos h
theorem mAt_ge {tx : Nat → Int32} {n k : Nat} (h : ¬ k < n) : mAt tx n k = 0 := if_neg h
theorem mAt_now {tx : Nat → Int32} {n k : Nat} {c : Int32} (h0 : ¬ c = 0) (h1 : ¬ c = -1) : mAt tx n k = c ↔ hNow tx n k = c := by
  by_cases h : k < n
  · rw [mAt_lt h, hNow_lt h]
  · rw [mAt_ge h, hNow_ge h]
    exact ⟨fun z => absurd z.symm h0, fun z => absurd z.symm h1⟩
/-- the text lies in the Model -/
def mTx (I : xII) (m n : Nat) (tx : Nat → Int32) : Prop := I m 3 = nI n ∧ n ≤ 4000 ∧ ∀ k, k < n → I (m + 2) k = tx k
section MT
variable {m n q : Nat} {I : xII} {tx : Nat → Int32}
theorem s_X13_at (h : mTx I m n tx) {k : Nat} (hk : k < 1000000) {Q : Int32 → xII → Prop} (hQ : Q (mAt tx n k) I) : w_X13_at m (nI k) Q I := by
  obtain ⟨h3, hn, hb⟩ := h
  unfold w_X13_at
  rw [h3]
  have hle : nI n ≤ nI k ↔ n ≤ k := nI_leI (by omega) (by omega)
  refine ⟨fun c => ?_, fun c => ⟨?_, ?_⟩⟩
  · rw [mAt_ge (by have := hle.mp c; omega)] at hQ
    exact hQ
  · exact vp_in_nI (by have : ¬ n ≤ k := fun z => c (hle.mpr z); omega) (by decide)
  · have : k < n := by have : ¬ n ≤ k := fun z => c (hle.mpr z); omega
    rw [show ix (nI k) = k from nI_clamp (by omega), hb k this]
    rw [mAt_lt this] at hQ
    exact hQ
theorem s_at (h : mTx I m n tx) {k : Nat} {c : Int32} (hc : c = nI k) (hk : k < 1000000) : w_X13_at m c (fun v J => v = mAt tx n k ∧ I = J) I := by
  subst hc
  exact s_X13_at h hk ⟨rfl, rfl⟩
theorem s_X13_skip (h : mTx I m n tx) (hq : q ≤ n) {Q : Int32 → xII → Prop} (hQ1 : ∀ b, skR tx n q = (true, b) → Q (-1) (xup I m 8 (nI b))) (hQ0 : ∀ b, skR tx n q = (false, b) → Q (nI b) I) : w_X13_skip m (nI q) Q I := by
  have hn : n ≤ 4000 := h.2.1
  have h3 : I m 3 = nI n := h.1
  refine ⟨fun z y J => ∃ j, q ≤ j ∧ j ≤ n ∧ z = n - j ∧ y = nI j ∧ skR tx n j = skR tx n q ∧ I = J, ⟨n - q, q, Nat.le_refl _, hq, rfl, rfl, rfl, rfl⟩, ?_⟩
  rintro _ _ _ ⟨j, hj1, hj2, rfl, rfl, hj3, rfl⟩
  have back : ∀ {j' : Nat} {y : Int32}, y = nI j' → j < j' → j' ≤ n → skR tx n j' = skR tx n j → ∃ q1, q1 < n - j ∧ ∃ j, q ≤ j ∧ j ≤ n ∧ q1 = n - j ∧ y = nI j ∧ skR tx n j = skR tx n q ∧ I = I := fun {j'} {y} e g1 g2 g3 => ⟨n - j', by omega, j', by omega, g2, rfl, e, g3.trans hj3, rfl⟩
  rw [h3]
  have hle : nI n ≤ nI j ↔ n ≤ j := nI_leI (by omega) (by omega)
  refine ⟨fun c => hQ0 j ?_, fun c => ?_⟩
  · rw [← hj3]
    exact skR_ge (by have := hle.mp c; omega)
  have hjn : j < n := by have : ¬ n ≤ j := fun z => c (hle.mpr z); omega
  have hat : mAt tx n j = tx j := mAt_lt hjn
  have stop : ¬ tx j = 10 → ¬ tx j = 32 → ¬ (tx j = 47 ∧ (hNow tx n (j + 1) = 47 ∨ hNow tx n (j + 1) = 42)) → Q (nI j) I := by
    intro n1 n2 n3
    refine hQ0 j ?_
    rw [← hj3]
    exact skR_stop (fun z => z.elim n1 n2) n3
  refine ⟨_, s_at h (k := j) rfl (by omega), ?_⟩
  rintro _ _ ⟨rfl, rfl⟩
  rw [hat]
  refine ⟨fun e1 => back (nI_1 j) (by omega) (by omega) (skR_blank hjn (Or.inl e1)).symm, fun e1 => ⟨_, s_at h (k := j) rfl (by omega), ?_⟩⟩
  rintro _ _ ⟨rfl, rfl⟩
  rw [hat]
  refine ⟨fun e2 => back (nI_1 j) (by omega) (by omega) (skR_blank hjn (Or.inr e2)).symm, fun e2 => ⟨_, s_at h (k := j) rfl (by omega), ?_⟩⟩
  rintro _ _ ⟨rfl, rfl⟩
  rw [hat]
  refine ⟨fun e3 => ⟨_, s_at h (k := j + 1) (nI_1 j) (by omega), ?_⟩, fun e3 => ⟨_, s_at h (k := j) rfl (by omega), ?_⟩⟩
  · rintro _ _ ⟨rfl, rfl⟩
    rw [mAt_now (by decide) (by decide)]
    refine ⟨fun e4 => ?_, fun e4 => ⟨_, s_at h (k := j) rfl (by omega), ?_⟩⟩
    · -- a line
      have h2 : j + 2 ≤ n := by
        by_cases z : j + 1 < n
        · omega
        · rw [hNow_ge z] at e4
          exact absurd e4 (by decide)
      have t1 : tx (j + 1) = 47 := by rw [hNow_lt (by omega)] at e4; exact e4
      have r2 : run1 (fun k => decide (¬ tx k = 10)) n j = 2 + run1 (fun k => decide (¬ tx k = 10)) n (j + 2) := by
        have q1 : run1 (fun k => decide (¬ tx k = 10)) n j = run1 (fun k => decide (¬ tx k = 10)) n (j + 1) + 1 := run1_lt hjn (decide_eq_true e1)
        have q2 : run1 (fun k => decide (¬ tx k = 10)) n (j + 1) = run1 (fun k => decide (¬ tx k = 10)) n (j + 2) + 1 := run1_lt (show j + 1 < n by omega) (decide_eq_true (by rw [t1]; decide))
        omega
      have hr := skR_line hjn e3 e4
      have hl := run1_le (P := fun k => decide (¬ tx k = 10)) (n := n) (n - (j + 2)) (p := j + 2) rfl h2
      refine ⟨fun z y J => ∃ i, j ≤ i ∧ i ≤ n ∧ z = n - i ∧ y = nI i ∧ i + run1 (fun k => decide (¬ tx k = 10)) n i = j + 2 + run1 (fun k => decide (¬ tx k = 10)) n (j + 2) ∧ I = J, ⟨n - j, j, Nat.le_refl _, by omega, rfl, rfl, by rw [r2]; omega, rfl⟩, ?_⟩
      rintro _ _ _ ⟨i, hi1, hi2, rfl, rfl, hi3, rfl⟩
      rw [h3]
      have hli : nI n ≤ nI i ↔ n ≤ i := nI_leI (by omega) (by omega)
      have out : run1 (fun k => decide (¬ tx k = 10)) n i = 0 → ∃ q1, q1 < n - j ∧ ∃ j, q ≤ j ∧ j ≤ n ∧ q1 = n - j ∧ nI i = nI j ∧ skR tx n j = skR tx n q ∧ I = I := by
        intro z
        rw [z] at hi3
        refine back rfl (by omega) hi2 ?_
        rw [hr, ← hi3, Nat.add_zero]
      refine ⟨fun c => out (run1_ge (hli.mp c)), fun c => ⟨_, s_at h (k := i) rfl (by omega), ?_⟩⟩
      have hin : i < n := by have : ¬ n ≤ i := fun z => c (hli.mpr z); omega
      rintro _ _ ⟨rfl, rfl⟩
      rw [mAt_lt hin]
      refine ⟨fun e => out (run1_no (decide_eq_false (fun z => z e))), fun e => ⟨n - (i + 1), by omega, i + 1, by omega, by omega, rfl, nI_1 i, ?_, rfl⟩⟩
      rw [run1_lt hin (decide_eq_true e)] at hi3
      omega
    · rintro _ _ ⟨rfl, rfl⟩
      rw [hat]
      refine ⟨fun _ => ⟨_, s_at h (k := j + 1) (nI_1 j) (by omega), ?_⟩, fun z => absurd e3 z⟩
      rintro _ _ ⟨rfl, rfl⟩
      rw [mAt_now (by decide) (by decide)]
      refine ⟨fun e5 => ?_, fun e5 => stop e1 e2 (fun z => z.2.elim e4 e5)⟩
      -- a note
      have h2 : j + 2 ≤ n := by
        by_cases z : j + 1 < n
        · omega
        · rw [hNow_ge z] at e5
          exact absurd e5 (by decide)
      have hr := skR_note hjn e3 e5
      have hl := run1_le (P := fun k => decide (¬ (tx k = 42 ∧ hNow tx n (k + 1) = 47))) (n := n) (n - (j + 2)) (p := j + 2) rfl h2
      refine ⟨fun z y J => ∃ i, j + 2 ≤ i ∧ i ≤ n ∧ z = n - i ∧ y = nI i ∧ i + run1 (fun k => decide (¬ (tx k = 42 ∧ hNow tx n (k + 1) = 47))) n i = j + 2 + run1 (fun k => decide (¬ (tx k = 42 ∧ hNow tx n (k + 1) = 47))) n (j + 2) ∧ I = J, ⟨n - (j + 2), j + 2, Nat.le_refl _, by omega, rfl, nI_add j 2, rfl, rfl⟩, ?_⟩
      rintro _ _ _ ⟨i, hi1, hi2, rfl, rfl, hi3, rfl⟩
      rw [h3]
      have hli : nI n ≤ nI i ↔ n ≤ i := nI_leI (by omega) (by omega)
      have hlt : nI i < nI n ↔ i < n := nI_ltI (by omega) (by omega)
      refine ⟨fun J => run1 (fun k => decide (¬ (tx k = 42 ∧ hNow tx n (k + 1) = 47))) n i = 0 ∧ I = J, ?_, fun c => ⟨run1_ge (hli.mp c), rfl⟩, fun c => ⟨_, s_at h (k := i) rfl (by omega), ?_⟩⟩
      · rintro _ ⟨z, rfl⟩
        rw [h3]
        rw [z] at hi3
        refine ⟨fun c => ?_, fun c => ?_⟩
        · have hin := hlt.mp c
          rw [← hi3, Nat.add_zero, if_neg (by omega)] at hr
          have ht := run1_out (P := fun k => decide (¬ (tx k = 42 ∧ hNow tx n (k + 1) = 47))) (n := n) (n - (j + 2)) (p := j + 2) rfl (by omega)
          rw [← hi3, Nat.add_zero] at ht
          have ht2 := Classical.not_not.mp (of_decide_eq_false ht)
          have hi4 : i + 1 < n := by
            by_cases y : i + 1 < n
            · exact y
            · rw [hNow_ge y] at ht2
              exact absurd ht2.2 (by decide)
          exact back (nI_add i 2) (by omega) (by omega) hr.symm
        · rintro _ rfl
          have : i = n := by have : ¬ i < n := fun z => c (hlt.mpr z); omega
          subst this
          rw [← hi3, Nat.add_zero, if_pos (Nat.le_refl _)] at hr
          exact hQ1 j (by rw [← hj3, hr])
      · have hin : i < n := by have : ¬ n ≤ i := fun z => c (hli.mpr z); omega
        have more : ¬ (tx i = 42 ∧ hNow tx n (i + 1) = 47) → ∃ q15, q15 < n - i ∧ ∃ i', j + 2 ≤ i' ∧ i' ≤ n ∧ q15 = n - i' ∧ nI i + 1 = nI i' ∧ i' + run1 (fun k => decide (¬ (tx k = 42 ∧ hNow tx n (k + 1) = 47))) n i' = j + 2 + run1 (fun k => decide (¬ (tx k = 42 ∧ hNow tx n (k + 1) = 47))) n (j + 2) ∧ I = I := by
          intro e
          refine ⟨n - (i + 1), by omega, i + 1, by omega, by omega, rfl, nI_1 i, ?_, rfl⟩
          rw [run1_lt hin (decide_eq_true (p := ¬ (tx i = 42 ∧ hNow tx n (i + 1) = 47)) e)] at hi3
          omega
        rintro _ _ ⟨rfl, rfl⟩
        rw [mAt_lt hin]
        refine ⟨fun f1 => ⟨_, s_at h (k := i + 1) (nI_1 i) (by omega), ?_⟩, fun f1 => more (fun z => f1 z.1)⟩
        rintro _ _ ⟨rfl, rfl⟩
        rw [mAt_now (by decide) (by decide)]
        exact ⟨fun f2 => ⟨run1_no (decide_eq_false (fun z => z ⟨f1, f2⟩)), rfl⟩, fun f2 => more (fun z => f2 z.2)⟩
  · rintro _ _ ⟨rfl, rfl⟩
    rw [hat]
    exact ⟨fun z => absurd z e3, fun _ => stop e1 e2 (fun z => e3 z.1)⟩
end MT
/-- the words of the Model's rows -/
def sgH (j : Nat) : Nat := if j = 1 then 3 else if j = 2 then 1 else if j = 3 then 2 else j
def rW (r j : Nat) : List Int32 := if r = 61 then strB j else strB (15 + sgH j)
def rN (r : Nat) : Nat := if r = 61 then 15 else 45
def rO (r : Nat) : Nat → Nat
  | 0 => 1
  | j + 1 => rO r j + (rW r j).length + 1
theorem rW_61 : (∀ j, j < rN 61 → ∀ i, i < (rW 61 j).length → strC 61 (rO 61 j + i) = (rW 61 j).getD i 0 ∧ ¬ (rW 61 j).getD i 0 = 32) ∧ (∀ j, j < rN 61 → strC 61 (rO 61 j + (rW 61 j).length) = 32 ∧ 1 ≤ (rW 61 j).length ∧ rO 61 j + (rW 61 j).length < (strB 61).length) ∧ rO 61 (rN 61) = (strB 61).length ∧ (strB 61).length < 1000 := by decide +kernel
theorem rW_62 : (∀ j, j < rN 62 → ∀ i, i < (rW 62 j).length → strC 62 (rO 62 j + i) = (rW 62 j).getD i 0 ∧ ¬ (rW 62 j).getD i 0 = 32) ∧ (∀ j, j < rN 62 → strC 62 (rO 62 j + (rW 62 j).length) = 32 ∧ 1 ≤ (rW 62 j).length ∧ rO 62 j + (rW 62 j).length < (strB 62).length) ∧ rO 62 (rN 62) = (strB 62).length ∧ (strB 62).length < 1000 := by decide +kernel
theorem rW_ok {r : Nat} (h : r = 61 ∨ r = 62) : (∀ j, j < rN r → ∀ i, i < (rW r j).length → strC r (rO r j + i) = (rW r j).getD i 0 ∧ ¬ (rW r j).getD i 0 = 32) ∧ (∀ j, j < rN r → strC r (rO r j + (rW r j).length) = 32 ∧ 1 ≤ (rW r j).length ∧ rO r j + (rW r j).length < (strB r).length) ∧ rO r (rN r) = (strB r).length ∧ (strB r).length < 1000 := by
  rcases h with rfl | rfl
  · exact rW_61
  · exact rW_62
def isRw (tx : Nat → Int32) (n p l : Nat) (w : List Int32) : Bool := decide (w.length = l ∧ ∀ i, i < l → mAt tx n (p + i) = w.getD i 0)
def rIx (tx : Nat → Int32) (n r p l : Nat) : Option Nat := fst1 (fun j => isRw tx n p l (rW r j)) (rN r) 0
def oIx (o : Option Nat) : Int32 := match o with
  | none => -1
  | some k => nI k
section MP
variable {m n p l r : Nat} {I : xII} {tx : Nat → Int32}
theorem rO_lt (h : r = 61 ∨ r = 62) {j : Nat} (hj : j < rN r) : rO r j < (strB r).length := by
  have := (rW_ok h).2.1 j hj
  omega
theorem fst1_at {P : Nat → Bool} {c k : Nat} {o : Option Nat} (hf : fst1 P (c + 1) k = o) : (P k = true → o = some k) ∧ (P k = false → fst1 P c (k + 1) = o) := ⟨fun h => by rw [← hf]; exact fst1_yes h, fun h => by rw [← hf]; exact (fst1_no h).symm⟩
theorem s_X13_placeIn (h : mTx I m n tx) (hr : r = 61 ∨ r = 62) (hp : p ≤ 5000) (hl : l ≤ 5000) : w_X13_placeIn m r (nI p) (nI l) (fun v J => oIx (rIx tx n r p l) = v ∧ I = J) I := by
  obtain ⟨w1, w2, w3, w4⟩ := rW_ok hr
  have hrN : rN r ≤ 45 := by rcases hr with rfl | rfl <;> decide
  refine ⟨fun z y w J => ∃ j, j ≤ rN r ∧ z = rN r - j ∧ y = nI (rO r j) ∧ w = nI j ∧ I = J ∧ fst1 (fun j => isRw tx n p l (rW r j)) (rN r - j) j = rIx tx n r p l, ⟨rN r, 0, by omega, rfl, rfl, rfl, rfl, rfl⟩, ?_⟩
  rintro _ _ _ _ ⟨j, hj, rfl, rfl, rfl, rfl, hf⟩
  refine ⟨by rcases hr with rfl | rfl <;> decide, ?_⟩
  by_cases hjn : j = rN r
  · subst hjn
    rw [w3]
    refine ⟨fun _ => ?_, fun z => absurd (Int32.le_refl _) z⟩
    rw [Nat.sub_self, fst1] at hf
    rw [← hf]
    exact ⟨rfl, rfl⟩
  have hj' : j < rN r := by omega
  have hlt := rO_lt hr hj'
  obtain ⟨e32, lpos, lend⟩ := w2 j hj'
  have ch := w1 j hj'
  refine ⟨fun z => ?_, fun _ => ?_⟩
  · have := (nI_leI (by omega) (by omega)).mp z
    omega
  rw [show rN r - j = (rN r - (j + 1)) + 1 by omega] at hf
  obtain ⟨f1, f2⟩ := fst1_at hf
  have hO1 : rO r (j + 1) = rO r j + (rW r j).length + 1 := rfl
  have nxt : isRw tx n p l (rW r j) = false → ∃ L6 : Nat → Int32 → xII → Prop, (∃ n6 : Nat, L6 n6 (nI (rO r j)) I) ∧ (∀ (n6 : Nat) (y6_4 : Int32) (I6 : xII), L6 n6 y6_4 I6 → vp_in y6_4 (strB r).length ∧ (((strC r (ix y6_4)) = (32 : Int32) → (∃ q1 : Nat, q1 < rN r - j ∧ ∃ j_1, j_1 ≤ rN r ∧ q1 = rN r - j_1 ∧ y6_4 + (1 : Int32) = nI (rO r j_1) ∧ nI j + 1 = nI j_1 ∧ I = I6 ∧ fst1 (fun j => isRw tx n p l (rW r j)) (rN r - j_1) j_1 = rIx tx n r p l)) ∧ (¬ (strC r (ix y6_4)) = (32 : Int32) → (∃ q6 : Nat, q6 < n6 ∧ L6 q6 (y6_4 + (1 : Int32)) I6)))) := by
    intro hF
    refine ⟨fun z y J => ∃ i, i ≤ (rW r j).length ∧ y = nI (rO r j + i) ∧ z = (rW r j).length - i ∧ I = J, ⟨_, 0, Nat.zero_le _, rfl, rfl, rfl⟩, ?_⟩
    rintro _ _ _ ⟨i, hi, rfl, rfl, rfl⟩
    rw [show ix (nI (rO r j + i)) = rO r j + i from nI_clamp (by omega)]
    refine ⟨vp_in_nI (by omega) (by omega), fun q => ?_, fun q => ?_⟩
    · have hil : i = (rW r j).length := by
        rcases Nat.lt_or_ge i (rW r j).length with z | z
        · have := ch i z
          rw [q] at this
          exact absurd this.1.symm this.2
        · omega
      refine ⟨rN r - (j + 1), by omega, j + 1, by omega, rfl, ?_, nI_1 j, rfl, f2 hF⟩
      rw [nI_1, hO1, hil]
    · have hil : i < (rW r j).length := by
        rcases Nat.lt_or_ge i (rW r j).length with z | z
        · exact z
        · have : i = (rW r j).length := by omega
          rw [this] at q
          exact absurd e32 q
      exact ⟨(rW r j).length - (i + 1), by omega, i + 1, by omega, by rw [nI_1]; rfl, rfl, rfl⟩
  refine ⟨fun z y J => ∃ i, i ≤ (rW r j).length ∧ i ≤ l ∧ y = nI i ∧ z = (rW r j).length - i ∧ I = J ∧ ∀ i', i' < i → mAt tx n (p + i') = (rW r j).getD i' 0, ⟨_, 0, Nat.zero_le _, Nat.zero_le _, rfl, rfl, rfl, fun _ z => absurd z (Nat.not_lt_zero _)⟩, ?_⟩
  rintro _ _ _ ⟨i, hi, hil, rfl, rfl, rfl, hm⟩
  rw [nI_add, show ix (nI (rO r j + i)) = rO r j + i from nI_clamp (by omega)]
  have hni : nI i = nI l ↔ i = l := nI_eq (by omega) (by omega)
  refine ⟨vp_in_nI (by omega) (by omega), fun I5 => I = I5 ∧ ((i = l ∧ strC r (rO r j + i) = 32) ↔ isRw tx n p l (rW r j) = true), ?_, fun q => ?_, fun q => ?_⟩
  · rintro _ ⟨rfl, hiff⟩
    refine ⟨fun e => ⟨fun q => ?_, fun q => nxt ?_⟩, fun e => nxt ?_⟩
    · rw [f1 (hiff.mp ⟨hni.mp e, q⟩)]
      exact ⟨rfl, rfl⟩
    · exact Bool.eq_false_iff.mpr fun z => q (hiff.mpr z).2
    · exact Bool.eq_false_iff.mpr fun z => e (hni.mpr (hiff.mpr z).1)
  · have hil' : i = (rW r j).length := by
      rcases Nat.lt_or_ge i (rW r j).length with z | z
      · have := ch i z
        rw [q] at this
        exact absurd this.1.symm this.2
      · omega
    refine ⟨rfl, fun z => decide_eq_true ⟨by omega, fun i' hi' => hm i' (by omega)⟩, fun z => ⟨?_, q⟩⟩
    have := of_decide_eq_true z
    omega
  · have hil' : i < (rW r j).length := by
      rcases Nat.lt_or_ge i (rW r j).length with z | z
      · exact z
      · have : i = (rW r j).length := by omega
        rw [this] at q
        exact absurd e32 q
    have hli : nI l ≤ nI i ↔ l ≤ i := nI_leI (by omega) (by omega)
    refine ⟨fun z => ⟨rfl, fun w => absurd w.2 q, fun w => ?_⟩, fun z => ?_⟩
    · have := of_decide_eq_true w
      have := hli.mp z
      omega
    · have hlt' : i < l := by
        rcases Nat.lt_or_ge i l with w | w
        · exact w
        · exact absurd (hli.mpr w) z
      refine ⟨_, s_at h (k := p + i) (nI_add p i) (by omega), ?_⟩
      rintro _ _ ⟨rfl, rfl⟩
      rw [(ch i hil').1]
      refine ⟨fun w => ⟨(rW r j).length - (i + 1), by omega, i + 1, by omega, by omega, nI_1 i, rfl, rfl, fun i' hi' => ?_⟩, fun w => ⟨rfl, fun u => absurd u.2 (ch i hil').2, fun u => ?_⟩⟩
      · rcases Nat.lt_or_ge i' i with v | v
        · exact hm i' v
        · have : i' = i := by omega
          rw [this]
          exact w.symm
      · have := (of_decide_eq_true u).2 i hlt'
        exact absurd this.symm w
end MP
