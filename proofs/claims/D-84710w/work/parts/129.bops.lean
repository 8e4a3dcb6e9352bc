/-! ===== put, set, go, board on both sides ===== -/
set_option maxRecDepth 100000
def xBd (J : xII) (x : Nat) : Prop := rB (x + 58) (x + 61) (x + 59) (x + 62) J J
/-- outside the boards nothing has changed -/
def bdFr (x : Nat) (J J' : xII) : Prop := ∀ a k, a ≠ x + 58 → a ≠ x + 59 → a ≠ x + 61 → a ≠ x + 62 + 46 → a ≠ x + 62 + 47 → (a ≠ x + 62 ∨ k ≠ 96) → J' a k = J a k
/-- one op on both sides: the answers are the same; ints alone have changed, so that T holds -/
def xTwo (G : xG) (A : xA) (wh : (Int32 → xA → Prop) → xA → Prop) (wm : (Int32 → xII → Prop) → xII → Prop) (T : xII → Prop) : Prop :=
  ∃ R : Int32 → xA → Prop, wh R A ∧ ∀ (r : Int32) (B : xA), R r B → (∃ J1, B = A.wI J1) ∧ ∃ R2 : Int32 → xII → Prop, wm R2 B.I ∧ ∀ (r2 : Int32) (J : xII), R2 r2 J → r = r2 ∧ T J
section OB
variable {G : xG} {A : xA} {x : Nat}
theorem hs_Pr (h : xHs G A x) : xPr G A (x + 58) (x + 61) (x + 59) 4096 := ⟨hs_t58 h, hs_P58_0 h, hs_P58_1 h, hs_t61 h, hs_n61 h, hs_t59 h, hs_n59 h, by have := h.1; omega, by have := h.1; omega, by omega, by decide⟩
theorem tr_A : A.wI A.I = A := rfl
theorem op_put (hH : xHs G A x) (hB : xBd A.I x) (a v : Int32) : xTwo G A (w_X0_put G x a v) (w_X13_put (x + 62) a v) (fun J => bdFr x A.I J ∧ xBd J x) := by
  have hN := hH.1
  have keep : bdFr x A.I A.I ∧ xBd A.I x := ⟨fun _ _ _ _ _ _ _ _ => rfl, hB⟩
  by_cases h3 : a &&& 3 = 0
  · by_cases h0 : a < 0
    · refine ⟨fun r B => r = 0 ∧ A = B, fun _ => ⟨fun _ => ⟨fun _ => ⟨rfl, rfl⟩, fun h => absurd h0 h⟩, fun h => absurd h3 h⟩, ?_⟩
      rintro _ _ ⟨rfl, rfl⟩
      refine ⟨⟨A.I, rfl⟩, fun r J => r = 0 ∧ A.I = J, ⟨fun _ => ⟨fun _ => ⟨rfl, rfl⟩, fun h => absurd h0 h⟩, fun h => absurd h3 h⟩, ?_⟩
      rintro _ _ ⟨rfl, rfl⟩
      exact ⟨rfl, keep⟩
    · obtain ⟨k, hk, rfl⟩ := nI_of h0
      have h4 : k % 4 = 0 := by
        rw [nI_and3 (by omega)] at h3
        have := congrArg ix h3
        rwa [show ix (nI (k % 4)) = k % 4 from nI_clamp (by omega)] at this
      have e1 : nI k < 16384 ↔ k < 16384 := nI_ltI (a := k) (b := 16384) hk (by decide)
      have e2 : nI k ≤ 16380 ↔ k ≤ 16380 := nI_leI (a := k) (b := 16380) hk (by decide)
      by_cases hs : k < 16384
      · have ei : ix (jishr (nI k) 2) = k / 4 := by rw [nI_shr2 (by omega)]; exact nI_clamp (by omega)
        refine ⟨fun r B => r = 1 ∧ A.wI (xup A.I (x + 61) (k / 4) v) = B, fun _ => ⟨fun _ => ⟨fun h => absurd h h0, fun _ => ⟨fun _ => ?_, fun h => absurd (e1.mpr hs) h⟩⟩, fun h => absurd h3 h⟩, ?_⟩
        · refine ⟨hs_t0 hH, _, hs_P0_18 hH, hs_t58 hH, _, hs_P58_0 hH, hs_t61 hH, by omega, ?_, ?_⟩
          · rw [hs_n61 hH, nI_shr2 (by omega)]
            exact vp_in_nI (by omega) (by decide)
          · rintro _ rfl
            rw [ei]
            exact ⟨rfl, rfl⟩
        · rintro _ _ ⟨rfl, rfl⟩
          refine ⟨⟨_, rfl⟩, fun r J => r = 1 ∧ xup (xup A.I (x + 61) (k / 4) v) (x + 62 + 46) (k / 4) v = J, ⟨fun _ => ⟨fun h => absurd h h0, fun _ => ⟨fun _ => ⟨?_, ?_⟩, fun h => absurd (e2.mpr (by omega)) h⟩⟩, fun h => absurd h3 h⟩, ?_⟩
          · rw [nI_shr2 (by omega)]
            exact vp_in_nI (by omega) (by decide)
          · rintro _ rfl
            rw [ei]
            exact ⟨rfl, rfl⟩
          · rintro _ _ ⟨rfl, rfl⟩
            refine ⟨rfl, fun a j h1 h2 h3 h4 h5 h6 => ?_, ?_⟩
            · rw [xup_a h4, xup_a h3]
            · obtain ⟨b1, b2, b3, b4⟩ := hB
              refine ⟨fun j hj => ?_, fun j hj => ?_, ?_, ?_⟩
              · rw [xup_a (show x + 61 ≠ x + 62 + 46 by omega)]
                by_cases e : j = k / 4
                · subst e
                  rw [xup_s, xup_s]
                · rw [xup_k e, xup_k e, xup_a (show x + 62 + 46 ≠ x + 61 by omega)]
                  exact b1 j hj
              · rw [xup_a (show x + 59 ≠ x + 62 + 46 by omega), xup_a (show x + 59 ≠ x + 61 by omega), xup_a (show x + 62 + 47 ≠ x + 62 + 46 by omega), xup_a (show x + 62 + 47 ≠ x + 61 by omega)]
                exact b2 j hj
              · rw [xup_a (show x + 58 ≠ x + 62 + 46 by omega), xup_a (show x + 58 ≠ x + 61 by omega), xup_a (show x + 62 + 47 ≠ x + 62 + 46 by omega), xup_a (show x + 62 + 47 ≠ x + 61 by omega)]
                exact b3
              · rw [xup_a (show x + 58 ≠ x + 62 + 46 by omega), xup_a (show x + 58 ≠ x + 61 by omega), xup_a (show x + 62 ≠ x + 62 + 46 by omega), xup_a (show x + 62 ≠ x + 61 by omega)]
                exact b4
      · refine ⟨fun r B => r = 0 ∧ A = B, fun _ => ⟨fun _ => ⟨fun h => absurd h h0, fun _ => ⟨fun h => absurd (e1.mp h) hs, fun _ => ⟨rfl, rfl⟩⟩⟩, fun h => absurd h3 h⟩, ?_⟩
        rintro _ _ ⟨rfl, rfl⟩
        refine ⟨⟨A.I, rfl⟩, fun r J => r = 0 ∧ A.I = J, ⟨fun _ => ⟨fun h => absurd h h0, fun _ => ⟨fun h => absurd (e2.mp h) (by omega), fun _ => ⟨rfl, rfl⟩⟩⟩, fun h => absurd h3 h⟩, ?_⟩
        rintro _ _ ⟨rfl, rfl⟩
        exact ⟨rfl, keep⟩
  · refine ⟨fun r B => r = 0 ∧ A = B, fun _ => ⟨fun h => absurd h h3, fun _ => ⟨rfl, rfl⟩⟩, ?_⟩
    rintro _ _ ⟨rfl, rfl⟩
    refine ⟨⟨A.I, rfl⟩, fun r J => r = 0 ∧ A.I = J, ⟨fun h => absurd h h3, fun _ => ⟨rfl, rfl⟩⟩, ?_⟩
    rintro _ _ ⟨rfl, rfl⟩
    exact ⟨rfl, keep⟩
theorem op_set (hH : xHs G A x) (hB : xBd A.I x) (a v : Int32) : xTwo G A (w_X0_set G x a v) (w_X13_set (x + 62) a v) (fun J => bdFr x A.I J ∧ xBd J x) := by
  have hN := hH.1
  have keep : bdFr x A.I A.I ∧ xBd A.I x := ⟨fun _ _ _ _ _ _ _ _ => rfl, hB⟩
  by_cases h1 : a < 1
  · refine ⟨fun r B => r = 0 ∧ A = B, fun _ => ⟨fun _ => ⟨rfl, rfl⟩, fun h => absurd h1 h⟩, ?_⟩
    rintro _ _ ⟨rfl, rfl⟩
    refine ⟨⟨A.I, rfl⟩, fun r J => r = 0 ∧ A.I = J, ⟨fun _ => ⟨rfl, rfl⟩, fun h => absurd h1 h⟩, ?_⟩
    rintro _ _ ⟨rfl, rfl⟩
    exact ⟨rfl, keep⟩
  by_cases h2 : a ≤ 32
  · obtain ⟨k, hk, rfl⟩ := nI_of (x := a) (fun z => h1 (Int32.lt_trans z (by decide)))
    have hk1 : 1 ≤ k := by
      rcases Nat.lt_or_ge k 1 with h | h
      · exact absurd ((nI_ltI (a := k) (b := 1) (by omega) (by decide)).mpr h) h1
      · exact h
    have hk2 : k ≤ 32 := (nI_leI (a := k) (b := 32) (by omega) (by decide)).mp h2
    have ei : ix (nI k) = k := nI_clamp (by omega)
    by_cases h32 : k = 32
    · subst h32
      refine ⟨fun r B => r = 1 ∧ A.wI (xup A.I (x + 58) 2 v) = B, fun _ => ⟨fun h => absurd h h1, fun _ => ⟨fun _ => ⟨fun _ => ⟨hs_t0 hH, _, hs_P0_18 hH, hs_t58 hH, ?_⟩, fun h => absurd rfl h⟩, fun h => absurd h2 h⟩⟩, ?_⟩
      · rintro _ rfl
        exact ⟨rfl, rfl⟩
      · rintro _ _ ⟨rfl, rfl⟩
        refine ⟨⟨_, rfl⟩, fun r J => r = 1 ∧ xup (xup A.I (x + 58) 2 v) (x + 62 + 47) 32 v = J, ⟨fun h => absurd h h1, fun _ => ⟨fun _ => ⟨vp_in_nI (by decide) (by decide), ?_⟩, fun h => absurd h2 h⟩⟩, ?_⟩
        · rintro _ rfl
          exact ⟨rfl, rfl⟩
        · rintro _ _ ⟨rfl, rfl⟩
          refine ⟨rfl, fun a j h1 h2 h3 h4 h5 h6 => ?_, ?_⟩
          · rw [xup_a h5, xup_a h1]
          · obtain ⟨b1, b2, b3, b4⟩ := hB
            refine ⟨fun j hj => ?_, fun j hj => ?_, ?_, ?_⟩
            · rw [xup_a (show x + 61 ≠ x + 62 + 47 by omega), xup_a (show x + 61 ≠ x + 58 by omega), xup_a (show x + 62 + 46 ≠ x + 62 + 47 by omega), xup_a (show x + 62 + 46 ≠ x + 58 by omega)]
              exact b1 j hj
            · rw [xup_a (show x + 59 ≠ x + 62 + 47 by omega), xup_a (show x + 59 ≠ x + 58 by omega), xup_k (show j ≠ 32 by omega), xup_a (show x + 62 + 47 ≠ x + 58 by omega)]
              exact b2 j hj
            · rw [xup_a (show x + 58 ≠ x + 62 + 47 by omega), xup_s, xup_s]
            · rw [xup_a (show x + 58 ≠ x + 62 + 47 by omega), xup_k (show 3 ≠ 2 by decide), xup_a (show x + 62 ≠ x + 62 + 47 by omega), xup_a (show x + 62 ≠ x + 58 by omega)]
              exact b4
    · have hn32 : ¬ nI k = 32 := fun z => h32 (by have := congrArg ix z; rwa [ei] at this)
      refine ⟨fun r B => r = 1 ∧ A.wI (xup A.I (x + 59) k v) = B, fun _ => ⟨fun h => absurd h h1, fun _ => ⟨fun _ => ⟨fun h => absurd h hn32, fun _ => ⟨hs_t0 hH, _, hs_P0_18 hH, hs_t58 hH, _, hs_P58_1 hH, hs_t59 hH, by omega, ?_, ?_⟩⟩, fun h => absurd h2 h⟩⟩, ?_⟩
      · rw [hs_n59 hH]
        exact vp_in_nI (by omega) (by decide)
      · rintro _ rfl
        rw [ei]
        exact ⟨rfl, rfl⟩
      · rintro _ _ ⟨rfl, rfl⟩
        refine ⟨⟨_, rfl⟩, fun r J => r = 1 ∧ xup (xup A.I (x + 59) k v) (x + 62 + 47) k v = J, ⟨fun h => absurd h h1, fun _ => ⟨fun _ => ⟨vp_in_nI (by omega) (by decide), ?_⟩, fun h => absurd h2 h⟩⟩, ?_⟩
        · rintro _ rfl
          rw [ei]
          exact ⟨rfl, rfl⟩
        · rintro _ _ ⟨rfl, rfl⟩
          refine ⟨rfl, fun a j h1 h2 h3 h4 h5 h6 => ?_, ?_⟩
          · rw [xup_a h5, xup_a h2]
          · obtain ⟨b1, b2, b3, b4⟩ := hB
            refine ⟨fun j hj => ?_, fun j hj => ?_, ?_, ?_⟩
            · rw [xup_a (show x + 61 ≠ x + 62 + 47 by omega), xup_a (show x + 61 ≠ x + 59 by omega), xup_a (show x + 62 + 46 ≠ x + 62 + 47 by omega), xup_a (show x + 62 + 46 ≠ x + 59 by omega)]
              exact b1 j hj
            · rw [xup_a (show x + 59 ≠ x + 62 + 47 by omega)]
              by_cases e : j = k
              · subst e
                rw [xup_s, xup_s]
              · rw [xup_k e, xup_k e, xup_a (show x + 62 + 47 ≠ x + 59 by omega)]
                exact b2 j hj
            · rw [xup_a (show x + 58 ≠ x + 62 + 47 by omega), xup_a (show x + 58 ≠ x + 59 by omega), xup_k (show 32 ≠ k by omega), xup_a (show x + 62 + 47 ≠ x + 59 by omega)]
              exact b3
            · rw [xup_a (show x + 58 ≠ x + 62 + 47 by omega), xup_a (show x + 58 ≠ x + 59 by omega), xup_a (show x + 62 ≠ x + 62 + 47 by omega), xup_a (show x + 62 ≠ x + 59 by omega)]
              exact b4
  · refine ⟨fun r B => r = 0 ∧ A = B, fun _ => ⟨fun h => absurd h h1, fun _ => ⟨fun h => absurd h h2, fun _ => ⟨rfl, rfl⟩⟩⟩, ?_⟩
    rintro _ _ ⟨rfl, rfl⟩
    refine ⟨⟨A.I, rfl⟩, fun r J => r = 0 ∧ A.I = J, ⟨fun h => absurd h h1, fun _ => ⟨fun h => absurd h h2, fun _ => ⟨rfl, rfl⟩⟩⟩, ?_⟩
    rintro _ _ ⟨rfl, rfl⟩
    exact ⟨rfl, keep⟩
theorem op_go (hH : xHs G A x) (hB : xBd A.I x) (n : Int32) : xTwo G A (w_X0_go G x n) (w_X13_go (x + 62) n) (fun J => bdFr x A.I J ∧ xBd J x) := by
  have hN := hH.1
  have keep : bdFr x A.I A.I ∧ xBd A.I x := ⟨fun _ _ _ _ _ _ _ _ => rfl, hB⟩
  by_cases h1 : n < 1
  · refine ⟨fun r B => r = -1 ∧ A = B, fun _ => ⟨fun _ => ⟨rfl, rfl⟩, fun h => absurd h1 h⟩, ?_⟩
    rintro _ _ ⟨rfl, rfl⟩
    refine ⟨⟨A.I, rfl⟩, fun r J => r = -1 ∧ A.I = J, ⟨fun _ => ⟨rfl, rfl⟩, fun h => absurd h1 h⟩, ?_⟩
    rintro _ _ ⟨rfl, rfl⟩
    exact ⟨rfl, keep⟩
  by_cases h2 : n ≤ 1000
  · obtain ⟨k, hk, rfl⟩ := nI_of (x := n) (fun z => h1 (Int32.lt_trans z (by decide)))
    have hk1 : 1 ≤ k := by
      rcases Nat.lt_or_ge k 1 with h | h
      · exact absurd ((nI_ltI (a := k) (b := 1) (by omega) (by decide)).mpr h) h1
      · exact h
    have hk2 : k ≤ 1000 := (nI_leI (a := k) (b := 1000) (by omega) (by decide)).mp h2
    refine ⟨fun r B => r = (rvGo (x + 58) (x + 61) (x + 59) 4096 k A.I).1 ∧ A.wI (rvGo (x + 58) (x + 61) (x + 59) 4096 k A.I).2 = B, fun _ => ⟨fun h => absurd h h1, fun _ => ⟨fun _ => ⟨hs_t0 hH, _, hs_P0_18 hH, hs_t58 hH, _, s_X12_go (hs_Pr hH) (by omega) (Q := fun r B => r = (rvGo (x + 58) (x + 61) (x + 59) 4096 k A.I).1 ∧ A.wI (rvGo (x + 58) (x + 61) (x + 59) 4096 k A.I).2 = B) ⟨rfl, rfl⟩, fun _ _ _ z => z⟩, fun h => absurd h2 h⟩⟩, ?_⟩
    rintro _ _ ⟨rfl, rfl⟩
    refine ⟨⟨_, rfl⟩, fun r J => r = (mvGo (x + 62) k (rvGo (x + 58) (x + 61) (x + 59) 4096 k A.I).2).1 ∧ (mvGo (x + 62) k (rvGo (x + 58) (x + 61) (x + 59) 4096 k A.I).2).2 = J, s_X13_go hk1 hk2 ⟨rfl, rfl⟩, ?_⟩
    rintro _ _ ⟨rfl, rfl⟩
    have f1 : ∀ a, a ≠ x + 58 → a ≠ x + 59 → a ≠ x + 61 → (rvGo (x + 58) (x + 61) (x + 59) 4096 k A.I).2 a = A.I a := fun a q1 q2 q3 => rvGo_fr q1 q3 q2 k A.I
    have f2 : ∀ a j, a ≠ x + 62 + 46 → a ≠ x + 62 + 47 → (a ≠ x + 62 ∨ j ≠ 96) → (mvGo (x + 62) k (rvGo (x + 58) (x + 61) (x + 59) 4096 k A.I).2).2 a j = (rvGo (x + 58) (x + 61) (x + 59) 4096 k A.I).2 a j := fun a j q1 q2 q3 => mvGo_fr q1 q2 q3 k _
    have hB2 : rB (x + 58) (x + 61) (x + 59) (x + 62) A.I (rvGo (x + 58) (x + 61) (x + 59) 4096 k A.I).2 := by
      obtain ⟨b1, b2, b3, b4⟩ := hB
      refine ⟨fun j hj => ?_, fun j hj => ?_, ?_, ?_⟩
      · rw [f1 _ (by omega) (by omega) (by omega)]
        exact b1 j hj
      · rw [f1 _ (by omega) (by omega) (by omega)]
        exact b2 j hj
      · rw [f1 _ (by omega) (by omega) (by omega)]
        exact b3
      · rw [f1 _ (by omega) (by omega) (by omega)]
        exact b4
    obtain ⟨e, g1, g2, g3, g4⟩ := rB_go (p := x + 58) (M := x + 61) (X := x + 59) (m := x + 62) (by omega) (by omega) (by omega) k hB2
    refine ⟨e, fun a j h1 h2 h3 h4 h5 h6 => ?_, fun j hj => ?_, fun j hj => ?_, ?_, ?_⟩
    · rw [f2 a j h4 h5 h6, f1 a h1 h2 h3]
    · rw [f2 _ _ (by omega) (by omega) (Or.inl (by omega))]
      exact g1 j hj
    · rw [f2 _ _ (by omega) (by omega) (Or.inl (by omega))]
      exact g2 j hj
    · rw [f2 _ _ (by omega) (by omega) (Or.inl (by omega))]
      exact g3
    · rw [f2 _ _ (by omega) (by omega) (Or.inl (by omega))]
      exact g4
  · refine ⟨fun r B => r = -1 ∧ A = B, fun _ => ⟨fun h => absurd h h1, fun _ => ⟨fun h => absurd h h2, fun _ => ⟨rfl, rfl⟩⟩⟩, ?_⟩
    rintro _ _ ⟨rfl, rfl⟩
    refine ⟨⟨A.I, rfl⟩, fun r J => r = -1 ∧ A.I = J, ⟨fun h => absurd h h1, fun _ => ⟨fun h => absurd h h2, fun _ => ⟨rfl, rfl⟩⟩⟩, ?_⟩
    rintro _ _ ⟨rfl, rfl⟩
    exact ⟨rfl, keep⟩
/-- what board(i) answers -/
def bdAns (J : xII) (m : Nat) (i : Int32) : Int32 := if i < 0 then -1 else if i < 33 then J (m + 47) (ix i) else if i = 33 then J m 96 else if i < 100 then -1 else if 4196 ≤ i then -1 else J (m + 46) (ix (i - 100))
theorem in_100 {i : Int32} (h1 : ¬ i < 100) (h2 : ¬ 4196 ≤ i) : ∃ k, k < 4096 ∧ i - 100 = nI k := by
  obtain ⟨j, hj, rfl⟩ := nI_of (x := i) (fun z => h1 (Int32.lt_trans z (by decide)))
  have g1 : 100 ≤ j := by
    rcases Nat.lt_or_ge j 100 with h | h
    · exact absurd ((nI_ltI (a := j) (b := 100) (by omega) (by decide)).mpr h) h1
    · exact h
  have g2 : j < 4196 := by
    rcases Nat.lt_or_ge j 4196 with h | h
    · exact h
    · exact absurd ((nI_leI (a := 4196) (b := j) (by decide) (by omega)).mpr h) h2
  refine ⟨j - 100, by omega, ?_⟩
  apply Int32.toBitVec_inj.mp
  show BitVec.ofNat 32 j - 100#32 = BitVec.ofNat 32 (j - 100)
  apply BitVec.eq_of_toNat_eq
  rw [BitVec.toNat_sub, BitVec.toNat_ofNat, BitVec.toNat_ofNat, BitVec.toNat_ofNat]
  omega
theorem op_board (hH : xHs G A x) (hB : xBd A.I x) (i : Int32) : xTwo G A (w_X0_board G x i) (w_X13_board (x + 62) i) (fun J => bdFr x A.I J ∧ xBd J x) := by
  have keep : bdFr x A.I A.I ∧ xBd A.I x := ⟨fun _ _ _ _ _ _ _ _ => rfl, hB⟩
  obtain ⟨b1, b2, b3, b4⟩ := hB
  have n1 : ∀ {v : Int32} {P : Prop}, 4196 ≤ i → ¬ 4196 ≤ i → P := fun a b => absurd a b
  refine ⟨fun r B => r = bdAns A.I (x + 62) i ∧ A = B, fun _ => ?_, ?_⟩
  · refine ⟨fun h => ?_, fun h => ⟨fun h3 => ?_, fun h3 => ⟨fun h0 => ⟨fun h1 => ⟨?_, rfl⟩, fun h1 => ?_⟩, fun h0 => ⟨fun h32 => ⟨fun h1 => ⟨?_, rfl⟩, fun h1 => ⟨fun h2 => ⟨?_, rfl⟩, fun h2 => ?_⟩⟩, fun h32 => ?_⟩⟩⟩⟩
    · subst h
      exact ⟨hs_t0 hH, _, hs_P0_18 hH, hs_t58 hH, b3, rfl⟩
    · subst h3
      exact ⟨hs_t0 hH, _, hs_P0_18 hH, hs_t58 hH, b4, rfl⟩
    · exact (if_pos h0).symm
    · exact absurd (Int32.lt_trans h0 (by decide)) h1
    · rw [bdAns, if_neg h0, if_neg, if_neg h3, if_pos h1]
      intro z
      obtain ⟨j, hj, rfl⟩ := nI_of h0
      have := (nI_leI (a := 32) (b := j) (by decide) hj).mp h32
      have := (nI_ltI (a := j) (b := 33) hj (by decide)).mp z
      exact h (congrArg nI (show j = 32 by omega))
    · have : ¬ i < 33 := fun z => h1 (Int32.lt_trans z (by decide))
      rw [bdAns, if_neg h0, if_neg this, if_neg h3, if_neg h1, if_pos h2]
    · have : ¬ i < 33 := fun z => h1 (Int32.lt_trans z (by decide))
      obtain ⟨k, hk, e⟩ := in_100 h1 h2
      refine ⟨hs_t0 hH, _, hs_P0_18 hH, hs_t58 hH, _, hs_P58_0 hH, hs_t61 hH, ?_, ?_, rfl⟩
      · rw [e, hs_n61 hH]
        exact vp_in_nI hk (by decide)
      · rw [bdAns, if_neg h0, if_neg this, if_neg h3, if_neg h1, if_neg h2, e, show ix (nI k) = k from nI_clamp (by omega)]
        exact b1 k hk
    · obtain ⟨j, hj, rfl⟩ := nI_of h0
      have hj2 : j < 32 := by
        rcases Nat.lt_or_ge j 32 with q | q
        · exact q
        · exact absurd ((nI_leI (a := 32) (b := j) (by decide) hj).mpr q) h32
      refine ⟨hs_t0 hH, _, hs_P0_18 hH, hs_t58 hH, _, hs_P58_1 hH, hs_t59 hH, ?_, ?_, rfl⟩
      · rw [hs_n59 hH]
        exact vp_in_nI hj2 (by decide)
      · rw [bdAns, if_neg h0, if_pos (c := nI j < 33) ((nI_ltI (a := j) (b := 33) hj (by decide)).mpr (by omega)), show ix (nI j) = j from nI_clamp (by omega)]
        exact b2 j hj2
  · rintro _ _ ⟨rfl, rfl⟩
    refine ⟨⟨A.I, rfl⟩, fun r J => r = bdAns A.I (x + 62) i ∧ A.I = J, ?_, ?_⟩
    · have big : ∀ {P : Prop}, ¬ i < 100 → ¬ 4196 ≤ i → ¬ i = 33 → ¬ i < 0 → vp_in (i - 100) 4096 ∧ A.I (x + 62 + 46) (ix (i - 100)) = bdAns A.I (x + 62) i ∧ A.I = A.I := by
        intro P h1 h2 h3 h0
        have : ¬ i < 33 := fun z => h1 (Int32.lt_trans z (by decide))
        obtain ⟨k, hk, e⟩ := in_100 h1 h2
        refine ⟨?_, ?_, rfl⟩
        · rw [e]
          exact vp_in_nI hk (by decide)
        · rw [bdAns, if_neg h0, if_neg this, if_neg h3, if_neg h1, if_neg h2]
      refine ⟨fun h0 => ⟨fun h3 => absurd h0 (by rw [h3]; decide), fun h3 => ⟨fun h1 => ⟨(if_pos h0).symm, rfl⟩, fun h1 => absurd (Int32.lt_trans h0 (by decide)) h1⟩⟩, fun h0 => ⟨fun h33 => ⟨fun h3 => ?_, fun h3 => ⟨fun h1 => ⟨?_, rfl⟩, fun h1 => ⟨fun h2 => ⟨?_, rfl⟩, fun h2 => big (P := True) h1 h2 h3 h0⟩⟩⟩, fun h33 => ?_⟩⟩
      · subst h3
        exact ⟨rfl, rfl⟩
      · rw [bdAns, if_neg h0, if_neg, if_neg h3, if_pos h1]
        intro z
        obtain ⟨j, hj, rfl⟩ := nI_of h0
        have := (nI_leI (a := 33) (b := j) (by decide) hj).mp h33
        have := (nI_ltI (a := j) (b := 33) hj (by decide)).mp z
        omega
      · have : ¬ i < 33 := fun z => h1 (Int32.lt_trans z (by decide))
        rw [bdAns, if_neg h0, if_neg this, if_neg h3, if_neg h1, if_pos h2]
      · obtain ⟨j, hj, rfl⟩ := nI_of h0
        have hj2 : j < 33 := by
          rcases Nat.lt_or_ge j 33 with q | q
          · exact q
          · exact absurd ((nI_leI (a := 33) (b := j) (by decide) hj).mpr q) h33
        refine ⟨vp_in_nI hj2 (by decide), ?_, rfl⟩
        rw [bdAns, if_neg h0, if_pos (c := nI j < 33) ((nI_ltI (a := j) (b := 33) hj (by decide)).mpr (by omega))]
    · rintro _ _ ⟨rfl, rfl⟩
      exact ⟨rfl, keep⟩
end OB
