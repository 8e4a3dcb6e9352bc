/-! ===== the Model's tokens: signs, all of a text ===== -/
set_option maxRecDepth 100000
theorem sg_fact : (∀ k, k < 45 → 1 ≤ (strB (15 + k)).length ∧ (strB (15 + k)).length ≤ 4) ∧ (∀ k, k < 45 → sgM k < 45 ∧ sgH (sgM k) = k) ∧ (∀ j, j < 45 → sgH j < 45 ∧ sgM (sgH j) = j) ∧ (∀ k, k < 45 → mkK (nI (40 + k)) = 4 ∧ mkV (nI (40 + k)) 0 = nI (sgM k) ∧ ¬ nI (40 + k) = 1) := by decide +kernel
theorem sg_desc : ∀ k, k < 45 → ∀ k', k' < k → (strB (15 + k)).length ≤ (strB (15 + k')).length := by decide +kernel
theorem sg_inj : ∀ k, k < 45 → ∀ k', k' < 45 → strB (15 + k) = strB (15 + k') → k = k' := by decide +kernel
section MS
variable {m n p s l : Nat} {I J : xII} {tx : Nat → Int32} {nm : List (Nat × Nat)} {D : tkL}
theorem list_getD_ext {a b : List Int32} (h : a.length = b.length) (h2 : ∀ i, i < a.length → a.getD i 0 = b.getD i 0) : a = b := by
  refine List.ext_getElem h fun i h1 h3 => ?_
  have := h2 i h1
  rwa [List.getD_eq_getElem?_getD, List.getD_eq_getElem?_getD, List.getElem?_eq_getElem h1, List.getElem?_eq_getElem h3] at this
theorem sg_one {k k' : Nat} (hk : k < 45) (hk' : k' < 45) (h : isSg tx n p (strB (15 + k)) = true) (h' : isSg tx n p (strB (15 + k')) = true) (hl : (strB (15 + k)).length = (strB (15 + k')).length) : k = k' := by
  have h1 := of_decide_eq_true h
  have h2 := of_decide_eq_true h'
  refine sg_inj k hk k' hk' (list_getD_ext hl fun i hi => ?_)
  rw [← h1 i hi, ← h2 i (by omega)]
theorem isRw_sg {w : List Int32} (hp : p + w.length ≤ n) : isRw tx n p w.length w = isSg tx n p w := by
  refine decide_eq_decide.mpr ⟨fun h i hi => ?_, fun h => ⟨rfl, fun i hi => ?_⟩⟩
  · rw [hNow_lt (by omega), ← h.2 i hi, mAt_lt (by omega)]
  · rw [mAt_lt (by omega), ← h i hi, hNow_lt (by omega)]
theorem sg_out {k : Nat} (hk : k < 45) (h : n < p + (strB (15 + k)).length) : isSg tx n p (strB (15 + k)) = false := by
  refine decide_eq_false fun z => ?_
  obtain ⟨l1, l2⟩ := sg_fact.1 k hk
  have h1 := z ((strB (15 + k)).length - 1) (by omega)
  rw [hNow_ge (by omega)] at h1
  have h2 := (strB_chr (15 + k) (by omega) ((strB (15 + k)).length - 1) (by omega)).1
  rw [← h1] at h2
  exact absurd h2 (by decide)
theorem s_X13_tokenAt (h : mTx I m n tx) (hB : txB tx n) (hN : mNm I m tx n nm) (hT : mTks I m D) (hs : s < n) (hD : D.length < 4002) (hc : nm.length < 2100) : w_X13_tokenAt m (nI s) (fun v J => tkM I J m n tx D s (tkOne tx n s nm) v) I := by
  have hn := h.2.1
  refine ⟨_, s_at h (k := s) rfl (by omega), ?_⟩
  rintro _ _ ⟨rfl, rfl⟩
  obtain ⟨c, hc1, hc2⟩ := hB s hs
  obtain ⟨t1, t2, -⟩ := byt c hc1
  rw [← hc2] at t1 t2
  rw [mAt_lt hs]
  refine ⟨fun q1 => ⟨fun q2 => ?_, fun q2 => ?_⟩, fun q1 => ?_⟩
  · have hle := t1.mp q1
    have hd := t2.mp q2
    have eT : tkOne tx n s nm = match sIx tx n s with
      | some k => (nI (40 + k), 0, (strB (15 + k)).length, nm)
      | none => (1, 0, 0, nm) := by
      rw [tkOne, if_neg (fun z => z hd), if_neg (fun z => z hle)]
      rfl
    refine ⟨fun z y J => ∃ nn, nn ≤ 4 ∧ y = nI nn ∧ z = nn ∧ I = J ∧ ∀ k, k < 45 → nn < (strB (15 + k)).length → isSg tx n s (strB (15 + k)) = false, ⟨4, 4, Nat.le_refl _, rfl, rfl, rfl, fun k hk hl => ?_⟩, ?_⟩
    · have := (sg_fact.1 k hk).2
      omega
    rintro nn _ _ ⟨_, hnn, rfl, rfl, rfl, hno⟩
    refine ⟨fun q => ?_, fun q => ?_⟩
    · have h0 : nn = 0 := by have := (nI_leI (b := 0) (by omega) (by decide)).mp q; omega
      subst h0
      have : sIx tx n s = none := by
        cases hx : sIx tx n s with
        | none => rfl
        | some k =>
          obtain ⟨k1, -, k3, -⟩ := fst1_some hx
          rw [hno k (by omega) (sg_fact.1 k (by omega)).1] at k1
          exact absurd k1 (by decide)
      rw [eT, this]
      exact Or.inl ⟨rfl, rfl, rfl⟩
    · have h0 : 1 ≤ nn := by
        rcases Nat.eq_zero_or_pos nn with z | z
        · rw [z] at q
          exact absurd (by decide) q
        · exact z
      rw [h.1, nI_add]
      have hlt : nI n < nI (s + nn) ↔ n < s + nn := nI_ltI (by omega) (by omega)
      refine ⟨fun y J => I = J ∧ ((y = -1 ∧ ∀ k, k < 45 → nn ≤ (strB (15 + k)).length → isSg tx n s (strB (15 + k)) = false) ∨ ∃ j, j < 45 ∧ y = nI j ∧ (strB (15 + sgH j)).length = nn ∧ isSg tx n s (strB (15 + sgH j)) = true), ?_, fun w => ⟨rfl, Or.inl ⟨rfl, fun k hk hl => ?_⟩⟩, fun w => ⟨_, s_X13_placeIn h (Or.inr rfl) (p := s) (l := nn) (by omega) (by omega), ?_⟩⟩
      · rintro y _ ⟨rfl, hy⟩
        rcases hy with ⟨rfl, hy⟩ | ⟨j, j1, rfl, j2, j3⟩
        · refine ⟨fun _ => ⟨nn - 1, by omega, nn - 1, by omega, nI_dec h0, rfl, rfl, fun k hk hl => hy k hk (by omega)⟩, fun z => absurd rfl z⟩
        · have hj1 : ¬ nI j = -1 := by
            intro q
            have := congrArg Int32.toInt q
            rw [nI_toInt (by omega)] at this
            have e : (-1 : Int32).toInt = -1 := rfl
            omega
          refine ⟨fun z => absurd z hj1, fun _ => ?_⟩
          have hk := sg_fact.2.2.1 j j1
          have hx : sIx tx n s = some (sgH j) := by
            cases hx : sIx tx n s with
            | none =>
              have := fst1_none hx (sgH j) (Nat.zero_le _) (by omega)
              simp only [j3] at this
              exact absurd this (by decide)
            | some k =>
              obtain ⟨k1, -, k3, k4⟩ := fst1_some hx
              rcases Nat.lt_trichotomy k (sgH j) with z | z | z
              · have hd := sg_desc (sgH j) hk.1 k z
                rcases Nat.lt_or_ge nn (strB (15 + k)).length with u | u
                · rw [hno k (by omega) u] at k1
                  exact absurd k1 (by decide)
                · rw [sg_one (by omega) hk.1 k1 j3 (by omega)]
              · rw [z]
              · have := k4 (sgH j) (Nat.zero_le _) z
                simp only [j3] at this
                exact absurd this (by decide)
          have e4 := sg_fact.2.2.2 (sgH j) hk.1
          rw [eT, hx]
          refine ⟨_, s_X13_token (q := (nI (40 + sgH j), 0, s)) hT hD e4.1 (by rw [e4.2.1, hk.2]) rfl, ?_⟩
          rintro K ⟨b1, b2, b3⟩
          refine Or.inr ⟨e4.2.2, ?_, b1, hN.fr b3, b2, b3 _ _ (by omega) (by omega) (by omega) (by omega)⟩
          show nI (s + nn) = nI (s + (strB (15 + sgH j)).length)
          rw [j2]
      · rcases Nat.lt_or_ge nn (strB (15 + k)).length with u | u
        · exact hno k hk u
        · exact sg_out hk (by have := hlt.mp w; omega)
      · rintro _ _ ⟨rfl, rfl⟩
        have hsn : s + nn ≤ n := by have : ¬ n < s + nn := fun z => w (hlt.mpr z); omega
        refine ⟨rfl, ?_⟩
        cases hx : rIx tx n 62 s nn with
        | none =>
          refine Or.inl ⟨rfl, fun k hk hl => ?_⟩
          rcases Nat.lt_or_ge nn (strB (15 + k)).length with u | u
          · exact hno k hk u
          · have e : (strB (15 + k)).length = nn := by omega
            have := fst1_none hx (sgM k) (Nat.zero_le _) (by have := (sg_fact.2.1 k hk).1; show sgM k < 0 + 45; omega)
            have e2 : rW 62 (sgM k) = strB (15 + k) := by
              show strB (15 + sgH (sgM k)) = _
              rw [(sg_fact.2.1 k hk).2]
            have e3 : isRw tx n s nn (rW 62 (sgM k)) = false := this
            rw [e2, ← e, isRw_sg (by omega)] at e3
            exact e3
        | some j =>
          obtain ⟨k1, -, k3, -⟩ := fst1_some hx
          have k3' : j < 45 := by have : j < 0 + 45 := k3; omega
          have k1' : isRw tx n s nn (strB (15 + sgH j)) = true := k1
          have e := (of_decide_eq_true k1').1
          refine Or.inr ⟨j, k3', rfl, e, ?_⟩
          rw [← e, isRw_sg (by omega)] at k1'
          exact k1'
  · exact ⟨_, s_X13_numberToken h hB hN hT hs (fun z => q2 (t2.mpr z)) hD, fun _ _ z => z⟩
  · have hle : ¬ f_X2_isLetter (tx s) = 0 := fun z => q1 (t1.mpr z)
    have hd : f_X2_isDigit (tx s) = 0 := by
      have : ∀ b, b < 256 → ¬ f_X2_isLetter (nI b) = 0 → f_X2_isDigit (nI b) = 0 := by decide +kernel
      rw [hc2] at hle ⊢
      exact this c hc1 hle
    exact ⟨_, s_X13_wordToken h hB hN hT hs hd hle hD hc, fun _ _ z => z⟩
/-- tokens of a text, as the Model has them -/
def mCut (J : xII) (m : Nat) (tx : Nat → Int32) (n : Nat) (D : tkL) (nms : List (Nat × Nat)) : Prop := mTx J m n tx ∧ mNm J m tx n nms ∧ ∃ D' q, D = D' ++ [q] ∧ mTks J m D' ∧ J (m + 3) D'.length = 0 ∧ J (m + 5) D'.length = nI n ∧ (q.1 = 0 ∧ J m 8 = -1 ∧ q.2.2 = n ∨ q.1 = 1 ∧ J m 8 = nI q.2.2)
def cutL (I : xII) (tx : Nat → Int32) (n m z : Nat) (y : Int32) (K : xII) : Prop := ∃ D' p nm, p ≤ n ∧ D'.length ≤ p ∧ nm.length ≤ D'.length ∧ nmIn n nm ∧ tz tx n 0 [] = (D' ++ (tz tx n p nm).1, (tz tx n p nm).2) ∧ mTks K m D' ∧ mNm K m tx n nm ∧ mFr I K m ∧ ((y = -1 ∧ (∃ b, (tz tx n p nm).1 = [(1, 0, b)] ∧ (tz tx n p nm).2 = nm ∧ K m 8 = nI b) ∧ z = 0) ∨ ((skR tx n p).1 = false ∧ y = nI (skR tx n p).2 ∧ K m 8 = -1 ∧ z = n + 1 - p))
theorem nI_m1 {k : Nat} (hk : k < 2147483648) : ¬ nI k = -1 := by
  intro q
  have := congrArg Int32.toInt q
  rw [nI_toInt hk] at this
  have e : (-1 : Int32).toInt = -1 := rfl
  omega
theorem s_X13_cut (h : mTx I m n tx) (hB : txB tx n) (hn2 : n ≤ 2000) : w_X13_cut m (fun J => mCut J m tx n (tz tx n 0 []).1 (tz tx n 0 []).2 ∧ mFr I J m) I := by
  have hn := h.2.1
  rintro _ rfl _ rfl _ rfl
  have f3 : mFr I (xup (xup (xup I m 7 0) m 13 0) m 8 (-1)) m := fun a k a1 a2 => by
    rw [gX, if_neg (by omega), gX, if_neg (by omega), gX, if_neg (by omega)]
  have i3 : xup (xup (xup I m 7 0) m 13 0) m 8 (-1) m 7 = 0 ∧ xup (xup (xup I m 7 0) m 13 0) m 8 (-1) m 13 = 0 ∧ xup (xup (xup I m 7 0) m 13 0) m 8 (-1) m 8 = -1 := by
    refine ⟨?_, ?_, ?_⟩ <;> simp [gX]
  generalize xup (xup (xup I m 7 0) m 13 0) m 8 (-1) = I3 at *
  refine ⟨fun z y J => ∃ i, i ≤ 64 ∧ y = nI i ∧ z = 64 - i ∧ mFr I J m ∧ J m 7 = 0 ∧ J m 13 = 0 ∧ J m 8 = -1 ∧ ∀ g, g < i → J (m + 9) g = -1, ⟨_, 0, Nat.zero_le _, rfl, rfl, f3, i3.1, i3.2.1, i3.2.2, fun _ z => absurd z (Nat.not_lt_zero _)⟩, ?_⟩
  rintro _ _ J ⟨i, hi, rfl, rfl, fJ, j7, j13, j8, jh⟩
  have h64 : (64 : Int32) ≤ nI i ↔ 64 ≤ i := nI_leI (a := 64) (by decide) (by omega)
  refine ⟨fun q => ?_, fun q => ?_⟩
  rotate_left
  · have hi64 : i < 64 := by have : ¬ 64 ≤ i := fun z => q (h64.mpr z); omega
    refine ⟨vp_in_nI hi64 (by decide), ?_⟩
    rintro _ rfl
    rw [show ix (nI i) = i from nI_clamp (by omega)]
    refine ⟨64 - (i + 1), by omega, i + 1, by omega, nI_1 i, rfl, fun a k a1 a2 => ?_, ?_, ?_, ?_, fun g hg => ?_⟩
    · rw [xup_a (by omega)]
      exact fJ a k a1 a2
    · rw [xup_a (by omega)]
      exact j7
    · rw [xup_a (by omega)]
      exact j13
    · rw [xup_a (by omega)]
      exact j8
    · rw [gX]
      split
      · rfl
      · exact jh g (by omega)
  have hi64 : i = 64 := by have := h64.mp q; omega
  subst hi64
  have tJ := h.fr fJ
  have nJ : mNm J m tx n [] := by
    refine ⟨j13, fun i z hz => by simp at hz, fun i j z w _ hz => by simp at hz, fun g hg => ⟨[], jh g hg, Nat.le_refl _, List.nodup_nil, fun k => ⟨fun z => by simp at z, fun ⟨z, hz, _⟩ => by simp at hz⟩⟩⟩
  have kJ : mTks J m [] := ⟨j7, fun i z hz => by simp at hz⟩
  refine ⟨_, s_X13_skip tJ (Nat.zero_le n) (Q := fun y K => ((skR tx n 0).1 = true ∧ y = -1 ∧ K = xup J m 8 (nI (skR tx n 0).2)) ∨ ((skR tx n 0).1 = false ∧ y = nI (skR tx n 0).2 ∧ J = K)) (fun b hb => by rw [hb]; exact Or.inl ⟨rfl, rfl, rfl⟩) (fun b hb => by rw [hb]; exact Or.inr ⟨rfl, rfl, rfl⟩), ?_⟩
  intro v5 K5 h5
  refine ⟨cutL I tx n m, ?_, ?_⟩
  · rcases h5 with ⟨e1, rfl, rfl⟩ | ⟨e1, rfl, rfl⟩
    · refine ⟨0, [], 0, [], Nat.zero_le _, Nat.le_refl _, Nat.le_refl _, fun z hz => by simp at hz, rfl, ⟨?_, fun i z hz => by simp at hz⟩, ?_, ?_, Or.inl ⟨rfl, ⟨_, by rw [tz_bad e1], by rw [tz_bad e1], xup_s⟩, rfl⟩⟩
      · rw [xup_k (by decide)]
        exact j7
      · refine ⟨by rw [xup_k (by decide)]; exact j13, fun i z hz => by simp at hz, fun i j z w _ hz => by simp at hz, fun g hg => ⟨[], by rw [xup_a (by omega)]; exact jh g hg, Nat.le_refl _, List.nodup_nil, fun k => ⟨fun z => by simp at z, fun ⟨z, hz, _⟩ => by simp at hz⟩⟩⟩
      · intro a k a1 a2
        rw [gX, if_neg (by omega)]
        exact fJ a k a1 a2
    · exact ⟨n + 1 - 0, [], 0, [], Nat.zero_le _, Nat.le_refl _, Nat.le_refl _, fun z hz => by simp at hz, rfl, kJ, nJ, fJ, Or.inr ⟨e1, rfl, j8, rfl⟩⟩
  rintro _ y K ⟨D', p, nm, hp, hDp, hnD, hni, hz, kK, nK, fK, hy⟩
  have tK' := h.fr fK
  have hsk := skR_le (tx := tx) (n := n) (n - p) p (Nat.le_refl _) hp
  refine ⟨(∃ q, (tz tx n p nm).1 = [q] ∧ (tz tx n p nm).2 = nm ∧ (q.1 = 0 ∧ K m 8 = -1 ∧ q.2.2 = n ∨ q.1 = 1 ∧ K m 8 = nI q.2.2)), ?_, fun e => ?_, fun e => ?_⟩
  · rintro ⟨q, e1, e2, e3⟩
    rw [kK.1, tK'.1, show ix (nI D'.length) = D'.length from nI_clamp (by omega)]
    refine ⟨vp_in_nI (by omega) (by decide), ?_⟩
    rintro _ rfl _ rfl
    have kf : ∀ a k, a ≠ m + 3 → a ≠ m + 4 → a ≠ m + 5 → ¬ (a = m ∧ k = 7) → xup (xup K (m + 3) D'.length 0) (m + 5) D'.length (nI n) a k = K a k := fun a k a1 a2 a3 _ => by rw [xup_a a3, xup_a a1]
    have kg : mFr K (xup (xup K (m + 3) D'.length 0) (m + 5) D'.length (nI n)) m := fun a k a1 a2 => by rw [xup_a (by omega), xup_a (by omega)]
    refine ⟨⟨tK'.fr kg, ?_, D', q, ?_, ⟨?_, fun i z hz' => ?_⟩, ?_, ?_, ?_⟩, fK.tr kg⟩
    · rw [hz, e2]
      exact nK.fr kf
    · rw [hz, e1]
    · rw [xup_a (by omega), xup_a (by omega)]
      exact kK.1
    · have hi := (List.getElem?_eq_some_iff.mp hz').1
      obtain ⟨g1, g2, g3⟩ := kK.2 i z hz'
      exact ⟨by rw [xup_a (by omega), xup_k (by omega)]; exact g1, by rw [xup_a (by omega), xup_a (by omega)]; exact g2, by rw [xup_k (by omega), xup_a (by omega)]; exact g3⟩
    · rw [xup_a (by omega), xup_s]
    · rw [xup_s]
    · rw [kf _ _ (by omega) (by omega) (by omega) (by omega)]
      exact e3
  · rcases hy with ⟨-, ⟨b, b1, b2, b3⟩, -⟩ | ⟨-, e2, -⟩
    · exact ⟨_, b1, b2, Or.inr ⟨rfl, b3⟩⟩
    · rw [e] at e2
      exact absurd e2.symm (nI_m1 (by omega))
  · rcases hy with ⟨e1, -⟩ | ⟨e1, rfl, e3, rfl⟩
    · exact absurd e1 e
    have hf : ¬ (skR tx n p).1 = true := by rw [e1]; decide
    rw [tK'.1]
    have hle : nI n ≤ nI (skR tx n p).2 ↔ n ≤ (skR tx n p).2 := nI_leI (by omega) (by omega)
    refine ⟨fun q => ?_, fun q => ?_⟩
    · have := hle.mp q
      rw [tz_end hf (by omega)]
      exact ⟨(0, 0, n), rfl, rfl, Or.inl ⟨rfl, e3, rfl⟩⟩
    · have hsn : (skR tx n p).2 < n := by have : ¬ n ≤ (skR tx n p).2 := fun z => q (hle.mpr z); omega
      refine ⟨_, s_X13_tokenAt tK' hB nK kK hsn (by omega) (by omega), ?_⟩
      intro v11 K11 hT
      generalize hss : (skR tx n p).2 = s at *
      refine ⟨fun K12 => ((tkOne tx n s nm).1 = 1 ∧ v11 = -1 ∧ K12 = xup K m 8 (nI s)) ∨ (¬ (tkOne tx n s nm).1 = 1 ∧ v11 = nI (s + (tkOne tx n s nm).2.2.1) ∧ mTks K12 m (D' ++ [((tkOne tx n s nm).1, (tkOne tx n s nm).2.1, s)]) ∧ mNm K12 m tx n (tkOne tx n s nm).2.2.2 ∧ mFr K K12 m ∧ K12 m 8 = K m 8), ?_, fun z => ?_, fun z => ?_⟩
      · rintro K12 hK
        refine ⟨fun y K' => ∃ q6, q6 < n + 1 - p ∧ cutL I tx n m q6 y K', fun _ _ w => w, fun z => ?_, fun z => ?_⟩
        · rcases hK with ⟨k1, -, rfl⟩ | ⟨k1, k2, -⟩
          · refine ⟨0, by omega, D', p, nm, hp, hDp, hnD, hni, hz, ⟨by rw [xup_k (by decide)]; exact kK.1, fun i w hw => by rw [xup_a (by omega), xup_a (by omega), xup_a (by omega)]; exact kK.2 i w hw⟩, ?_, fun a k a1 a2 => by rw [gX, if_neg (by omega)]; exact fK a k a1 a2, Or.inl ⟨rfl, ⟨s, ?_, ?_, xup_s⟩, rfl⟩⟩
            · obtain ⟨n1, n2, n3, n4⟩ := nK
              refine ⟨by rw [xup_k (by decide)]; exact n1, fun i w hw => by rw [xup_a (by omega), xup_a (by omega)]; exact n2 i w hw, n3, fun g hg => ?_⟩
              obtain ⟨ks, u1, u2⟩ := n4 g hg
              rw [xup_a (by omega)]
              exact ⟨ks, u1.up fun k _ => xup_a (by omega), u2⟩
            · rw [tz_none hf (by rw [hss]; exact hsn) (by rw [hss]; exact k1), hss]
            · rw [tz_none hf (by rw [hss]; exact hsn) (by rw [hss]; exact k1)]
          · rw [z] at k2
            have := tkOne_len hsn k1
            exact absurd k2.symm (nI_m1 (by omega))
        · rcases hK with ⟨-, k2, -⟩ | ⟨k1, rfl, k3, k4, k5, k6⟩
          · exact absurd k2 z
          · have hl := tkOne_len hsn k1
            have hnm := tkOne_nm hsn hni k1
            have tK12 := tK'.fr k5
            have hz2 : tz tx n 0 [] = ((D' ++ [((tkOne tx n s nm).1, (tkOne tx n s nm).2.1, s)]) ++ (tz tx n (s + (tkOne tx n s nm).2.2.1) (tkOne tx n s nm).2.2.2).1, (tz tx n (s + (tkOne tx n s nm).2.2.1) (tkOne tx n s nm).2.2.2).2) := by
              rw [hz, tz_more hp hf (by rw [hss]; exact hsn) (by rw [hss]; exact k1), hss, List.append_assoc]
              rfl
            generalize tkOne tx n s nm = T at *
            have hlen : (D' ++ [(T.1, T.2.1, s)]).length = D'.length + 1 := by rw [List.length_append]; rfl
            refine ⟨_, s_X13_skip tK12 (q := s + T.2.2.1) (by omega) (Q := fun y K' => ∃ q6, q6 < n + 1 - p ∧ cutL I tx n m q6 y K') (fun b hb => ?_) (fun b hb => ?_), fun _ _ w => w⟩
            · have hb1 : (skR tx n (s + T.2.2.1)).1 = true := by rw [hb]
              refine ⟨0, by omega, D' ++ [(T.1, T.2.1, s)], s + T.2.2.1, T.2.2.2, by omega, by omega, by omega, hnm.1, hz2, ⟨by rw [xup_k (by decide)]; exact k3.1, fun i w hw => by rw [xup_a (by omega), xup_a (by omega), xup_a (by omega)]; exact k3.2 i w hw⟩, ?_, fun a k a1 a2 => by rw [gX, if_neg (by omega)]; exact (fK.tr k5) a k a1 a2, Or.inl ⟨rfl, ⟨b, ?_, ?_, xup_s⟩, rfl⟩⟩
              · obtain ⟨n1, n2, n3, n4⟩ := k4
                refine ⟨by rw [xup_k (by decide)]; exact n1, fun i w hw => by rw [xup_a (by omega), xup_a (by omega)]; exact n2 i w hw, n3, fun g hg => ?_⟩
                obtain ⟨ks, u1, u2⟩ := n4 g hg
                rw [xup_a (by omega)]
                exact ⟨ks, u1.up fun k _ => xup_a (by omega), u2⟩
              · rw [tz_bad hb1, hb]
              · rw [tz_bad hb1]
            · have hb1 : (skR tx n (s + T.2.2.1)).1 = false := by rw [hb]
              exact ⟨n + 1 - (s + T.2.2.1), by omega, D' ++ [(T.1, T.2.1, s)], s + T.2.2.1, T.2.2.2, by omega, by omega, by omega, hnm.1, hz2, k3, k4, fK.tr k5, Or.inr ⟨hb1, by rw [hb], k6.trans e3, rfl⟩⟩
      · rintro _ rfl
        rcases hT with ⟨k1, k2, rfl⟩ | ⟨k1, k2, -⟩
        · exact Or.inl ⟨k1, k2, rfl⟩
        · rw [z] at k2
          have := tkOne_len hsn k1
          exact absurd k2.symm (nI_m1 (by omega))
      · rcases hT with ⟨k1, k2, rfl⟩ | ⟨k1, k2, k3, k4, k5, k6⟩
        · exact absurd k2 z
        · exact Or.inr ⟨k1, k2, k3, k4, k5, k6⟩
end MS
