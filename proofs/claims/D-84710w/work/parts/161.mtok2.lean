/-! ===== the Model's tokens: words, numbers ===== -/
set_option maxRecDepth 100000
def sgM (j : Nat) : Nat := if j = 1 then 2 else if j = 2 then 3 else if j = 3 then 1 else j
/-- a token of the House as the Model has it -/
def mkK (k : Int32) : Int32 := if k = 2 then 1 else if k = 3 then 3 else if k < 40 then 2 else 4
def mkV (k v : Int32) : Int32 := if k = 2 then v else if k = 3 then v else if k < 40 then k - 10 else nI (sgM (ix (k - 40)))
def mTks (I : xII) (m : Nat) (D : tkL) : Prop := I m 7 = nI D.length ∧ ∀ i q, D[i]? = some q → I (m + 3) i = mkK q.1 ∧ I (m + 4) i = mkV q.1 q.2.1 ∧ I (m + 5) i = nI q.2.2
def mFr (I J : xII) (m : Nat) : Prop := ∀ a k, (a < m + 3 ∨ m + 9 < a) → ¬ (a = m ∧ (k = 7 ∨ k = 8 ∨ k = 13)) → J a k = I a k
section MW
variable {m n p s l : Nat} {I J : xII} {tx : Nat → Int32} {nm : List (Nat × Nat)} {D : tkL}
theorem mFr.rf : mFr I I m := fun _ _ _ _ => rfl
theorem mFr.tr {K : xII} (h : mFr I J m) (h' : mFr J K m) : mFr I K m := fun a k h1 h2 => (h' a k h1 h2).trans (h a k h1 h2)
theorem mTx.fr (h : mTx I m n tx) (hf : mFr I J m) : mTx J m n tx := ⟨(hf _ _ (by omega) (by omega)).trans h.1, h.2.1, fun k hk => (hf _ _ (by omega) (by omega)).trans (h.2.2 k hk)⟩
theorem fst1_congr {P P' : Nat → Bool} : ∀ {c k : Nat}, (∀ i, k ≤ i → i < k + c → P i = P' i) → fst1 P c k = fst1 P' c k
  | 0, _, _ => rfl
  | c + 1, k, h => by
    rw [fst1, fst1, h k (Nat.le_refl _) (by omega), fst1_congr fun i h1 h2 => h i (by omega) (by omega)]
theorem rIx_w (hp : p + l ≤ n) : rIx tx n 61 p l = wIx tx p l := by
  unfold rIx wIx
  refine fst1_congr fun i _ _ => ?_
  unfold isRw isWd
  show decide (_ ∧ _) = decide (_ ∧ _)
  have e : rW 61 i = strB i := rfl
  rw [e]
  refine decide_eq_decide.mpr ⟨fun h => ⟨h.1, fun j hj => ?_⟩, fun h => ⟨h.1, fun j hj => ?_⟩⟩
  · rw [← h.2 j hj, mAt_lt (by omega)]
  · rw [mAt_lt (by omega)]
    exact h.2 j hj
theorem s_X13_token {k v : Int32} {q : Int32 × Int32 × Nat} (h : mTks I m D) (hD : D.length < 4002) (hk : mkK q.1 = k) (hv : mkV q.1 q.2.1 = v) (hq : q.2.2 = s) : w_X13_token m k v (nI s) (fun J => mTks J m (D ++ [q]) ∧ mFr I J m ∧ ∀ a k, a ≠ m + 3 → a ≠ m + 4 → a ≠ m + 5 → ¬ (a = m ∧ k = 7) → J a k = I a k) I := by
  obtain ⟨h1, h2⟩ := h
  unfold w_X13_token
  rw [h1, show ix (nI D.length) = D.length from nI_clamp (by omega)]
  refine ⟨vp_in_nI hD (by decide), ?_⟩
  rintro _ rfl _ rfl _ rfl _ rfl
  refine ⟨⟨?_, fun i z hz => ?_⟩, fun a k a1 a2 => ?_, fun a k a1 a2 a3 a4 => ?_⟩
  · rw [xup_s, nI_1, List.length_append]
    rfl
  · rcases getD_snoc hz with ⟨w1, w2⟩ | ⟨rfl, rfl⟩
    · obtain ⟨g1, g2, g3⟩ := h2 i z w2
      refine ⟨?_, ?_, ?_⟩ <;> grind [gX]
    · refine ⟨?_, ?_, ?_⟩ <;> grind [gX]
  · grind [gX]
  · grind [gX]
/-- bytes: letters, digits on both sides -/
theorem byt : ∀ b, b < 256 → (f_X13_isLetter (nI b) = 0 ↔ f_X2_isLetter (nI b) = 0) ∧ (f_X13_isDigit (nI b) = 0 ↔ f_X2_isDigit (nI b) = 0) ∧ (f_X13_isInner (nI b) = 0 ↔ inB (nI b) = false) ∧ ((16 : Int32) ≤ f_X13_hex (nI b) ↔ f_X2_digit (nI b) < 0) ∧ (¬ f_X2_digit (nI b) < 0 → f_X13_hex (nI b) = f_X2_digit (nI b)) ∧ (f_X13_isDigit (nI b) = 0 ↔ (f_X2_digit (nI b) < 0 ∨ ¬ f_X2_digit (nI b) ≤ 9)) ∧ (¬ f_X2_digit (nI b) < 0 → inB (nI b) = true) := by decide +kernel
theorem inn0 : f_X13_isInner 0 = 0 := by decide
theorem s_inner (hB : txB tx n) {j : Nat} : f_X13_isInner (mAt tx n j) = 0 ↔ ¬ (j < n ∧ inB (tx j) = true) := by
  by_cases hj : j < n
  · obtain ⟨c, hc, e⟩ := hB j hj
    rw [mAt_lt hj, e, (byt c hc).2.2.1]
    cases inB (nI c) <;> simp [hj]
  · rw [mAt_ge hj]
    exact ⟨fun _ z => hj z.1, fun _ => inn0⟩
/-- what a token leaves -/
def tkM (I J : xII) (m n : Nat) (tx : Nat → Int32) (D : tkL) (s : Nat) (T : tkT) (v : Int32) : Prop := (T.1 = 1 ∧ v = -1 ∧ I = J) ∨ (¬ T.1 = 1 ∧ v = nI (s + T.2.2.1) ∧ mTks J m (D ++ [(T.1, T.2.1, s)]) ∧ mNm J m tx n T.2.2.2 ∧ mFr I J m ∧ J m 8 = I m 8)
theorem mNm.fr (h : mNm I m tx n nm) (hf : ∀ a k, a ≠ m + 3 → a ≠ m + 4 → a ≠ m + 5 → ¬ (a = m ∧ k = 7) → J a k = I a k) : mNm J m tx n nm := by
  obtain ⟨n1, n2, n3, n4⟩ := h
  refine ⟨(hf _ _ (by omega) (by omega) (by omega) (by omega)).trans n1, fun i z hz => ?_, n3, fun g hg => ?_⟩
  · rw [hf _ _ (by omega) (by omega) (by omega) (by omega), hf _ _ (by omega) (by omega) (by omega) (by omega)]
    exact n2 i z hz
  · obtain ⟨ks, u1, u2⟩ := n4 g hg
    rw [hf _ _ (by omega) (by omega) (by omega) (by omega)]
    exact ⟨ks, u1.up fun k _ => hf _ _ (by omega) (by omega) (by omega) (by omega), u2⟩
theorem s_X13_wordToken (h : mTx I m n tx) (hB : txB tx n) (hN : mNm I m tx n nm) (hT : mTks I m D) (hs : s < n) (hd : f_X2_isDigit (tx s) = 0) (hle : ¬ f_X2_isLetter (tx s) = 0) (hD : D.length < 4002) (hc : nm.length < 2100) : w_X13_wordToken m (nI s) (fun v J => tkM I J m n tx D s (tkOne tx n s nm) v) I := by
  have hn := h.2.1
  have hL := rnL_le (tx := tx) (n := n) (p := s) (by omega)
  have hL1 := rnL_pos (tx := tx) hs (inB_let hle)
  refine ⟨fun z y J => ∃ j, s ≤ j ∧ j ≤ n ∧ z = n - j ∧ y = nI j ∧ I = J ∧ j + rnL tx n j = s + rnL tx n s, ⟨_, s, Nat.le_refl _, by omega, rfl, rfl, rfl, rfl⟩, ?_⟩
  rintro _ _ _ ⟨j, j1, j2, rfl, rfl, rfl, j3⟩
  refine ⟨_, s_at h (k := j) rfl (by omega), ?_⟩
  rintro _ _ ⟨rfl, rfl⟩
  refine ⟨fun q => ?_, fun q => ?_⟩
  · have hj0 : rnL tx n j = 0 := by
      have := (s_inner hB).mp q
      by_cases w : j < n
      · exact run1_no (Bool.eq_false_iff.mpr fun u => this ⟨w, u⟩)
      · exact run1_ge (by omega)
    have hj : j = s + rnL tx n s := by omega
    rw [nI_sub j1]
    have ejs : j - s = rnL tx n s := by omega
    rw [ejs]
    have h16 : nI (rnL tx n s) ≤ 16 ↔ rnL tx n s ≤ 16 := nI_leI (b := 16) (by omega) (by decide)
    have eT : tkOne tx n s nm = (if ¬ rnL tx n s ≤ 16 then (1, 0, 0, nm) else match wIx tx s (rnL tx n s) with
      | some k => (nI (10 + k), 0, rnL tx n s, nm)
      | none => match nIx tx nm s (rnL tx n s) with
        | some k => (2, nI k, rnL tx n s, nm)
        | none => (2, nI nm.length, rnL tx n s, nm ++ [(s, rnL tx n s)])) := by
      rw [tkOne, if_neg (fun z => z hd), if_pos hle]
      rfl
    rw [eT]
    refine ⟨fun w => ?_, fun w => ?_⟩
    · have w16 := h16.mp w
      rw [if_neg (fun z => z w16)]
      refine ⟨_, s_X13_placeIn h (Or.inl rfl) (p := s) (l := rnL tx n s) (by omega) (by omega), ?_⟩
      rintro _ _ ⟨rfl, rfl⟩
      rw [rIx_w hL]
      cases hw : wIx tx s (rnL tx n s) with
      | some k =>
        have hk := (fst1_some hw).2.2.1
        have hk1 : ¬ nI k = -1 := by
          intro q
          have := congrArg Int32.toInt q
          rw [nI_toInt (by omega)] at this
          have e : (-1 : Int32).toInt = -1 := rfl
          omega
        have e1 : mkK (nI (10 + k)) = 2 ∧ mkV (nI (10 + k)) 0 = nI k ∧ ¬ nI (10 + k) = 1 := by
          have : ∀ k, k < 15 → mkK (nI (10 + k)) = 2 ∧ mkV (nI (10 + k)) 0 = nI k ∧ ¬ nI (10 + k) = 1 := by decide
          exact this k (by omega)
        refine ⟨fun y J => y = nI k ∧ I = J, ?_, fun u => absurd u hk1, fun _ => ⟨rfl, rfl⟩⟩
        rintro _ _ ⟨rfl, rfl⟩
        show ∃ R5 : xII → Prop, w_X13_token m (if nI k = -1 then 1 else 2) (nI k) (nI s) R5 I ∧ _
        rw [if_neg hk1]
        refine ⟨_, s_X13_token (q := (nI (10 + k), 0, s)) hT hD e1.1 e1.2.1 rfl, ?_⟩
        rintro K ⟨b1, b2, b3⟩
        exact Or.inr ⟨e1.2.2, by rw [hj], b1, hN.fr b3, b2, b3 _ _ (by omega) (by omega) (by omega) (by omega)⟩
      | none =>
        refine ⟨fun y J => (∃ k, nIx tx nm s (rnL tx n s) = some k ∧ y = nI k ∧ I = J) ∨ (nIx tx nm s (rnL tx n s) = none ∧ y = nI nm.length ∧ mNm J m tx n (nm ++ [(s, rnL tx n s)]) ∧ ∀ a k, a ≠ m + 6 → a ≠ m + 7 → a ≠ m + 8 → a ≠ m + 9 → ¬ (a = m ∧ k = 13) → J a k = I a k), ?_, fun _ => ⟨_, s_X13_nameOf h hB hN hL1 w16 hL hc, fun _ _ u => u⟩, fun u => absurd rfl u⟩
        rintro y K hK
        show ∃ R5 : xII → Prop, w_X13_token m (if (-1 : Int32) = -1 then 1 else 2) y (nI s) R5 K ∧ _
        rw [if_pos rfl]
        rcases hK with ⟨k, k1, rfl, rfl⟩ | ⟨k1, rfl, k2, k3⟩
        · rw [k1]
          refine ⟨_, s_X13_token (q := (2, nI k, s)) hT hD rfl rfl rfl, ?_⟩
          rintro K ⟨b1, b2, b3⟩
          exact Or.inr ⟨(by decide : ¬ (2 : Int32) = 1), by rw [hj], b1, hN.fr b3, b2, b3 _ _ (by omega) (by omega) (by omega) (by omega)⟩
        · rw [k1]
          have hT' : mTks K m D := ⟨(k3 _ _ (by omega) (by omega) (by omega) (by omega) (by omega)).trans hT.1, fun i z hz => by
            rw [k3 _ _ (by omega) (by omega) (by omega) (by omega) (by omega), k3 _ _ (by omega) (by omega) (by omega) (by omega) (by omega), k3 _ _ (by omega) (by omega) (by omega) (by omega) (by omega)]
            exact hT.2 i z hz⟩
          refine ⟨_, s_X13_token (q := (2, nI nm.length, s)) hT' hD rfl rfl rfl, ?_⟩
          rintro K' ⟨b1, b2, b3⟩
          exact Or.inr ⟨(by decide : ¬ (2 : Int32) = 1), by rw [hj], b1, k2.fr b3, mFr.tr (fun a k a1 a2 => k3 a k (by omega) (by omega) (by omega) (by omega) (by omega)) b2, (b3 _ _ (by omega) (by omega) (by omega) (by omega)).trans (k3 _ _ (by omega) (by omega) (by omega) (by omega) (by omega))⟩
    · have w16 : ¬ rnL tx n s ≤ 16 := fun z => w (h16.mpr z)
      rw [if_pos w16]
      exact Or.inl ⟨rfl, rfl, rfl⟩
  · have hj : j < n ∧ inB (tx j) = true := Classical.not_not.mp fun z => q ((s_inner hB).mpr z)
    have : rnL tx n j = rnL tx n (j + 1) + 1 := run1_lt hj.1 hj.2
    exact ⟨n - (j + 1), by omega, j + 1, by omega, by omega, rfl, nI_1 j, rfl, by omega⟩
end MW
