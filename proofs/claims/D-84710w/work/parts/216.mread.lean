/-! ===== the Model's read: names by their text, the row of tokens ===== -/
set_option maxRecDepth 100000
section RD0
variable {tx : Nat → Int32} {n p m : Nat} {nm nms : List (Nat × Nat)} {D : tkL} {M : Int32 → Int32} {J : xII}
/-- a token that is a name -/
def nmT (tx : Nat → Int32) (n : Nat) (nms : List (Nat × Nat)) (v : Int32) (p : Nat) : Prop := ∃ k z, v = nI k ∧ nms[k]? = some z ∧ (∀ i, i < z.2 → tx (z.1 + i) = tx (p + i)) ∧ p + z.2 ≤ n
theorem tkOne_nm2 (hp : p < n) (h2 : (tkOne tx n p nm).1 = 2) : nmT tx n (tkOne tx n p nm).2.2.2 (tkOne tx n p nm).2.1 p := by
  unfold tkOne at h2 ⊢
  by_cases hd : ¬ f_X2_isDigit (tx p) = 0
  · rw [if_pos hd] at h2
    cases hn : nbT tx n p with
    | none => rw [hn] at h2; exact absurd h2 (by decide : ¬ (1 : Int32) = 2)
    | some q => rw [hn] at h2; exact absurd h2 (by decide : ¬ (3 : Int32) = 2)
  · rw [if_neg hd] at h2 ⊢
    by_cases hl : ¬ f_X2_isLetter (tx p) = 0
    · rw [if_pos hl] at h2 ⊢
      by_cases h16 : ¬ rnL tx n p ≤ 16
      · rw [if_pos h16] at h2
        exact absurd h2 (by decide : ¬ (1 : Int32) = 2)
      · rw [if_neg h16] at h2 ⊢
        cases hw : wIx tx p (rnL tx n p) with
        | some k =>
          rw [hw] at h2
          have := (fst1_some hw).2.2.1
          exact absurd h2 (nI_ne (a := 10 + k) (b := 2) (by omega) (by decide) (by omega))
        | none =>
          have hle := rnL_le (tx := tx) (Nat.le_of_lt hp)
          cases hx : nIx tx nm p (rnL tx n p) with
          | some k =>
            obtain ⟨k1, -, k3, -⟩ := fst1_some hx
            have k3' : k < nm.length := by omega
            refine ⟨k, nm[k], rfl, List.getElem?_eq_getElem k3', ?_⟩
            rw [List.getD_eq_getElem?_getD, List.getElem?_eq_getElem k3'] at k1
            obtain ⟨c1, c2⟩ := of_decide_eq_true k1
            dsimp only [Option.getD] at c1 c2
            rw [c1]
            exact ⟨c2, hle⟩
          | none => exact ⟨nm.length, (p, rnL tx n p), rfl, by simp, fun _ _ => rfl, hle⟩
    · rw [if_neg hl] at h2
      cases hs : sIx tx n p with
      | some k =>
        rw [hs] at h2
        have := (fst1_some hs).2.2.1
        exact absurd h2 (nI_ne (a := 40 + k) (b := 2) (by omega) (by decide) (by omega))
      | none => rw [hs] at h2; exact absurd h2 (by decide : ¬ (1 : Int32) = 2)
theorem tkOne_pre {k : Nat} {z : Nat × Nat} (hk : nm[k]? = some z) : (tkOne tx n p nm).2.2.2[k]? = some z := by
  unfold tkOne
  by_cases hd : ¬ f_X2_isDigit (tx p) = 0
  · rw [if_pos hd]
    cases hn : nbT tx n p <;> exact hk
  · rw [if_neg hd]
    by_cases hl : ¬ f_X2_isLetter (tx p) = 0
    · rw [if_pos hl]
      by_cases h16 : ¬ rnL tx n p ≤ 16
      · rw [if_pos h16]
        exact hk
      · rw [if_neg h16]
        cases hw : wIx tx p (rnL tx n p) with
        | some k => exact hk
        | none =>
          cases hx : nIx tx nm p (rnL tx n p) with
          | some k => exact hk
          | none =>
            show (nm ++ [(p, rnL tx n p)])[k]? = some z
            rw [List.getElem?_append_left (List.getElem?_eq_some_iff.mp hk).1]
            exact hk
    · rw [if_neg hl]
      cases hs : sIx tx n p <;> exact hk
theorem nmT.pre {nms' : List (Nat × Nat)} {v : Int32} (h : nmT tx n nms v p) (hp : ∀ (k : Nat) (z : Nat × Nat), nms[k]? = some z → nms'[k]? = some z) : nmT tx n nms' v p := by
  obtain ⟨k, z, h1, h2, h3⟩ := h
  exact ⟨k, z, h1, hp k z h2, h3⟩
theorem tz_names : ∀ (m p : Nat) (nm : List (Nat × Nat)), n - p ≤ m → p ≤ n → nmIn n nm → (∀ q ∈ (tz tx n p nm).1, q.1 = 2 → nmT tx n (tz tx n p nm).2 q.2.1 q.2.2) ∧ ∀ (k : Nat) (z : Nat × Nat), nm[k]? = some z → (tz tx n p nm).2[k]? = some z := by
  intro m
  have one : ∀ (nm : List (Nat × Nat)) (k : Int32) (s : Nat), k = 0 ∨ k = 1 → (∀ q ∈ ([(k, 0, s)] : tkL), q.1 = 2 → nmT tx n nm q.2.1 q.2.2) ∧ ∀ (k : Nat) (z : Nat × Nat), nm[k]? = some z → nm[k]? = some z := fun nm k s hk => by
    refine ⟨fun q hq h2 => ?_, fun _ _ z => z⟩
    rw [List.mem_singleton.mp hq] at h2
    rcases hk with rfl | rfl
    · exact absurd h2 (by decide : ¬ (0 : Int32) = 2)
    · exact absurd h2 (by decide : ¬ (1 : Int32) = 2)
  induction m with
  | zero =>
    intro p nm hm hp hn
    have hk := skR_le (tx := tx) (n := n) (n - p) p (Nat.le_refl _) hp
    by_cases h : (skR tx n p).1 = true
    · rw [tz_bad h]
      exact one _ _ _ (Or.inr rfl)
    · rw [tz_end h (by omega)]
      exact one _ _ _ (Or.inl rfl)
  | succ m ih =>
    intro p nm hm hp hn
    have hk := skR_le (tx := tx) (n := n) (n - p) p (Nat.le_refl _) hp
    by_cases h : (skR tx n p).1 = true
    · rw [tz_bad h]
      exact one _ _ _ (Or.inr rfl)
    · by_cases h2 : (skR tx n p).2 < n
      · by_cases h3 : (tkOne tx n (skR tx n p).2 nm).1 = 1
        · rw [tz_none h h2 h3]
          exact one _ _ _ (Or.inr rfl)
        · rw [tz_more hp h h2 h3]
          have hl := tkOne_len h2 h3
          have hnm := tkOne_nm h2 hn h3
          have hv := tkOne_nm2 (tx := tx) (nm := nm) h2
          have hg := fun k z => tkOne_pre (tx := tx) (n := n) (p := (skR tx n p).2) (nm := nm) (k := k) (z := z)
          have IH := ih ((skR tx n p).2 + (tkOne tx n (skR tx n p).2 nm).2.2.1) (tkOne tx n (skR tx n p).2 nm).2.2.2 (by omega) (by omega) hnm.1
          generalize tz tx n ((skR tx n p).2 + (tkOne tx n (skR tx n p).2 nm).2.2.1) (tkOne tx n (skR tx n p).2 nm).2.2.2 = R at IH ⊢
          generalize tkOne tx n (skR tx n p).2 nm = T at *
          generalize (skR tx n p).2 = s at *
          obtain ⟨i1, i2⟩ := IH
          refine ⟨fun q hq z => ?_, fun k z hz => i2 k z (hg k z hz)⟩
          rcases List.mem_cons.mp hq with rfl | hq
          · exact (hv z).pre i2
          · exact i1 q hq z
      · rw [tz_end h h2]
        exact one _ _ _ (Or.inl rfl)
theorem isM_iff {k a : Nat} {z : Nat × Nat} (hk : nms[k]? = some z) (hk4 : k < 4000) (ht : ∀ i, i < z.2 → tx (z.1 + i) = tx (a + i)) (ha : a + z.2 ≤ n) : isM tx nms (nI k) = 1 ↔ (z.2 = 4 ∧ mAt tx n a = 109 ∧ mAt tx n (a + 1) = 97 ∧ mAt tx n (a + 2) = 105 ∧ mAt tx n (a + 3) = 110) := by
  have e : nms.getD (ix (nI k)) (0, 0) = z := by
    rw [show ix (nI k) = k from nI_clamp (by omega), List.getD_eq_getElem?_getD, hk]
    rfl
  have s : strB 60 = [109, 97, 105, 110] := by decide
  unfold isM
  rw [e, s]
  constructor
  · intro h
    have h1 : isWd tx z.1 z.2 [109, 97, 105, 110] = true := by
      by_cases c : isWd tx z.1 z.2 [109, 97, 105, 110] = true
      · exact c
      · rw [if_neg c] at h
        exact absurd h (by decide)
    obtain ⟨c1, c2⟩ := of_decide_eq_true h1
    have c3 : z.2 = 4 := c1.symm
    refine ⟨c3, ?_, ?_, ?_, ?_⟩
    · rw [mAt_lt (by omega)]
      exact (ht 0 (by omega)).symm.trans (c2 0 (by omega))
    · rw [mAt_lt (by omega)]
      exact (ht 1 (by omega)).symm.trans (c2 1 (by omega))
    · rw [mAt_lt (by omega)]
      exact (ht 2 (by omega)).symm.trans (c2 2 (by omega))
    · rw [mAt_lt (by omega)]
      exact (ht 3 (by omega)).symm.trans (c2 3 (by omega))
  · rintro ⟨c1, d0, d1, d2, d3⟩
    rw [mAt_lt (by omega)] at d0 d1 d2 d3
    refine if_pos (decide_eq_true ⟨c1.symm, fun i hi => ?_⟩)
    rw [ht i hi]
    have : i = 0 ∨ i = 1 ∨ i = 2 ∨ i = 3 := by omega
    rcases this with rfl | rfl | rfl | rfl
    · exact d0
    · exact d1
    · exact d2
    · exact d3
theorem pT_ft {t t1 : Nat} {e : Tr} (h : pT D M t = .ok (e, t1)) : ∀ q ∈ ftOf e, tK D (t + 1) = 2 ∧ q.1.1 = tV D (t + 1) ∧ q.1.2.1 = tP D (t + 1) := by
  intro q hq
  unfold pT at h
  split at h
  · obtain ⟨-, h⟩ := pNeed_ok h
    obtain ⟨-, h⟩ := pNeed_ok h
    obtain ⟨-, h⟩ := pNeed_ok h
    obtain ⟨e1, t2, -, h⟩ := pAnd_ok h
    obtain ⟨-, h⟩ := pNeed_ok h
    cases h
    exact absurd hq List.not_mem_nil
  · split at h
    · obtain ⟨hk, h⟩ := pNeed_ok h
      split at h
      · unfold pFun at h
        obtain ⟨-, -, h⟩ := pOpen_ok h
        obtain ⟨e1, t2, -, h⟩ := pAnd_ok h
        obtain ⟨-, h⟩ := pNeed_ok h
        obtain ⟨e2, t3, -, h⟩ := pAnd_ok h
        cases h
        rw [List.mem_singleton.mp hq]
        exact ⟨hk, rfl, rfl⟩
      · split at h
        · unfold pRowT at h
          obtain ⟨-, -, h⟩ := pOpen_ok h
          obtain ⟨e1, t2, -, h⟩ := pAnd_ok h
          obtain ⟨-, h⟩ := pNeed_ok h
          obtain ⟨e2, t3, -, h⟩ := pAnd_ok h
          obtain ⟨-, h⟩ := pNeed_ok h
          cases h
          exact absurd hq List.not_mem_nil
        · unfold pGlob at h
          obtain ⟨e1, t2, -, h⟩ := pAnd_ok h
          obtain ⟨-, h⟩ := pNeed_ok h
          cases h
          exact absurd hq List.not_mem_nil
    · exact nomatch h
theorem pTs_ft : ∀ (f t : Nat) {E : Tr} {t1 : Nat}, pTs D M f t = .ok (E, t1) → ∀ q ∈ ftA E, ∃ j, tK D j = 2 ∧ q.1.1 = tV D j ∧ q.1.2.1 = tP D j
  | 0, t, E, t1, h, q, hq => nomatch h
  | f + 1, t, E, t1, h, q, hq => by
    unfold pTs at h
    split at h
    · cases h
      exact absurd hq List.not_mem_nil
    · obtain ⟨e, t2, h1, h⟩ := pAnd_ok h
      obtain ⟨s, t3, h2, h⟩ := pAnd_ok h
      cases h
      rcases List.mem_append.mp (show q ∈ ftOf e ++ ftA s from hq) with w | w
      · exact ⟨_, pT_ft h1 q w⟩
      · exact pTs_ft f t2 h2 q w
theorem TZ.inD {R : tkL × List (Nat × Nat)} (h : TZ n 0 [] R) (hn : n ≤ 4000) : inD R.1 := by
  obtain ⟨-, -, -, -, -, -, i9, i10⟩ := h
  intro i j hi hj he
  have e : ∀ k (hk : k < R.1.length), tP R.1 k = nI (R.1[k]).2.2 := fun k hk => by
    rw [tP, List.getD_eq_getElem?_getD, List.getElem?_eq_getElem hk]
    rfl
  rw [e i hi, e j hj] at he
  have b1 := (i9 _ (List.getElem_mem hi)).2
  have b2 := (i9 _ (List.getElem_mem hj)).2
  have he2 := nIj (by omega) (by omega) he
  rw [List.pairwise_iff_getElem] at i10
  rcases Nat.lt_trichotomy i j with w | w | w
  · have := i10 i j hi hj w
    omega
  · exact w
  · have := i10 j i hj hi w
    omega
theorem mCut.md {R : tkL × List (Nat × Nat)} (h : mCut J m tx n R.1 R.2) (hz : TZ n 0 [] R) (hn : n ≤ 4000) : mD J m R.1 := by
  have hw := (hz.wf hn).1
  obtain ⟨-, -, D', q, e, ⟨t1, t2⟩, h3, h5, hq⟩ := h
  have i9 := hz.2.2.2.2.2.2.1 q (by rw [e]; simp)
  have hl : R.1.length - 1 = D'.length := by rw [e]; simp
  have gl : R.1.getD D'.length (0, 0, 0) = q := by
    rw [e, List.getD_eq_getElem?_getD, List.getElem?_append_right (Nat.le_refl _), Nat.sub_self]
    rfl
  refine ⟨hw, by rw [hl]; exact t1, fun i hi => ?_, by rw [hl]; exact h3, ?_⟩
  · have hi' : i < D'.length := by omega
    obtain ⟨c1, c2, c3⟩ := t2 i D'[i] (List.getElem?_eq_getElem hi')
    have ge : R.1.getD i (0, 0, 0) = D'[i] := by
      rw [e, List.getD_eq_getElem?_getD, List.getElem?_append_left hi', List.getElem?_eq_getElem hi']
      rfl
    unfold tK tV tP
    rw [ge]
    exact ⟨c1, c2, c3⟩
  · rw [hl]
    unfold tK tP
    rw [gl]
    rcases hq with ⟨q1, q2, q3⟩ | ⟨q1, q2⟩
    · exact Or.inl ⟨q1, q2, by rw [h5, q3]⟩
    · exact Or.inr ⟨q1, q2, nI_m1 (by omega)⟩
/-- the functions named main -/
def mnO (M : Int32 → Int32) : List (fnc × Option Int32) → nte
  | [] => none
  | q :: r => mnN (mnO M r) (if M q.1.1 = 1 then (match q.2 with
    | none => none
    | some p => nt 12 p) else none)
def mnX (M : Int32 → Int32) : List (fnc × Option Int32) → Nat → Int32
  | [], _ => -1
  | q :: r, k => if M q.1.1 = 1 then nI k else mnX M r (k + 1)
/-- what a whole text has noted -/
def rdN (M : Int32 → Int32) (n : Nat) (E : Tr) (s : gS) : nte := mnN s.2.1 (mnN (mnO M (ftA E)) (if mnX M (ftA E) 0 = -1 then nt 12 (nI n) else none))
def rdM (E : Tr) (w : Int32) : gS := mTs 1 ((ftA E).map (·.1)) E (gS0 w)
/-- a program stands -/
def rdS (J : xII) (m : Nat) (M : Int32 → Int32) (E : Tr) (s : gS) : Prop := mSt J m 0 s.1 ∧ gR J m s.2.2.2.1 ∧ (∀ k r, s.2.2.2.2[k]? = some r → rwR J m k r) ∧ J m 24 = nI (ftA E).length ∧ J m 74 = mnX M (ftA E) 0 ∧ (ftA E).length ≤ 500 ∧ s.1.length ≤ 9000 ∧ ∀ k q, (ftA E)[k]? = some q → mFn J m k q.1
def rdG (I J : xII) (m : Nat) : Prop := ∀ a j, (a < m ∨ m + 39 < a ∨ a = m + 1) → J a j = I a j
def rdFd (I J : xII) (m : Nat) : Prop := ∀ j, ¬ (sFk j ∨ j = 36 ∨ j = 37 ∨ j = 24 ∨ j = 35 ∨ j = 50 ∨ j = 61 ∨ j = 2 ∨ j = 3 ∨ j = 7 ∨ j = 8 ∨ j = 13 ∨ j = 46 ∨ j = 54 ∨ j = 73 ∨ j = 74 ∨ j = 75 ∨ j = 79 ∨ j = 80) → J m j = I m j
def rdQ (I : xII) (m n : Nat) (tx : Nat → Int32) (R : tkL × List (Nat × Nat)) (v : Int32) (J : xII) : Prop := rdG I J m ∧ rdFd I J m ∧ mTx J m n tx ∧ J m 2 = 0 ∧ J m 75 = 0 ∧ J m 79 = 0 ∧ J m 80 = 0 ∧ match pTs R.1 (isM tx R.2) (R.1.length + 1) 0 with
  | .error f => v = 16 * f.2 + f.1 ∧ J m 73 = 0
  | .ok (E, _) => ∃ w, match rdN (isM tx R.2) n E (rdM E w) with
    | some y => v = 16 * y.2.1 + y.1 ∧ J m 73 = 0
    | none => v = 0 ∧ J m 73 = 1 ∧ rdS J m (isM tx R.2) E (rdM E w)
end RD0
