/-! ===== the Model's functions ===== -/
set_option maxRecDepth 100000
/-- what a function may change -/
def fG3 (I J : xII) (m k T : Nat) : Prop := ∀ a j, (a < m + 10 ∨ (m + 17 < a ∧ a < m + 32 ∧ ¬ (m + 18 ≤ a ∧ a ≤ m + 26 ∧ j = k) ∧ ¬ (a = m + 27 ∧ T ≤ j)) ∨ m + 39 < a) → ¬ (a = m ∧ (sFk j ∨ j = 24 ∨ j = 35 ∨ j = 50 ∨ j = 61)) → J a j = I a j
/-- a function's row in the first pass -/
def fT0 (J : xII) (m k T t : Nat) (nm p vd : Int32) (F : Tr) : Prop := J (m + 18) k = nm ∧ J (m + 19) k = p ∧ J (m + 26) k = vd ∧ J (m + 24) k = nI T ∧ (F = lf → J (m + 25) k = -1) ∧ (¬ F = lf → J (m + 25) k = nI (t + 1)) ∧ J m 24 = nI (k + 1)
def fuQ (I : xII) (m : Nat) (D : tkL) (fs : List fnc) (t st : Nat) (x : nte) (k T : Nat) (nm p vd : Int32) (Γ : List dcl) (mkF : Tr → Tr → Tr) (B : Nat) (r : pR) (v : Int32) (J : xII) : Prop := fG3 I J m k T ∧ match r with
  | .error fl => v = 0 ∧ eX J m fl
  | .ok (e, t2) => v = 1 ∧ ∃ F bd z E1 q, e = mkF F (nd 21 [] bd lf) ∧ mFm (I m 46) fs F 0 (Γ, 0, 0) = (z, E1) ∧ q = mS (I m 46) fs vd bd 1 false st E1 ∧ gE J m D fs t2 (st + q.1.length + 2) (mN (I m 46) x (mnN (mnN (twN Γ fs 0 nm p) (if k < 40 then none else nt 11 p)) (mnN z q.2.1))) Γ ∧ eK I J m st 0 ∧ mSt J m st (q.1 ++ [(0, 0, 0, 0), (17, 0, 0, 0)]) ∧ J (m + 20) k = nI (fmKs F).length ∧ J (m + 23) k = nI st ∧ J (m + 21) k = nI (fmM (fmKs F) + q.2.2.2.1) ∧ J (m + 22) k = nI q.2.2.2.2 ∧ J m 50 = -1 ∧ J m 61 = 1 ∧ (I m 46 = 0 → fT0 J m k T t nm p vd F ∧ J m 35 = nI (T + (fmKs F).length) ∧ 2 * (T + (fmKs F).length) ≤ t2 ∧ ∀ i kd, (fmKs F)[i]? = some kd → J (m + 27) (T + i) = kd) ∧ (¬ I m 46 = 0 → J (m + 25) k = I (m + 25) k) ∧ st + q.1.length + 2 + 4 * (D.length - t2) ≤ B
section FNN
variable {m t o st d B k tn T : Nat} {I J K : xII} {D : tkL} {fs : List fnc} {Γ : List dcl} {x y z : nte} {vd nm p : Int32} {mkF : Tr → Tr → Tr}
theorem pFms_ne : ∀ (f t : Nat) {F : Tr} {t1 : Nat}, pFms D f t = .ok (F, t1) → ¬ F = lf
  | 0, t, F, t1, h => nomatch h
  | f + 1, t, F, t1, h => by
    obtain ⟨a, t2, h2, h3⟩ := pAnd_ok h
    have ha : ∃ ds, a = nd 44 ds lf lf := by
      unfold pFm at h2
      split at h2
      · obtain ⟨-, h2⟩ := pNeed_ok h2
        split at h2
        · obtain ⟨-, -, h2⟩ := pOpen_ok h2
          obtain ⟨-, h2⟩ := pNeed_ok h2
          cases h2
          exact ⟨_, rfl⟩
        · cases h2
          exact ⟨_, rfl⟩
      · exact nomatch h2
    obtain ⟨ds, rfl⟩ := ha
    split at h3
    · obtain ⟨s, t4, h4, h5⟩ := pAnd_ok h3
      cases h5
      intro w
      exact nomatch w
    · cases h3
      intro w
      exact nomatch w
theorem fnL_mono {f : Int32} {Q Q' : Int32 → xII → Prop} (h : fnL m f Q I) (hQ : ∀ v J, Q v J → Q' v J) : fnL m f Q' I := by
  obtain ⟨L, a1, a2⟩ := h
  refine ⟨L, a1, fun n y4 y5 y6 I28 hL => ?_⟩
  obtain ⟨b1, b2⟩ := a2 n y4 y5 y6 I28 hL
  refine ⟨fun z => fnT_mono (b1 z) hQ, fun z => ?_⟩
  obtain ⟨c1, c2⟩ := b2 z
  refine ⟨fun w => ?_, fun w => fnT_mono (c2 w) hQ⟩
  obtain ⟨R55, d1, d2⟩ := c1 w
  refine ⟨R55, d1, fun v55 I55 h55 => ?_⟩
  obtain ⟨e1, e2⟩ := d2 v55 I55 h55
  exact ⟨e1, fun u => hQ _ _ (e2 u)⟩
theorem fuQ_of {r : pR} {v : Int32} (h25 : ¬ I m 46 = 0 → K (m + 25) k = I (m + 25) k) (g : fG3 I K m k T) (hK : eK I K m st 0) (p46 : K m 46 = I m 46) (p61 : K m 61 = 1) (h0 : I m 46 = 0 → ∀ F bd t2, r = .ok (mkF F bd, t2) → fT0 K m k T t nm p vd F) (hx : y = mN (I m 46) x (mnN (twN Γ fs 0 nm p) (if k < 40 then none else nt 11 p))) (h : flQ K m D fs st y k T vd Γ mkF B r v J) : fuQ I m D fs t st x k T nm p vd Γ mkF B r v J := by
  obtain ⟨g2, h⟩ := h
  refine ⟨fun a j q1 q2 => (g2 a j (by omega) (fun w => q2 ⟨w.1, ?_⟩)).trans (g a j q1 q2), ?_⟩
  · rcases w.2 with u | u | u
    · exact Or.inl u
    · exact Or.inr (Or.inr (Or.inr (Or.inl u)))
    · exact Or.inr (Or.inr (Or.inl u))
  cases r with
  | error fl => exact h
  | ok et =>
    obtain ⟨e, t2⟩ := et
    obtain ⟨hv, F, bd, z, E1, q, h1, h2, h3, h4, h5, h6, h7, h8, h9, h10, h11, h12, h13⟩ := h
    rw [p46] at h2 h3 h4 h12
    rw [hx, mN_as] at h4
    refine ⟨hv, F, bd, z, E1, q, h1, h2, h3, h4, hK.tr h5 (Nat.le_refl _), h6, h7, h8, h9, h10, h11, ?_, fun z0 => ⟨?_, h12 z0⟩, fun z0 => (g2 _ _ (by omega) (by omega)).trans (h25 z0), h13⟩
    · rw [g2 _ _ (by omega) (by unfold sFk eFk; omega)]
      exact p61
    · obtain ⟨c1, c2, c3, c4, c5, c6, c7⟩ := h0 z0 F _ t2 (by rw [h1])
      refine ⟨?_, ?_, ?_, ?_, fun w => ?_, fun w => ?_, ?_⟩
      · rw [g2 _ _ (by omega) (by omega)]; exact c1
      · rw [g2 _ _ (by omega) (by omega)]; exact c2
      · rw [g2 _ _ (by omega) (by omega)]; exact c3
      · rw [g2 _ _ (by omega) (by omega)]; exact c4
      · rw [g2 _ _ (by omega) (by omega)]; exact c5 w
      · rw [g2 _ _ (by omega) (by omega)]; exact c6 w
      · rw [g2 _ _ (by omega) (by unfold sFk eFk; omega)]; exact c7
theorem s_X13_function {M : Int32 → Int32} (hi : inD D) (hD : D.length ≤ 1800) (h : gE I m D fs t st x Γ) (htn : tn + 1 = t) (k2 : tK D tn = 2) (hk : k < 500) (hvd : vd = 0 ∨ vd = 1) (hT0 : I m 46 = 0 → I m 35 = nI T ∧ 2 * T ≤ t) (hfs : I m 46 = 0 ∨ ∃ ks, fs[k]? = some (tV D tn, tP D tn, vd, ks) ∧ ∀ F t', (if tK D (t + 1) = 63 then .ok (lf, t + 1) else pFms D D.length (t + 1)) = .ok (F, t') → ks = fmKs F) (hB : st + 4 * (D.length - t) ≤ B) (hB9 : B ≤ 9000) : w_X13_function m (nI k) (nI tn) vd (fuQ I m D fs t st x k T (tV D tn) (tP D tn) vd Γ (fun F b => nd 43 [tP D tn, tV D tn, vd, M (tV D tn)] F b) B (pFun D M vd (tP D tn) (tV D tn) t)) I := by
  obtain ⟨h1, h15, hΓl, hΓ, h14⟩ := h
  have hT := h1.1
  have hl := hT.2.1
  have hD4 := hT.1.1.2.1
  have hxn : ix (nI tn) = tn := nI_clamp (by omega)
  have hxk : ix (nI k) = k := nI_clamp (by omega)
  have hvn : vp_in (nI tn) 4002 := vp_in_nI (by omega) (by decide)
  have hvk : vp_in (nI k) 500 := vp_in_nI hk (by decide)
  have e4 : I (m + 4) tn = tV D tn := by
    rw [(hT.1.2.2.1 tn (by omega)).2.1, k2]
    unfold mkV
    rw [if_pos rfl]
  have e5 : I (m + 5) tn = tP D tn := hT.1.at (by omega)
  unfold w_X13_function
  intro I1 hI1
  have f1 : ∀ a j, ¬ (a = m ∧ j = 61) → I1 a j = I a j := fun a j hj => by rw [hI1, gX, if_neg hj]
  have p161 : I1 m 61 = 1 := by rw [hI1, xup_s]
  clear hI1
  refine ⟨_, s_X13_twice (sc := 0) (x := x) (h1.2.1.fr2 (f1 _ _ (by omega)) (f1 _ _ (by omega)) (f1 _ _ (by omega)) fun a j q1 q2 => f1 a j (by omega)) (h1.2.2.2.2.2.fr (f1 _ _ (by omega)) (f1 _ _ (by omega)) (f1 _ _ (by omega))) ((f1 _ _ (by omega)).trans h15) (by omega) (tk := tn) (by omega), ?_⟩
  rintro I2 ⟨n2, fd2⟩
  rw [f1 _ _ (by omega), f1 _ _ (by omega), f1 _ _ (by omega), e4, e5] at fd2
  have f2 : ∀ a j, ¬ (a = m ∧ (j = 61 ∨ j = 47 ∨ j = 48 ∨ j = 49)) → I2 a j = I a j := fun a j hj => (n2 a j (by omega)).trans (f1 a j (by omega))
  have p261 : I2 m 61 = 1 := (n2 _ _ (by omega)).trans p161
  have hlt : nI k < 40 ↔ k < 40 := nI_ltI (b := 40) (by omega) (by omega)
  rw [hxn, hlt]
  refine ⟨fun I3 => (∀ a j, ¬ (a = m ∧ (j = 61 ∨ j = 47 ∨ j = 48 ∨ j = 49)) → I3 a j = I a j) ∧ I3 m 61 = 1 ∧ nFd I3 m (mN (I m 46) x (mnN (twN Γ fs 0 (tV D tn) (tP D tn)) (if k < 40 then none else nt 11 (tP D tn)))), fun I3 hJ3 => ?_, fun z => ⟨f2, p261, by rw [if_pos z, mnN_n]; exact fd2⟩, fun z => ⟨hvn, _, s_X13_note fd2 (by decide), fun I75 h75 => ?_⟩⟩
  rotate_left
  · obtain ⟨n75, fd75⟩ := h75
    rw [f2 _ _ (by omega), f2 _ _ (by omega), e5, mN_as] at fd75
    exact ⟨fun a j hj => (n75 a j (by omega)).trans (f2 a j hj), (n75 _ _ (by omega)).trans p261, by rw [if_neg z]; exact fd75⟩
  obtain ⟨f3, p361, fd3⟩ := hJ3
  rw [f3 _ _ (by omega), f3 _ _ (by omega), f3 _ _ (by omega), f3 _ _ (by omega), e4, e5]
  refine ⟨fun I4 => (∀ a j, ¬ (a = m ∧ (j = 61 ∨ j = 47 ∨ j = 48 ∨ j = 49 ∨ j = 24)) → ¬ (m + 18 ≤ a ∧ a ≤ m + 26 ∧ j = k) → I4 a j = I a j) ∧ I4 m 61 = 1 ∧ nFd I4 m (mN (I m 46) x (mnN (twN Γ fs 0 (tV D tn) (tP D tn)) (if k < 40 then none else nt 11 (tP D tn)))) ∧ (I m 46 = 0 → I4 (m + 18) k = tV D tn ∧ I4 (m + 19) k = tP D tn ∧ I4 (m + 26) k = vd ∧ I4 (m + 24) k = nI T ∧ I4 (m + 25) k = -1 ∧ I4 m 24 = nI (k + 1)) ∧ (¬ I m 46 = 0 → ∀ a j, ¬ (a = m ∧ (j = 61 ∨ j = 47 ∨ j = 48 ∨ j = 49)) → I4 a j = I a j), fun I4 hJ4 => ?_, fun z => ⟨hvn, hvk, ?_⟩, fun z => ⟨fun a j q1 q2 => f3 a j (by omega), p361, fd3, fun w => absurd w z, fun _ => f3⟩⟩
  rotate_left
  · rw [(hT0 z).1, hxk]
    intro I66 hI66 I67 hI67
    refine ⟨hvd, ?_⟩
    intro I69 hI69 I70 hI70 I71 hI71 I72 hI72 I73 hI73
    have e : I73 = xup (xup (xup (xup (xup (xup (xup I3 (m + 18) k (tV D tn)) (m + 19) k (tP D tn)) (m + 26) k vd) (m + 24) k (nI T)) (m + 20) k 0) (m + 25) k (-1)) m 24 (nI k + 1) := by rw [hI73, hI72, hI71, hI70, hI69, hI67, hI66]
    clear hI73 hI72 hI71 hI70 hI69 hI67 hI66
    have g : ∀ a j, ¬ (a = m ∧ j = 24) → ¬ (m + 18 ≤ a ∧ a ≤ m + 26 ∧ j = k) → I73 a j = I3 a j := fun a j q1 q2 => by
      rw [e, gX, if_neg q1, gX, if_neg (by omega), gX, if_neg (by omega), gX, if_neg (by omega), gX, if_neg (by omega), gX, if_neg (by omega), gX, if_neg (by omega)]
    refine ⟨fun a j q1 q2 => (g a j (by omega) q2).trans (f3 a j (by omega)), (g _ _ (by omega) (by omega)).trans p361, fd3.fr (g _ _ (by omega) (by omega)) (g _ _ (by omega) (by omega)) (g _ _ (by omega) (by omega)), fun _ => ⟨?_, ?_, ?_, ?_, ?_, ?_⟩, fun w => absurd z w⟩
    · rw [e]; simp [gX]
    · rw [e]; simp [gX]
    · rw [e]; simp [gX]
    · rw [e]; simp [gX]
    · rw [e]; simp [gX]
    · rw [e, xup_s, nI_up]
  obtain ⟨f4, p461, fd4, t4, s4⟩ := hJ4
  intro I5 hI5 I6 hI6 I7 hI7 I8 hI8 I9 hI9 I10 hI10
  have e10 : I10 = xup (xup (xup (xup (xup (xup I4 m 50 (nI k)) m 63 (-1)) m 64 (-1)) m 52 0) m 53 0) m 51 0 := by rw [hI10, hI9, hI8, hI7, hI6, hI5]
  have f10 : ∀ a j, ¬ (a = m ∧ (j = 50 ∨ j = 51 ∨ j = 52 ∨ j = 53 ∨ j = 63 ∨ j = 64)) → I10 a j = I4 a j := fun a j hj => by
    rw [e10, gX, if_neg (by omega), gX, if_neg (by omega), gX, if_neg (by omega), gX, if_neg (by omega), gX, if_neg (by omega), gX, if_neg (by omega)]
  have v10 : I10 m 50 = nI k ∧ I10 m 63 = -1 ∧ I10 m 64 = -1 ∧ I10 m 52 = 0 ∧ I10 m 53 = 0 ∧ I10 m 51 = 0 := by
    subst e10
    refine ⟨?_, ?_, ?_, ?_, ?_, ?_⟩ <;> simp [gX]
  clear e10 hI10 hI9 hI8 hI7 hI6 hI5
  obtain ⟨v50, v63, v64, v52, v53, v51⟩ := v10
  refine ⟨_, s_X13_begins (sc := 0) (by rw [f10 _ _ (by omega), f4 _ _ (by omega) (by omega)]; exact h15), ?_⟩
  rintro I11 ⟨p15, f11⟩
  have f11' : ∀ a j, ¬ (a = m ∧ (j = 15 ∨ j = 50 ∨ j = 51 ∨ j = 52 ∨ j = 53 ∨ j = 63 ∨ j = 64)) → I11 a j = I4 a j := fun a j hj => (f11 a j (by omega)).trans (f10 a j (by omega))
  have g11 : ∀ a j, ¬ (a = m ∧ (j = 61 ∨ j = 47 ∨ j = 48 ∨ j = 49 ∨ j = 24 ∨ j = 15 ∨ j = 50 ∨ j = 51 ∨ j = 52 ∨ j = 53 ∨ j = 63 ∨ j = 64)) → ¬ (m + 18 ≤ a ∧ a ≤ m + 26 ∧ j = k) → I11 a j = I a j := fun a j q1 q2 => (f11' a j (by omega)).trans (f4 a j (by omega) q2)
  have p1146 : I11 m 46 = I m 46 := g11 _ _ (by omega) (by omega)
  have E11 : sE I11 m D fs t 0 st (mN (I m 46) x (mnN (twN Γ fs 0 (tV D tn) (tP D tn)) (if k < 40 then none else nt 11 (tP D tn)))) 1 0 (Γ, 0, 0) k vd := by
    obtain ⟨⟨t1, t2, t3, t4', t5, t6⟩, e2, e3, e4', e5', e6⟩ := h1
    refine ⟨⟨⟨t1.fr2 (g11 _ _ (by omega) (by omega)) (g11 _ _ (by omega) (by omega)) fun a j q1 q2 => g11 a j (by omega) (by omega), t2, (g11 _ _ (by omega) (by omega)).trans t3, (g11 _ _ (by omega) (by omega)).trans t4', t5, (g11 _ _ (by omega) (by omega)).trans t6⟩, ?_, (g11 _ _ (by omega) (by omega)).trans e3, (g11 _ _ (by omega) (by omega)).trans e4', (g11 _ _ (by omega) (by omega)).trans e5', fd4.fr (f11' _ _ (by omega)) (f11' _ _ (by omega)) (f11' _ _ (by omega))⟩, ⟨p15, by omega⟩, ⟨(f11 _ _ (by omega)).trans v51, by omega⟩, (f11 _ _ (by omega)).trans v52, (f11 _ _ (by omega)).trans v53, ⟨(f11 _ _ (by omega)).trans v50, hk, ?_⟩, hΓl, Nat.zero_le _, Nat.zero_le _, fun q hq => ?_, fun z => ?_⟩
    · by_cases z : I m 46 = 0
      · rcases e2 with ⟨u1, u2⟩ | ⟨u1, -⟩
        · exact Or.inl ⟨p1146.trans u1, u2⟩
        · rw [z] at u1
          exact absurd u1 (by decide)
      · have s4' := s4 z
        exact e2.fr2 p1146 ((f11' _ _ (by omega)).trans (s4' _ _ (by omega))) ((f11' _ _ (by omega)).trans (s4' _ _ (by omega))) fun a j q1 q2 => (f11' a j (by omega)).trans (s4' a j (by omega))
    · rw [f11' _ _ (by omega)]
      by_cases z : I m 46 = 0
      · exact (t4 z).2.2.1
      · rw [s4 z _ _ (by omega)]
        rcases hfs with w | ⟨ks, w, -⟩
        · exact absurd w z
        · rcases e2 with ⟨u1, -⟩ | ⟨-, -, -, -, -, -, u7⟩
          · exact absurd u1 z
          · exact (u7 k _ w).2.2.1
    · obtain ⟨s, s1, s2⟩ := hΓ q hq
      exact ⟨s, by omega, s2⟩
    · rw [g11 _ _ (by omega) (by omega)]
      exact h14 (by rw [← p1146]; exact z)
  have q63 : I11 m 63 = -1 ∧ I11 m 64 = -1 := ⟨(f11 _ _ (by omega)).trans v63, (f11 _ _ (by omega)).trans v64⟩
  have G11 : fG3 I I11 m k T := fun a j q1 q2 => g11 a j (by unfold sFk eFk at q2; omega) (by omega)
  have K11 : eK I I11 m st 0 := fun a j hj => g11 a j (by omega) (by omega)
  have p1161 : I11 m 61 = 1 := (f11' _ _ (by omega)).trans p461
  have w0 := sW.rf E11 q63.1 q63.2
  refine ⟨_, s_X13_openSign E11.1.1 (k := 62) (by decide), ?_⟩
  rintro v12 I12 - ⟨q12, ⟨e, rfl, x12⟩ | ⟨e, ho, rfl, x12⟩ | ⟨e, ho, rfl, T12⟩⟩
  · refine ⟨fun _ => ?_, fun q => absurd rfl q⟩
    rw [pFun, pOpen, if_neg e]
    exact ⟨fun a j q1 q2 => (q12 a j (by unfold sFk eFk at q2; omega)).trans (G11 a j q1 q2), rfl, x12⟩
  · exact absurd ho (by decide)
  refine ⟨fun q => absurd q (by decide), fun _ => ?_⟩
  have w12 := w0.mv q12 T12 (by omega)
  have E12 : sE I12 m D fs (t + 1) 1 st (mN (I m 46) x (mnN (twN Γ fs 0 (tV D tn) (tP D tn)) (if k < 40 then none else nt 11 (tP D tn)))) 1 0 (Γ, 0, 0) k vd := by
    have := w12.2.1
    rw [mN_n] at this
    exact this
  have ht1 := T12.2.1
  have G12 : fG3 I I12 m k T := fun a j q1 q2 => (q12 a j (by unfold sFk eFk at q2; omega)).trans (G11 a j q1 q2)
  have K12 : eK I I12 m st 0 := fun a j hj => (q12 a j (by omega)).trans (K11 a j hj)
  have p1246 : I12 m 46 = I m 46 := (q12 _ _ (by omega)).trans p1146
  have p1261 : I12 m 61 = 1 := (q12 _ _ (by omega)).trans p1161
  have h12 : ∀ a j, ¬ (a = m ∧ (j = 15 ∨ j = 50 ∨ j = 51 ∨ j = 52 ∨ j = 53 ∨ j = 63 ∨ j = 64 ∨ j = 42 ∨ j = 43 ∨ j = 44 ∨ j = 45)) → I12 a j = I4 a j := fun a j hj => (q12 a j (by omega)).trans (f11' a j (by omega))
  have t12 : I m 46 = 0 → I12 m 35 = nI T ∧ 2 * T ≤ t + 1 := fun z => ⟨by rw [h12 _ _ (by omega), f4 _ _ (by omega) (by omega)]; exact (hT0 z).1, by have := (hT0 z).2; omega⟩
  refine ⟨_, s_X13_isSign T12 (k := 63) (by decide), ?_⟩
  rintro _ _ - ⟨rfl, rfl⟩
  rw [pFun, pOpen, if_pos e, if_neg (by decide)]
  by_cases e63 : tK D (t + 1) = 63
  · rw [bI, if_pos e63, if_pos e63]
    refine ⟨fun q => absurd q (by decide), fun _ => ?_⟩
    rw [if_pos e63] at hfs
    show fnT m (nI k) 4 0 _ I12
    have hfT := s_fnT (Γ := Γ) (new := []) (mk := fun b => nd 43 [tP D tn, tV D tn, vd, M (tV D tn)] lf b) (cnt := 0) (mz := 4) (B := B) hi hD E12 rfl (fun q hq => nomatch hq) hΓ w12.2.2.2.2.1 w12.2.2.2.2.2 (by
      rcases hfs with w | ⟨ks, w1, w2⟩
      · exact Or.inl (by rw [p1246]; exact w)
      · refine Or.inr fun q hq => ?_
        rw [w1] at hq
        cases hq
        rw [w2 lf (t + 1) rfl]
        rfl) (by omega) hB9 (by omega)
    refine fnT_mono hfT fun v J hJ => ?_
    refine fuQ_of (mkF := fun F b => nd 43 [tP D tn, tV D tn, vd, M (tV D tn)] F b) (y := mN (I m 46) x (mnN (twN Γ fs 0 (tV D tn) (tP D tn)) (if k < 40 then none else nt 11 (tP D tn)))) (fun z => (h12 _ _ (by omega)).trans (s4 z _ _ (by omega))) G12 K12 p1246 p1261 (fun z F bd t2 hr => ?_) rfl (flQ_of (F := lf) (z := none) (E1 := (Γ, 0, 0)) (t3 := t + 1) rfl (fun _ _ _ _ => rfl) (fun _ _ _ => rfl) rfl rfl (fun z => ⟨(t12 (by rw [← p1246]; exact z)).1, (t12 (by rw [← p1246]; exact z)).2, fun i kd hi => nomatch hi⟩) (fun e t2 hr => ?_) (by rw [mN_n]; exact hJ))
    · obtain ⟨c1, c2, c3, c4, c5, c6⟩ := t4 z
      have hF : F = lf := by
        obtain ⟨-, hh⟩ := pNeed_ok hr
        obtain ⟨u, w, hb, hh2⟩ := pAnd_ok hh
        cases hh2
        rfl
      refine ⟨?_, ?_, ?_, ?_, fun w => ?_, fun w => absurd hF w, ?_⟩ <;> rw [h12 _ _ (by omega)] <;> assumption
    · obtain ⟨hk', hh⟩ := pNeed_ok hr
      obtain ⟨u, w, hb, hh2⟩ := pAnd_ok hh
      have h3 := hT.1.1.nx' ht1 hk'
      have := pBlock_up hT.1.1 (fun t ht => pS'_up hT.1.1 40 t ht) h3 _ _ hb
      cases hh2
      omega
  · rw [bI, if_neg e63, if_neg e63]
    refine ⟨fun _ => ?_, fun q => absurd rfl q⟩
    rw [if_neg e63] at hfs
    have key : ∀ I27, sE I27 m D fs (t + 1) 1 st (mN (I m 46) x (mnN (twN Γ fs 0 (tV D tn) (tP D tn)) (if k < 40 then none else nt 11 (tP D tn)))) 1 0 (Γ, 0, 0) k vd → I27 m 63 = -1 → I27 m 64 = -1 → (¬ I m 46 = 0 → I27 (m + 25) k = I (m + 25) k) → fG3 I I27 m k T → eK I I27 m st 0 → I27 m 46 = I m 46 → I27 m 61 = 1 → (I m 46 = 0 → I27 m 35 = nI T ∧ 2 * T ≤ t + 1) → (I m 46 = 0 → ∀ F, ¬ F = lf → fT0 I27 m k T t (tV D tn) (tP D tn) vd F) → fnL m (nI k) (fuQ I m D fs t st x k T (tV D tn) (tP D tn) vd Γ (fun F b => nd 43 [tP D tn, tV D tn, vd, M (tV D tn)] F b) B (pAnd (pFms D D.length (t + 1)) fun F t3 => pNeed D 63 t3 (pAnd (pBlock D (pS' D 40) 40 (t3 + 1)) fun b t2 => .ok (nd 43 [tP D tn, tV D tn, vd, M (tV D tn)] F b, t2)))) I27 := by
      intro I27 E27 a63 a64 a25 aG aK a46 a61 a35 aT
      refine fnL_mono (s_fnL (mkF := fun F b => nd 43 [tP D tn, tV D tn, vd, M (tV D tn)] F b) (T := T) (B := B) (by omega) hi hD E27 hΓ a63 a64 (fun z => a35 (by rw [← a46]; exact z)) (by
        rcases hfs with w | ⟨ks, w1, w2⟩
        · exact Or.inl (by rw [a46]; exact w)
        · refine Or.inr fun F t' hF q hq => ?_
          rw [w1] at hq
          cases hq
          rw [w2 F t' hF]) (by omega) hB9) fun v J hJ => ?_
      refine fuQ_of a25 aG aK a46 a61 (fun z F bd t2 hr => aT z F ?_) rfl hJ
      obtain ⟨F', w, hb, hh2⟩ := pAnd_ok hr
      obtain ⟨-, hh⟩ := pNeed_ok hh2
      obtain ⟨u, w', hb', hh3⟩ := pAnd_ok hh
      cases hh3
      exact pFms_ne _ _ hb
    refine ⟨fun I27 => I12 = I27 ∧ ¬ I m 46 = 0 ∨ I m 46 = 0 ∧ I27 = xup I12 (m + 25) k (nI (t + 1)), fun I27 hJ => ?_, fun z => ⟨hvk, fun I63 hI63 => ?_⟩, fun z => Or.inl ⟨rfl, by rw [← p1246]; exact z⟩⟩
    · rcases hJ with ⟨rfl, z⟩ | ⟨z, hI27⟩
      · exact key I12 E12 w12.2.2.2.2.1 w12.2.2.2.2.2 (fun z => (h12 _ _ (by omega)).trans (s4 z _ _ (by omega))) G12 K12 p1246 p1261 t12 (fun w => absurd w z)
      · have g : ∀ a j, ¬ (a = m + 25 ∧ j = k) → I27 a j = I12 a j := fun a j hj => by rw [hI27, gX, if_neg hj]
        have p25 : I27 (m + 25) k = nI (t + 1) := by rw [hI27, xup_s]
        clear hI27
        have fld : ∀ j, I27 m j = I12 m j := fun j => g m j (by omega)
        refine key I27 ?_ ((fld 63).trans w12.2.2.2.2.1) ((fld 64).trans w12.2.2.2.2.2) (fun w => absurd z w) (fun a j q1 q2 => (g a j (by omega)).trans (G12 a j q1 q2)) (fun a j hj => (g a j (by omega)).trans (K12 a j hj)) ((fld 46).trans p1246) ((fld 61).trans p1261) (fun w => ⟨(fld 35).trans (t12 w).1, (t12 w).2⟩) (fun w F hF => ?_)
        · obtain ⟨⟨⟨t1', t2', t3', t4'', t5, t6⟩, e2, e3, e4', e5', e6⟩, ⟨h2, h2'⟩, ⟨h3, h3'⟩, h4, h5, ⟨h6, h7, h8⟩, h9, h10, h11, h12', h13⟩ := E12
          refine ⟨⟨⟨t1'.fr2 (fld 7) (fld 8) fun a j q1 q2 => g a j (by omega), t2', (fld 42).trans t3', (fld 43).trans t4'', t5, (fld 44).trans t6⟩, ?_, (fld 54).trans e3, (fld 60).trans e4', (fld 70).trans e5', e6.fr (fld 47) (fld 48) (fld 49)⟩, ⟨(fld 15).trans h2, h2'⟩, ⟨(fld 51).trans h3, h3'⟩, (fld 52).trans h4, (fld 53).trans h5, ⟨(fld 50).trans h6, h7, (g _ _ (by omega)).trans h8⟩, h9, h10, h11, h12', fun w => by rw [fld 14]; exact h13 (by rw [← fld 46]; exact w)⟩
          rcases e2 with ⟨u1, u2⟩ | ⟨u1, -⟩
          · exact Or.inl ⟨(fld 46).trans u1, u2⟩
          · rw [p1246, z] at u1
            exact absurd u1 (by decide)
        · obtain ⟨c1, c2, c3, c4, c5, c6⟩ := t4 w
          refine ⟨?_, ?_, ?_, ?_, fun w' => absurd w' hF, fun _ => p25, ?_⟩ <;> rw [g _ _ (by omega), h12 _ _ (by omega)] <;> assumption
    · rw [hxk, show I12 m 42 = nI (t + 1) from T12.2.2.1] at hI63
      exact Or.inr ⟨by rw [← p1246]; exact z, hI63⟩
end FNN
