/-! ===== the Model's read ===== -/
set_option maxRecDepth 100000
section RD1
variable {tx : Nat → Int32} {n m : Nat} {I : xII}
theorem drop_cons {α : Type} {l : List α} {k : Nat} {q : α} (h : l[k]? = some q) : l.drop k = q :: l.drop (k + 1) := by
  obtain ⟨h1, h2⟩ := List.getElem?_eq_some_iff.mp h
  rw [List.drop_eq_getElem_cons h1, h2]
theorem s_X13_read {R : tkL × List (Nat × Nat)} (hR : tz tx n 0 [] = R) (h2 : I m 2 = nI n) (hn : n ≤ 1700) (ht : ∀ k, k < n → I (m + 1) k = tx k) (hB : txB tx n) : w_X13_read m (rdQ I m n tx R) I := by
  have hz := tz_wf (tx := tx) (n := n) n 0 [] (by omega) (Nat.zero_le _) (fun z hz => absurd hz List.not_mem_nil)
  have hnm := (tz_names (tx := tx) (n := n) n 0 [] (by omega) (Nat.zero_le _) (fun z hz => absurd hz List.not_mem_nil)).1
  have hwf := hz.wf (by omega)
  have hi := hz.inD (by omega)
  rw [hR] at hz hnm hwf hi
  have hD : R.1.length ≤ 1800 := by have := hwf.2.2.2.2; omega
  have hR2 : R.2.length ≤ n := by
    have h5 : R.2.length + 1 ≤ 0 + R.1.length := hz.2.2.2.2.1
    have h6 : R.1.length ≤ n - 0 + 1 := hz.1
    omega
  unfold w_X13_read
  intro I1 e1
  refine ⟨fun c y I2 => ∃ k, k ≤ n ∧ y = nI k ∧ c = n - k ∧ I2 m 3 = nI n ∧ (∀ j, j < k → I2 (m + 2) j = tx j) ∧ ∀ a j, ¬ a = m + 2 → ¬ (a = m ∧ j = 3) → I2 a j = I a j, ⟨n, 0, Nat.zero_le _, rfl, rfl, ?_, fun j hj => absurd hj (Nat.not_lt_zero _), fun a j q1 q2 => ?_⟩, ?_⟩
  · rw [e1, xup_s, h2]
  · rw [e1, gX, if_neg (by omega)]
  rintro _ _ I2 ⟨k, hk, rfl, rfl, h3, hc, f2⟩
  have hle : nI n ≤ nI k ↔ n ≤ k := nI_leI (by omega) (by omega)
  refine ⟨fun q => ?_, fun q => ?_⟩
  rotate_left
  · have hkn : k < n := by rw [h3] at q; have : ¬ n ≤ k := fun z => q (hle.mpr z); omega
    rw [show ix (nI k) = k from nI_clamp (by omega)]
    refine ⟨vp_in_nI (by omega) (by decide), ?_⟩
    rintro I32 rfl
    refine ⟨n - (k + 1), by omega, k + 1, by omega, nI_1 k, rfl, ?_, fun j hj => ?_, fun a j q1 q2 => ?_⟩
    · rw [gX, if_neg (by omega)]
      exact h3
    · rw [gX]
      split
      · rename_i w
        rw [f2 _ _ (by omega) (by omega), ht k hkn, w.2]
      · exact hc j (by omega)
    · rw [gX, if_neg (by omega)]
      exact f2 a j q1 q2
  rw [h3] at q
  obtain rfl : n = k := by have := hle.mp q; omega
  intro I3 e3 I4 e4 I5 e5 I6 e6 I7 e7 I8 e8 I9 e9 I10 e10
  have f10 : ∀ a j, ¬ (a = m ∧ (j = 2 ∨ j = 73 ∨ j = 75 ∨ j = 80 ∨ j = 79 ∨ j = 44 ∨ j = 47 ∨ j = 54)) → I10 a j = I2 a j := fun a j hj => by
    rw [e10, gX, if_neg (by omega), e9, gX, if_neg (by omega), e8, gX, if_neg (by omega), e7, gX, if_neg (by omega), e6, gX, if_neg (by omega), e5, gX, if_neg (by omega), e4, gX, if_neg (by omega), e3, gX, if_neg (by omega)]
  have v10 : I10 m 2 = 0 ∧ I10 m 73 = 0 ∧ I10 m 75 = 0 ∧ I10 m 80 = 0 ∧ I10 m 79 = 0 ∧ I10 m 44 = 0 ∧ I10 m 47 = 0 ∧ I10 m 54 = 0 := by
    subst e10 e9 e8 e7 e6 e5 e4 e3
    refine ⟨?_, ?_, ?_, ?_, ?_, ?_, ?_, ?_⟩ <;> simp [gX]
  clear e10 e9 e8 e7 e6 e5 e4 e3
  obtain ⟨w2, w73, w75, w80, w79, w44, w47, w54⟩ := v10
  have t10 : mTx I10 m n tx := ⟨(f10 _ _ (by omega)).trans h3, by omega, fun j hj => (f10 _ _ (by omega)).trans (hc j hj)⟩
  refine ⟨_, s_X13_cut t10 hB (by omega), ?_⟩
  rintro I11 ⟨c11, f11⟩
  rw [hR] at c11
  intro I12 e12
  have g12 : ∀ a j, ¬ (a = m ∧ j = 46) → I12 a j = I11 a j := fun a j hj => by rw [e12, gX, if_neg (by omega)]
  have p46 : I12 m 46 = 0 := by rw [e12, xup_s]
  clear e12
  have b12 : ∀ a j, (a < m + 3 ∨ m + 9 < a) → ¬ (a = m ∧ (j = 7 ∨ j = 8 ∨ j = 13 ∨ j = 46)) → I12 a j = I10 a j := fun a j q1 q2 => (g12 a j (by omega)).trans (f11 a j q1 (by omega))
  have B12 : ∀ a j, (a < m ∨ m + 39 < a ∨ a = m + 1) → I12 a j = I a j := fun a j q1 => (b12 a j (by omega) (by omega)).trans ((f10 a j (by omega)).trans (f2 a j (by omega) (by omega)))
  have F12 : ∀ j, ¬ (j = 2 ∨ j = 3 ∨ j = 7 ∨ j = 8 ∨ j = 13 ∨ j = 44 ∨ j = 46 ∨ j = 47 ∨ j = 54 ∨ j = 73 ∨ j = 75 ∨ j = 79 ∨ j = 80) → I12 m j = I m j := fun j q1 => (b12 m j (by omega) (by omega)).trans ((f10 m j (by omega)).trans (f2 m j (by omega) (by omega)))
  have md12 : mD I12 m R.1 := (c11.md hz (by omega)).fr2 (g12 _ _ (by omega)) (g12 _ _ (by omega)) fun a j q1 q2 => g12 a j (by omega)
  have t12 : mTx I12 m n tx := ⟨(b12 _ _ (by omega) (by omega)).trans t10.1, t10.2.1, fun j hj => (b12 _ _ (by omega) (by omega)).trans (t10.2.2 j hj)⟩
  refine ⟨_, s_X13_texts (M := isM tx R.2) (ft := []) (fs := []) (x := none) hi hD md12 ((b12 _ _ (by omega) (by omega)).trans w44) ((b12 _ _ (by omega) (by omega)).trans w54) ((b12 _ _ (by omega) (by omega)).trans w47) (Or.inl ⟨p46, rfl, rfl⟩), ?_⟩
  rintro v13 I13 - ⟨g13, h13⟩
  /- what every end has -/
  have FIN : ∀ J : xII, (∀ a j, (a < m + 10 ∨ m + 39 < a) → ¬ (a = m ∧ (sFk j ∨ j = 36 ∨ j = 37 ∨ j = 24 ∨ j = 35 ∨ j = 50 ∨ j = 61 ∨ j = 46 ∨ j = 73 ∨ j = 74)) → J a j = I12 a j) → rdG I J m ∧ rdFd I J m ∧ mTx J m n tx ∧ J m 2 = 0 ∧ J m 75 = 0 ∧ J m 79 = 0 ∧ J m 80 = 0 := fun J hJ => by
    refine ⟨fun a j q1 => (hJ a j (by omega) (by omega)).trans (B12 a j q1), fun j q1 => (hJ m j (by omega) (by unfold sFk eFk at q1 ⊢; omega)).trans (F12 j ?_), ⟨(hJ _ _ (by omega) (by unfold sFk eFk; omega)).trans t12.1, t12.2.1, fun j hj => (hJ _ _ (by omega) (by omega)).trans (t12.2.2 j hj)⟩, ?_, ?_, ?_, ?_⟩
    · unfold sFk eFk at q1
      omega
    · exact (hJ _ _ (by omega) (by unfold sFk eFk; omega)).trans ((b12 _ _ (by omega) (by omega)).trans w2)
    · exact (hJ _ _ (by omega) (by unfold sFk eFk; omega)).trans ((b12 _ _ (by omega) (by omega)).trans w75)
    · exact (hJ _ _ (by omega) (by unfold sFk eFk; omega)).trans ((b12 _ _ (by omega) (by omega)).trans w79)
    · exact (hJ _ _ (by omega) (by unfold sFk eFk; omega)).trans ((b12 _ _ (by omega) (by omega)).trans w80)
  have z13 : I13 m 73 = 0 := (g13 _ _ (by omega) (by unfold sFk eFk; omega)).trans ((b12 _ _ (by omega) (by omega)).trans w73)
  cases hp : pTs R.1 (isM tx R.2) (R.1.length + 1) 0 with
  | error fl =>
    rw [hp] at h13
    obtain ⟨rfl, x13⟩ := h13
    refine ⟨fun _ => ?_, fun w => absurd rfl w⟩
    obtain ⟨a1, a2, a3, a4, a5, a6, a7⟩ := FIN I13 fun a j q1 q2 => g13 a j q1 (by unfold sFk eFk at q2 ⊢; omega)
    unfold rdQ
    rw [hp]
    exact ⟨a1, a2, a3, a4, a5, a6, a7, by rw [x13.1, x13.2.1], z13⟩
  | ok et =>
  obtain ⟨E, t1⟩ := et
  rw [hp] at h13
  obtain ⟨rfl, -, u13⟩ := h13
  refine ⟨fun w => absurd w (by decide), fun _ => ?_⟩
  intro I14 e14
  obtain ⟨-, gE13, -, -, -, ⟨T, hT9, hT, hT0⟩, h24, -, -, h4⟩ := u13
  obtain ⟨-, -, hlr⟩ := hT0 p46
  obtain ⟨⟨eT13, -, k54, -, -, n13⟩, -⟩ := gE13
  have ht1 := eT13.2.1
  rw [p46, show ∀ y, mN 0 none y = none from fun y => rfl] at n13
  have hlen : (ftA E).length ≤ 500 := by omega
  have g14 : ∀ a j, ¬ (a = m ∧ j = 46) → I14 a j = I13 a j := fun a j hj => by rw [e14, gX, if_neg (by omega)]
  have p14 : I14 m 46 = 1 := by rw [e14, xup_s]
  clear e14
  have md14 : mD I14 m R.1 := eT13.1.fr2 (g14 _ _ (by omega)) (g14 _ _ (by omega)) fun a j q1 q2 => g14 a j (by omega)
  refine ⟨_, s_X13_texts (M := isM tx R.2) (ft := ftA E) (fs := (ftA E).map (·.1)) (x := none) hi hD md14 ((g14 _ _ (by omega)).trans eT13.2.2.2.2.2) ((g14 _ _ (by omega)).trans k54) ((g14 _ _ (by omega)).trans n13) (Or.inr ⟨p14, ⟨E, t1, hp, rfl⟩, rfl, (g14 _ _ (by omega)).trans h24, hlen, fun k q hk => ((hT k q hk).up hT9).fr (fun a j q1 q2 _ => g14 a j (by omega)) fun j _ => g14 _ _ (by omega)⟩), ?_⟩
  rintro v15 I15 - ⟨g15, h15⟩
  rw [hp] at h15
  obtain ⟨-, -, u15⟩ := h15
  rw [p14, show mTs 1 ((ftA E).map (·.1)) E (gS0 (I14 (m + 29) 2000)) = rdM E (I14 (m + 29) 2000) from rfl] at u15
  generalize hs : rdM E (I14 (m + 29) 2000) = s at u15
  obtain ⟨-, gE15, st15, gr15, rw15, ⟨T', hT9', hT', -⟩, k24, hsl, -, -⟩ := u15
  obtain ⟨⟨eT15, -, -, -, -, n15⟩, -⟩ := gE15
  rw [p14, mN, if_neg (by decide), show mnN none s.2.1 = s.2.1 from rfl] at n15
  have G15 : ∀ a j, (a < m + 10 ∨ m + 39 < a) → ¬ (a = m ∧ (sFk j ∨ j = 36 ∨ j = 37 ∨ j = 24 ∨ j = 35 ∨ j = 50 ∨ j = 61 ∨ j = 46)) → I15 a j = I12 a j := fun a j q1 q2 => (g15 a j q1 (by unfold sFk eFk at q2 ⊢; omega)).trans ((g14 a j (by omega)).trans (g13 a j q1 (by unfold sFk eFk at q2 ⊢; omega)))
  have p15 : I15 m 46 = 1 := g15.ps.trans p14
  intro I16 e16
  refine ⟨fun c y I17 => ∃ k, k ≤ (ftA E).length ∧ y = nI k + (-1) ∧ c = k ∧ I17 m 74 = mnX (isM tx R.2) ((ftA E).drop k) k ∧ nFd I17 m (mnN s.2.1 (mnO (isM tx R.2) ((ftA E).drop k))) ∧ ∀ a j, ¬ (a = m ∧ (j = 74 ∨ j = 47 ∨ j = 48 ∨ j = 49)) → I17 a j = I15 a j, ⟨_, (ftA E).length, Nat.le_refl _, ?_, rfl, ?_, ?_, fun a j hj => ?_⟩, ?_⟩
  · rw [k24, Int32.sub_eq_add_neg]
  · rw [e16, xup_s, List.drop_length]
    rfl
  · rw [List.drop_length, show mnO (isM tx R.2) [] = none from rfl, mnN_n]
    exact n15.fr (by rw [e16, gX, if_neg (by omega)]) (by rw [e16, gX, if_neg (by omega)]) (by rw [e16, gX, if_neg (by omega)])
  · rw [e16, gX, if_neg (by omega)]
  clear e16 I16
  rintro k _ I17 ⟨_, hk, rfl, rfl, m74, n17, f17⟩
  have q46 : I17 m 46 = 1 := (f17 _ _ (by omega)).trans p15
  have t17 : mTx I17 m n tx := ⟨(f17 _ _ (by omega)).trans ((G15 _ _ (by omega) (by unfold sFk eFk; omega)).trans t12.1), t12.2.1, fun j hj => (f17 _ _ (by omega)).trans ((G15 _ _ (by omega) (by omega)).trans (t12.2.2 j hj))⟩
  refine ⟨fun q => ?_, fun q => ?_⟩
  · obtain rfl : k = 0 := by
      rcases Nat.eq_zero_or_pos k with w | w
      · exact w
      · rw [nI_dec w] at q
        have := (nI_ltI (b := 0) (by omega) (by decide)).mp q
        omega
    rw [List.drop_zero] at m74 n17
    refine ⟨fun I18 => nFd I18 m (rdN (isM tx R.2) n E s) ∧ I18 m 74 = mnX (isM tx R.2) (ftA E) 0 ∧ ∀ a j, ¬ (a = m ∧ (j = 74 ∨ j = 47 ∨ j = 48 ∨ j = 49)) → I18 a j = I15 a j, ?_, fun w => ⟨_, s_X13_note n17 (by decide), ?_⟩, fun w => ⟨?_, m74, f17⟩⟩
    · rintro I18 ⟨n18, m18, f18⟩
      have z18 : I18 m 73 = 0 := (f18 _ _ (by omega)).trans ((g15 _ _ (by omega) (by unfold sFk eFk; omega)).trans ((g14 _ _ (by omega)).trans z13))
      refine ⟨fun q => ?_, fun q => ?_⟩
      · intro I19 e19
        have f19 : ∀ a j, ¬ (a = m ∧ j = 73) → I19 a j = I18 a j := fun a j hj => by rw [e19, gX, if_neg (by omega)]
        obtain ⟨a1, a2, a3, a4, a5, a6, a7⟩ := FIN I19 fun a j q1 q2 => (f19 a j (by omega)).trans ((f18 a j (by unfold sFk eFk at q2; omega)).trans (G15 a j q1 (by unfold sFk eFk at q2 ⊢; omega)))
        unfold rdQ
        rw [hp]
        refine ⟨a1, a2, a3, a4, a5, a6, a7, I14 (m + 29) 2000, ?_⟩
        rw [hs]
        cases hN : rdN (isM tx R.2) n E s with
        | some y =>
          rw [hN] at n18
          rw [n18.1] at q
          exact absurd q (Int32.not_le.mpr n18.2.2.2)
        | none =>
          have F : ∀ a j, ¬ (a = m ∧ (j = 74 ∨ j = 47 ∨ j = 48 ∨ j = 49 ∨ j = 73)) → I19 a j = I15 a j := fun a j hj => (f19 a j (by omega)).trans (f18 a j (by omega))
          refine ⟨rfl, by rw [e19, xup_s], st15.cong fun a j q1 q2 _ _ => F a j (by omega), gr15.fr (F _ _ (by omega)) (F _ _ (by omega)) fun a j q1 q2 => F a j (by omega), fun k r hr => ?_, (F _ _ (by omega)).trans k24, (f19 _ _ (by omega)).trans m18, hlen, by omega, fun k q hk => ((hT' k q hk).fr (fun a j q1 q2 _ => F a j (by omega)) fun j _ => F _ _ (by omega)).fn hT9'⟩
          obtain ⟨b1, b2, b3, b4⟩ := rw15 k r hr
          exact ⟨(F _ _ (by omega)).trans b1, (F _ _ (by omega)).trans b2, (F _ _ (by omega)).trans b3, (F _ _ (by omega)).trans b4⟩
      · obtain ⟨a1, a2, a3, a4, a5, a6, a7⟩ := FIN I18 fun a j q1 q2 => (f18 a j (by unfold sFk eFk at q2; omega)).trans (G15 a j q1 (by unfold sFk eFk at q2 ⊢; omega))
        unfold rdQ
        rw [hp]
        refine ⟨a1, a2, a3, a4, a5, a6, a7, I14 (m + 29) 2000, ?_⟩
        rw [hs]
        cases hN : rdN (isM tx R.2) n E s with
        | some y =>
          rw [hN] at n18
          exact ⟨by rw [n18.1, n18.2.1], z18⟩
        | none =>
          rw [hN] at n18
          rw [show I18 m 47 = 0 from n18] at q
          exact absurd (by decide) q
    · rintro I20 ⟨eN20, n20⟩
      rw [q46, mN, if_neg (by decide), t17.1, mnN_as] at n20
      refine ⟨?_, (eN20 _ _ (by omega)).trans m74, fun a j hj => (eN20 a j (by omega)).trans (f17 a j hj)⟩
      unfold rdN
      rw [if_pos (m74.symm.trans w)]
      exact n20
    · unfold rdN
      rw [if_neg (fun z => w (m74.trans z)), mnN_n]
      exact n17
  · obtain ⟨f, rfl⟩ : ∃ f, k = f + 1 := by
      rcases Nat.eq_zero_or_pos k with w | w
      · rw [w] at q
        exact absurd (by decide) q
      · exact ⟨k - 1, by omega⟩
    clear q
    rw [nI_dec (Nat.succ_pos f), show f + 1 - 1 = f from rfl, show ix (nI f) = f from nI_clamp (by omega)]
    obtain ⟨q, hq⟩ : ∃ q, (ftA E)[f]? = some q := ⟨_, List.getElem?_eq_getElem hk⟩
    obtain ⟨r1, r2, -, -, -, r25, r25'⟩ := hT' f q hq
    obtain ⟨j, j2, jv, jp⟩ := pTs_ft _ _ hp q (List.mem_of_getElem? hq)
    have hjl : j < R.1.length := by
      rcases Nat.lt_or_ge j R.1.length with w | w
      · exact w
      · have : tK R.1 j = 0 := by
          rw [tK, List.getD_eq_getElem?_getD, List.getElem?_eq_none w]
          rfl
        rw [this] at j2
        exact absurd j2 (by decide)
    obtain ⟨kk, z, z1, z2, z3, z4⟩ := hnm _ (tK_mem hjl) j2
    have hv : q.1.1 = nI kk := jv.trans z1
    have hpl : q.1.2.1 = nI (R.1.getD j (0, 0, 0)).2.2 := jp
    generalize (R.1.getD j (0, 0, 0)).2.2 = a at *
    have hkk : kk < R.2.length := (List.getElem?_eq_some_iff.mp z2).1
    have hMi := isM_iff (n := n) z2 (by omega) z3 z4
    have nl : I17 (m + 7) kk = nI z.2 := (f17 _ _ (by omega)).trans ((G15 _ _ (by omega) (by omega)).trans ((g12 _ _ (by omega)).trans (c11.2.1.2.1 kk z z2).2.1))
    rw [show I17 (m + 18) f = nI kk from (f17 _ _ (by omega)).trans (r1.trans hv), show I17 (m + 19) f = nI a from (f17 _ _ (by omega)).trans (r2.trans hpl), show ix (nI kk) = kk from nI_clamp (by omega), nl]
    rw [← hv] at hMi
    have no : ¬ isM tx R.2 q.1.1 = 1 → I17 m 74 = (if isM tx R.2 q.1.1 = 1 then nI f else I17 m 74) ∧ nFd I17 m (mnN (mnN s.2.1 (mnO (isM tx R.2) ((ftA E).drop (f + 1)))) (if isM tx R.2 q.1.1 = 1 then (match q.2 with
      | none => none
      | some p => nt 12 p) else none)) ∧ ∀ a j, ¬ (a = m ∧ (j = 74 ∨ j = 47 ∨ j = 48 ∨ j = 49)) → I17 a j = I17 a j := fun w => by
      rw [if_neg w, if_neg w, mnN_n]
      exact ⟨rfl, n17, fun _ _ _ => rfl⟩
    refine ⟨vp_in_nI (by omega) (by decide), vp_in_nI (by omega) (by decide), fun I23 => I23 m 74 = (if isM tx R.2 q.1.1 = 1 then nI f else I17 m 74) ∧ nFd I23 m (mnN (mnN s.2.1 (mnO (isM tx R.2) ((ftA E).drop (f + 1)))) (if isM tx R.2 q.1.1 = 1 then (match q.2 with
      | none => none
      | some p => nt 12 p) else none)) ∧ ∀ a j, ¬ (a = m ∧ (j = 74 ∨ j = 47 ∨ j = 48 ∨ j = 49)) → I23 a j = I17 a j, ?_, fun w0 => ?_, fun w0 => no fun c => w0 (by rw [(hMi.mp c).1]; rfl)⟩
    · rintro I23 ⟨b1, b2, b3⟩
      refine ⟨f, by omega, f, by omega, rfl, rfl, ?_, ?_, fun a j hj => (b3 a j hj).trans (f17 a j hj)⟩
      · rw [b1, m74, drop_cons hq]
        rfl
      · rw [drop_cons hq]
        rw [mnN_as] at b2
        exact b2
    have hz4 : z.2 = 4 := nIj (b := 4) (by omega) (by decide) w0
    refine ⟨_, s_at t17 (k := a) rfl (by omega), ?_⟩
    rintro _ _ ⟨rfl, rfl⟩
    refine ⟨fun w1 => ?_, fun w1 => no fun c => w1 (hMi.mp c).2.1⟩
    refine ⟨_, s_at t17 (k := a + 1) (nI_1 a) (by omega), ?_⟩
    rintro _ _ ⟨rfl, rfl⟩
    refine ⟨fun w2 => ?_, fun w2 => no fun c => w2 (hMi.mp c).2.2.1⟩
    refine ⟨_, s_at t17 (k := a + 2) (nI_add a 2) (by omega), ?_⟩
    rintro _ _ ⟨rfl, rfl⟩
    refine ⟨fun w3 => ?_, fun w3 => no fun c => w3 (hMi.mp c).2.2.2.1⟩
    refine ⟨_, s_at t17 (k := a + 3) (nI_add a 3) (by omega), ?_⟩
    rintro _ _ ⟨rfl, rfl⟩
    refine ⟨fun w4 => ?_, fun w4 => no fun c => w4 (hMi.mp c).2.2.2.2⟩
    have hM1 := hMi.mpr ⟨hz4, w1, w2, w3, w4⟩
    intro I28 e28
    have f28 : ∀ a j, ¬ (a = m ∧ j = 74) → I28 a j = I17 a j := fun a j hj => by rw [e28, gX, if_neg (by omega)]
    have n28 := n17.fr (f28 m 47 (by omega)) (f28 m 48 (by omega)) (f28 m 49 (by omega))
    have i25 : I17 (m + 25) f = I15 (m + 25) f := f17 _ _ (by omega)
    rw [if_pos hM1, i25]
    cases hq2 : q.2 with
    | none =>
      rw [r25 hq2]
      refine ⟨fun _ => ⟨by rw [e28, xup_s], ?_, fun a j hj => f28 a j (by omega)⟩, fun w => absurd rfl w⟩
      rw [if_pos hM1, mnN_n]
      exact n28
    | some p =>
      obtain ⟨tk, tk1, tk2, tk3⟩ := r25' p hq2
      rw [tk2, show ix (nI tk) = tk from nI_clamp (by omega), show I17 (m + 5) tk = tP R.1 tk from (f17 _ _ (by omega)).trans (eT15.1.2.2.1 tk tk1).2.2, ← tk3]
      refine ⟨fun w => absurd w (nI_m1 (by omega)), fun _ => ⟨vp_in_nI (by omega) (by decide), _, s_X13_note n28 (by decide), ?_⟩⟩
      rintro I30 ⟨eN30, n30⟩
      rw [show I28 m 46 = 1 from (f28 _ _ (by omega)).trans q46, mN, if_neg (by decide)] at n30
      refine ⟨(eN30 _ _ (by omega)).trans (by rw [e28, xup_s]), ?_, fun a j hj => (eN30 a j (by omega)).trans (f28 a j (by omega))⟩
      rw [if_pos hM1]
      exact n30
end RD1
