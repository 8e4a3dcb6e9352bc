/-! ===== the Model's functions: the end of one ===== -/
set_option maxRecDepth 100000
/-! printed by tools/gfn.py -/
def fnT (m : Nat) (f y4 y5 : Int32) (Q : Int32 → xII → Prop) (I13 : xII) : Prop := ∃ R14 : Int32 → xII → Prop, w_X13_closeSign m (23 : Int32) R14 I13 ∧ (∀ (v14 : Int32) (I14 : xII), (v14 = 0 ∨ v14 = 1) → R14 v14 I14 → (((v14 = 0 → Q (0 : Int32) I14) ∧ (¬ v14 = 0 → vp_in f 500 ∧ (∀ I16 : xII, I16 = xup I14 (m + 20) (ix f) y5 → (∀ I17 : xII, I17 = xup I16 (m + 23) (ix f) (I14 m 60) → (∃ R18 : Int32 → xII → Prop, w_X13_isSign m (26 : Int32) R18 I17 ∧ (∀ (v18 : Int32) (I18 : xII), (v18 = 0 ∨ v18 = 1) → R18 v18 I18 → (((v18 = 0 → ∃ R26 : Int32 → xII → Prop, w_X13_fails m (2 : Int32) R26 I18 ∧ (∀ (v26 : Int32) (I26 : xII), (v26 = 0 ∨ v26 = 1) → R26 v26 I26 → (Q v26 I26))) ∧ (¬ v18 = 0 → ∃ R19 : Int32 → xII → Prop, g_X13_block m R19 I18 ∧ (∀ (v19 : Int32) (I19 : xII), (v19 = 0 ∨ v19 = 1) → R19 v19 I19 → (((v19 = 0 → Q (0 : Int32) I19) ∧ (¬ v19 = 0 → ∃ R20 : Int32 → xII → Prop, w_X13_step m (0 : Int32) (0 : Int32) (0 : Int32) R20 I19 ∧ (∀ (v20 : Int32) (I20 : xII), R20 v20 I20 → (∃ R21 : Int32 → xII → Prop, w_X13_step m (17 : Int32) (0 : Int32) (0 : Int32) R21 I20 ∧ (∀ (v21 : Int32) (I21 : xII), R21 v21 I21 → (∀ I22 : xII, I22 = xup I21 (m + 21) (ix f) (y4 + (I21 m 52)) → (∀ I23 : xII, I23 = xup I22 (m + 22) (ix f) (I21 m 53) → (∃ R24 : xII → Prop, w_X13_ends m (0 : Int32) R24 I23 ∧ (∀ I24 : xII, R24 I24 → (∀ I25 : xII, I25 = xup I24 m 50 (-1 : Int32) → (Q (1 : Int32) I25))))))))))))))))))))))))
/-- what stands ahead of something that is told -/
def gE (I : xII) (m : Nat) (D : tkL) (fs : List fnc) (t st : Nat) (x : nte) (Γ : List dcl) : Prop := eE I m D Γ fs false t 0 st 0 x ∧ I m 15 = 0 ∧ 2 * Γ.length ≤ t ∧ (∀ q ∈ Γ, ∃ s, s ≤ 0 ∧ q.sc = nI s) ∧ (I m 46 = 0 → I m 14 = 0)
/-- what the end of a function may change -/
def fG (I J : xII) (m k : Nat) : Prop := ∀ a j, (a < m + 10 ∨ (m + 17 < a ∧ a < m + 32 ∧ ¬ (m + 20 ≤ a ∧ a ≤ m + 23 ∧ j = k)) ∨ m + 39 < a) → ¬ (a = m ∧ (sFk j ∨ j = 50)) → J a j = I a j
def fnQ (I : xII) (m : Nat) (D : tkL) (fs : List fnc) (st : Nat) (x : nte) (k : Nat) (vd : Int32) (cnt mz : Nat) (E1 : env) (Γ : List dcl) (mk : Tr → Tr) (B : Nat) (r : pR) (v : Int32) (J : xII) : Prop := fG I J m k ∧ match r with
  | .error fl => v = 0 ∧ eX J m fl
  | .ok (e, t2) => v = 1 ∧ ∃ bd q, e = mk (nd 21 [] bd lf) ∧ q = mS (I m 46) fs vd bd 1 false st E1 ∧ gE J m D fs t2 (st + q.1.length + 2) (mN (I m 46) x q.2.1) Γ ∧ eK I J m st 0 ∧ mSt J m st (q.1 ++ [(0, 0, 0, 0), (17, 0, 0, 0)]) ∧ J (m + 20) k = nI cnt ∧ J (m + 23) k = nI st ∧ J (m + 21) k = nI (mz + q.2.2.2.1) ∧ J (m + 22) k = nI q.2.2.2.2 ∧ J m 50 = -1 ∧ st + q.1.length + 2 + 4 * (D.length - t2) ≤ B
section FNT
variable {m t o st d B k cnt mz t3 : Nat} {I J K I13 : xII} {D : tkL} {fs : List fnc} {Γ new : List dcl} {x y : nte} {vd b0 c0 ps : Int32} {E E1 : env} {fl : Int32 × Int32} {mk : Tr → Tr} {sc lp f : Nat} {y4 y5 : Int32}
theorem mGm.tb (h : mGm J m Γ fs) (hf : ∀ a j, ¬ (m + 20 ≤ a ∧ a ≤ m + 23 ∧ j = k) → K a j = J a j) (h20 : J m 46 = 0 ∨ ∀ q, fs[k]? = some q → K (m + 20) k = nI q.2.2.2.length) : mGm K m Γ fs := by
  rcases h with ⟨h1, h2, h3⟩ | ⟨h1, h2, h3, h4, h5, h6, h7⟩
  · exact Or.inl ⟨(hf _ _ (by omega)).trans h1, h2, h3⟩
  · refine Or.inr ⟨(hf _ _ (by omega)).trans h1, (hf _ _ (by omega)).trans h2, h3, fun i q hi => (h4 i q hi).fr2 fun a q1 q2 => hf a i (by omega), (hf _ _ (by omega)).trans h5, h6, fun f q hq => ?_⟩
    obtain ⟨g1, g2, g3, g4, z, g5, g6, g7⟩ := h7 f q hq
    refine ⟨(hf _ _ (by omega)).trans g1, (hf _ _ (by omega)).trans g2, (hf _ _ (by omega)).trans g3, ?_, z, (hf _ _ (by omega)).trans g5, g6, fun i kk hi => (hf _ _ (by omega)).trans (g7 i kk hi)⟩
    by_cases hfk : f = k
    · subst hfk
      rcases h20 with z | z
      · rw [h1] at z
        exact absurd z (by decide)
      · exact z q hq
    · rw [hf _ _ (by omega)]
      exact g4
theorem sE.tb (h : sE J m D fs t o st x sc lp E f vd) (hf : ∀ a j, ¬ (m + 20 ≤ a ∧ a ≤ m + 23 ∧ j = k) → K a j = J a j) (h20 : J m 46 = 0 ∨ ∀ q, fs[k]? = some q → K (m + 20) k = nI q.2.2.2.length) : sE K m D fs t o st x sc lp E f vd := by
  obtain ⟨⟨⟨t1, t2, t3, t4, t5, t6⟩, e2, e3, e4, e5, e6⟩, ⟨h2, h2'⟩, ⟨h3, h3'⟩, h4, h5, ⟨h6, h7, h8⟩, h9, h10, h11, h12, h13⟩ := h
  have fld : ∀ j, K m j = J m j := fun j => hf m j (by omega)
  exact ⟨⟨⟨t1.fr2 (fld 7) (fld 8) fun a j q1 q2 => hf a j (by omega), t2, (fld 42).trans t3, (fld 43).trans t4, t5, (fld 44).trans t6⟩, e2.tb hf h20, (fld 54).trans e3, (fld 60).trans e4, (fld 70).trans e5, e6.fr (fld 47) (fld 48) (fld 49)⟩, ⟨(fld 15).trans h2, h2'⟩, ⟨(fld 51).trans h3, h3'⟩, (fld 52).trans h4, (fld 53).trans h5, ⟨(fld 50).trans h6, h7, (hf _ _ (by omega)).trans h8⟩, h9, h10, h11, h12, fun z => by rw [fld 14]; exact h13 (by rw [← fld 46]; exact z)⟩
theorem fG.tr {L : xII} (h : fG I J m k) (h' : fG J L m k) : fG I L m k := fun a j h1 h2 => (h' a j h1 h2).trans (h a j h1 h2)
theorem sG.fg (h : sG I J m) : fG I J m k := fun a j h1 h2 => h a j (by omega) (fun z => h2 ⟨z.1, Or.inl z.2⟩)
theorem s_fnT (hi : inD D) (hD : D.length ≤ 1800) (h : sE I13 m D fs t3 1 st x 1 0 E1 k vd) (hE1 : E1.1 = new ++ Γ) (hnew : ∀ q ∈ new, q.sc = nI 1) (hΓ : ∀ q ∈ Γ, ∃ s, s ≤ 0 ∧ q.sc = nI s) (h63 : I13 m 63 = -1) (h64 : I13 m 64 = -1) (hcnt : I13 m 46 = 0 ∨ ∀ q, fs[k]? = some q → q.2.2.2.length = cnt) (hB : st + 4 * (D.length - t3) ≤ B) (hB9 : B ≤ 9000) (hmz : mz ≤ 5000) : fnT m (nI k) (nI mz) (nI cnt) (fnQ I13 m D fs st x k vd cnt mz E1 Γ mk B (pNeed D 63 t3 (pAnd (pBlock D (pS' D 40) 40 (t3 + 1)) fun b t2 => .ok (mk b, t2)))) I13 := by
  have hT := h.1.1
  have hl := hT.2.1
  have hD4 := hT.1.1.2.1
  have hk5 : k < 500 := h.2.2.2.2.2.1.2.1
  unfold fnT
  refine ⟨_, s_X13_closeSign (o := 0) hT (k := 63) (by decide), ?_⟩
  rintro v14 I14 - ⟨q14, ⟨e14, rfl, x14⟩ | ⟨e14, rfl, T14⟩⟩
  · refine ⟨fun _ => ?_, fun q => absurd rfl q⟩
    rw [pNeed, if_neg e14]
    exact ⟨q14.f.s.fg, rfl, x14⟩
  refine ⟨fun q => absurd q (by decide), fun _ => ?_⟩
  rw [pNeed, if_pos e14]
  have w14 := (sW.rf h h63 h64).mv q14 T14 (by omega)
  have E14 : sE I14 m D fs (t3 + 1) 0 st x 1 0 E1 k vd := by
    have := w14.2.1
    rw [mN_n] at this
    exact this
  have ht3 := T14.2.1
  have p1446 : I14 m 46 = I13 m 46 := w14.1.ps
  rw [show ix (nI k) = k from nI_clamp (by omega), show I14 m 60 = nI st from E14.1.2.2.2.1]
  refine ⟨vp_in_nI hk5 (by decide), ?_⟩
  intro I16 hI16 I17 hI17
  have f17 : ∀ a j, ¬ (m + 20 ≤ a ∧ a ≤ m + 23 ∧ j = k) → I17 a j = I14 a j := fun a j hj => by rw [hI17, gX, if_neg (by omega), hI16, gX, if_neg (by omega)]
  have p1720 : I17 (m + 20) k = nI cnt := by rw [hI17, gX, if_neg (by omega), hI16, xup_s]
  have p1723 : I17 (m + 23) k = nI st := by rw [hI17, xup_s]
  clear hI16 hI17
  have E17 : sE I17 m D fs (t3 + 1) 0 st x 1 0 E1 k vd := E14.tb f17 (by
    rcases hcnt with z | z
    · exact Or.inl (by rw [p1446]; exact z)
    · exact Or.inr fun q hq => by rw [p1720, z q hq])
  have g17 : fG I13 I17 m k := q14.f.s.fg.tr fun a j q1 q2 => f17 a j (by omega)
  have K17 : eK I13 I17 m st 0 := fun a j hj => (f17 a j (by omega)).trans (q14 a j (by omega))
  have p1746 : I17 m 46 = I13 m 46 := (f17 _ _ (by omega)).trans p1446
  refine ⟨_, s_X13_isSign E17.1.1 (k := 66) (by decide), ?_⟩
  rintro _ _ - ⟨rfl, rfl⟩
  by_cases e66 : tK D (t3 + 1) = 66
  rotate_left
  · rw [bI, if_neg e66]
    refine ⟨fun _ => ?_, fun q => absurd rfl q⟩
    refine ⟨_, s_X13_fails E17.1.1 (by decide), ?_⟩
    rintro v26 I26 - ⟨rfl, q26, x26⟩
    rw [pBlock, pOpen, if_neg e66]
    exact ⟨g17.tr q26.f.s.fg, rfl, x26⟩
  rw [bI, if_pos e66]
  refine ⟨fun q => absurd q (by decide), fun _ => ?_⟩
  have w17 : I17 m 63 = -1 ∧ I17 m 64 = -1 := ⟨by rw [f17 _ _ (by omega)]; exact w14.2.2.2.2.1, by rw [f17 _ _ (by omega)]; exact w14.2.2.2.2.2⟩
  refine ⟨_, (ro_SS (m := m) (fs := fs) (f := k) (vd := vd) hi hD 40 200 (by omega)).2 I17 (t3 + 1) 0 st x 1 0 E1 (-1) (-1) (B - 4) (by omega) E17 w17.1 w17.2 (by omega) (by omega) (by omega) (by omega), ?_⟩
  rintro v34 I34 - hP
  rw [p1746, show decide (0 < 0) = false from rfl] at hP
  cases hr : pBlock D (pS' D 40) 40 (t3 + 1) with
  | error fl =>
    rw [hr] at hP
    obtain ⟨rfl, x1⟩ := hP
    refine ⟨fun _ => ?_, fun q => absurd rfl q⟩
    exact ⟨g17.tr x1.1.fg, rfl, x1.2.1⟩
  | ok et =>
    obtain ⟨e, t2⟩ := et
    rw [hr] at hP
    obtain ⟨rfl, w34', b34⟩ := hP
    refine ⟨fun q => absurd q (by decide), fun _ => ?_⟩
    obtain ⟨bd, rfl⟩ : ∃ ss, e = nd 21 [] ss lf := by
      obtain ⟨-, -, hh⟩ := pOpen_ok hr
      obtain ⟨u, v, -, h3⟩ := pAnd_ok hh
      obtain ⟨-, h4⟩ := pNeed_ok h3
      cases h4
      exact ⟨_, rfl⟩
    have w34 : sW I17 I34 m D fs st x t2 0 1 0 k vd (-1) (-1) (mS (I13 m 46) fs vd bd 1 false st E1) := w34'
    have b34' : st + (mS (I13 m 46) fs vd bd 1 false st E1).1.length + 4 * (D.length - t2) ≤ B - 4 := b34
    obtain ⟨n2, hn1, hn2⟩ := mS_env (ps := I13 m 46) (fs := fs) (vd := vd) bd 1 false st E1
    have hno := mS_noH (ps := I13 m 46) (fs := fs) (vd := vd) bd 1 st E1
    generalize hq : mS (I13 m 46) fs vd bd 1 false st E1 = q at *
    have hl2 := w34.2.1.1.1.2.1
    refine ⟨_, s_X13_step (s := st + q.1.length) w34.2.1.1.2.2.2.1 (by omega), ?_⟩
    rintro _ I35 ⟨rfl, s0, s1, s2, s3, s4, -⟩
    have w35 := w34.sp1 (w := 0) (a := 0) (d := 0) (v := 0) isHo_0 s0 s1 s2 s3 s4 (fun z => absurd z (by decide))
    have l35 : (q.1 ++ [((0 : Int32), (0 : Int32), (0 : Int32), (0 : Int32))]).length = q.1.length + 1 := by rw [List.length_append]; rfl
    refine ⟨_, s_X13_step (s := st + (q.1 ++ [((0 : Int32), (0 : Int32), (0 : Int32), (0 : Int32))]).length) w35.2.1.1.2.2.2.1 (by omega), ?_⟩
    rintro _ I36 ⟨rfl, u0, u1, u2, u3, u4, -⟩
    have w36 := w35.sp1 (w := 17) (a := 0) (d := 0) (v := 0) isHo_0 u0 u1 u2 u3 u4 (fun z => absurd z (by decide))
    dsimp only at w36
    rw [show I36 m 52 = nI q.2.2.2.1 from w36.2.1.2.2.2.1, show I36 m 53 = nI q.2.2.2.2 from w36.2.1.2.2.2.2.1, nI_add]
    intro I37 hI37 I38 hI38
    have f38 : ∀ a j, ¬ (m + 21 ≤ a ∧ a ≤ m + 22 ∧ j = k) → I38 a j = I36 a j := fun a j hj => by rw [hI38, gX, if_neg (by omega), hI37, gX, if_neg (by omega)]
    have p3821 : I38 (m + 21) k = nI (mz + q.2.2.2.1) := by rw [hI38, gX, if_neg (by omega), hI37, xup_s]
    have p3822 : I38 (m + 22) k = nI q.2.2.2.2 := by rw [hI38, xup_s]
    clear hI37 hI38
    have G36 : sG I17 I36 m := w36.1
    have h3620 : I36 (m + 20) k = nI cnt := by rw [G36 _ _ (by omega) (by omega)]; exact p1720
    have h3623 : I36 (m + 23) k = nI st := by rw [G36 _ _ (by omega) (by omega)]; exact p1723
    have p3646 : I36 m 46 = I13 m 46 := by rw [G36.ps]; exact p1746
    have E38 := w36.2.1.tb (K := I38) (k := k) (fun a j hj => f38 a j (by omega)) (by
      rcases hcnt with z | z
      · exact Or.inl (by rw [p3646]; exact z)
      · exact Or.inr fun q hq => by rw [f38 _ _ (by omega), h3620, z q hq])
    rw [p1746] at E38
    dsimp only at E38
    have hG38 := E38.1.2.1
    rw [hn1, hE1, ← List.append_assoc] at hG38
    refine ⟨_, s_X13_ends (sc := 0) hG38 E38.2.2.2.2.2.2.2.2.2.2 (fun z hz => ⟨1, by omega, by omega, ?_⟩) hΓ (by omega), ?_⟩
    · rcases List.mem_append.mp hz with w | w
      · exact hn2 z w
      · exact hnew z w
    rintro I39 ⟨p39, g39, u39, f39⟩ I40 hI40
    have f40 : ∀ a j, ¬ (a = m ∧ (j = 14 ∨ j = 15 ∨ j = 50)) → I40 a j = I38 a j := fun a j hj => by rw [hI40, gX, if_neg (by omega)]; exact f39 a j (by omega)
    have fld : ∀ j, ¬ (j = 14 ∨ j = 15 ∨ j = 50) → I40 m j = I38 m j := fun j hj => f40 m j (fun z => hj z.2)
    obtain ⟨⟨⟨t1, t2', t3', t4, t5, t6⟩, e2, e3, e4, e5, e6⟩, ⟨h2, h2'⟩, ⟨h3, h3'⟩, h4, h5, ⟨h6, h7, h8⟩, h9, h10, h11, h12, h13⟩ := E38
    refine ⟨?_, rfl, bd, _, rfl, hq.symm, ⟨⟨⟨t1.fr2 (fld 7 (by omega)) (fld 8 (by omega)) fun a j q1 q2 => f40 a j (by omega), t2', (fld 42 (by omega)).trans t3', (fld 43 (by omega)).trans t4, t5, (fld 44 (by omega)).trans t6⟩, ?_, (fld 54 (by omega)).trans e3, ?_, (fld 70 (by omega)).trans e5, e6.fr (fld 47 (by omega)) (fld 48 (by omega)) (fld 49 (by omega))⟩, ?_, ?_, hΓ, fun z => ?_⟩, ?_, ?_, ?_, ?_, ?_, ?_, ?_, ?_⟩
    · refine g17.tr fun a j q1 q2 => ?_
      rw [f40 a j (by unfold sFk at q2; omega), f38 a j (by omega)]
      exact G36 a j (by omega) (fun z => q2 ⟨z.1, Or.inl z.2⟩)
    · exact g39.fr2 (by rw [hI40, gX, if_neg (by omega)]) (by rw [hI40, gX, if_neg (by omega)]) (by rw [hI40, gX, if_neg (by omega)]) fun a j q1 q2 => by rw [hI40, gX, if_neg (by omega)]
    · rw [fld 60 (by omega), e4]
      congr 1
      rw [List.length_append, l35]
      show st + (q.1.length + 1 + 1) = _
      omega
    · rw [hI40, gX, if_neg (by omega)]
      exact p39
    · rw [hn1, hE1] at h9
      simp only [List.length_append] at h9
      omega
    · rw [hI40, gX, if_neg (by omega)]
      refine u39 ?_
      rw [← fld 46 (by omega)]
      exact z
    · refine K17.tr (w36.2.2.1.tr (fun a j hj => ?_) (Nat.le_refl _)) (Nat.le_refl _)
      rw [f40 a j (by omega), f38 a j (by omega)]
    · have m36 := w36.2.2.2.1
      dsimp only at m36
      rw [((hno.app noH.one).app noH.one).lk, List.append_assoc] at m36
      exact m36.cong fun a j q1 q2 q3 q4 => by rw [f40 a j (by omega), f38 a j (by omega)]
    · rw [f40 _ _ (by omega), f38 _ _ (by omega)]
      exact h3620
    · rw [f40 _ _ (by omega), f38 _ _ (by omega)]
      exact h3623
    · rw [f40 _ _ (by omega)]
      exact p3821
    · rw [f40 _ _ (by omega)]
      exact p3822
    · rw [hI40, xup_s]
    · omega
end FNT
