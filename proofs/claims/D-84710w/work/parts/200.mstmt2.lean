/-! ===== the Model's statements: the dispatch, the knot ===== -/
set_option maxRecDepth 100000
section SS2
variable {m t o st pe d B sc lp f t1 : Nat} {I J K : xII} {D : tkL} {fs : List fnc} {x y : nte} {vd b0 c0 ps : Int32} {E : env} {Rk : rkT} {lb : Bool} {fl : Int32 × Int32}
theorem sW.nd (h : sE I m D fs t o st x sc lp E f vd) (h63 : I m 63 = b0) (h64 : I m 64 = c0) : sW I I m D fs st x t o sc lp f vd b0 c0 ([], none, E) := sW.rf h h63 h64
/-- where ; must follow -/
theorem semi2 {r : pR} {F : Tr → mR} {v2 : Int32} {I2 : xII} (hD : D.length ≤ 1800) (hB : B ≤ 9000) (hP : sP I m D fs st o x sc lp f vd b0 c0 B r F v2 I2) : ((v2 = 0 → sP I m D fs st o x sc lp f vd b0 c0 B (pAnd r fun s t1 => pNeed D 69 t1 (.ok (s, t1 + 1))) F 0 I2) ∧ (¬ v2 = 0 → ∃ R3 : Int32 → xII → Prop, w_X13_sign m 29 R3 I2 ∧ ∀ (v3 : Int32) (I3 : xII), (v3 = 0 ∨ v3 = 1) → R3 v3 I3 → sP I m D fs st o x sc lp f vd b0 c0 B (pAnd r fun s t1 => pNeed D 69 t1 (.ok (s, t1 + 1))) F (if v3 = 0 then 0 else 1) I3)) := by
  cases r with
  | error fl =>
    obtain ⟨rfl, x2⟩ := hP
    refine ⟨fun _ => ?_, fun q => absurd rfl q⟩
    exact ⟨rfl, x2⟩
  | ok et =>
    obtain ⟨e, t1⟩ := et
    obtain ⟨rfl, w2, b2⟩ := hP
    refine ⟨fun q => absurd q (by decide), fun _ => ?_⟩
    refine ⟨_, s_X13_sign w2.2.1.1.1 (k := 69) (by decide), fun v3 I3 hv hp => ?_⟩
    rw [if01 hv]
    exact semi hD w2 b2 hB rfl hp
theorem s_X13_statement (hBk : oBk Rk m D fs f vd d) (hIf : oKd Rk m D fs f vd d 3 14 (pIf D (pS' D d) d)) (hW : oKd Rk m D fs f vd d 5 16 (pLoopS D (pS' D d) d)) (hDo : oKd Rk m D fs f vd d 6 17 (pLoopS D (pS' D d) d)) (hFo : oKd Rk m D fs f vd d 7 18 (pLoopS D (pS' D d) d)) (hi : inD D) (hD : D.length ≤ 1800) (h : sE I m D fs t o st x sc lp E f vd) (hd : o + d = 40) (h63 : I m 63 = b0) (h64 : I m 64 = c0) (hsc : sc ≤ 2 * o + 1) (hlp : lp ≤ o) (hB : st + 4 * (D.length - t) ≤ B) (hB9 : B ≤ 9000) : w_X13_statement Rk m (sP I m D fs st o x sc lp f vd b0 c0 B (pS D d t) fun e => mS (I m 46) fs vd e sc (decide (0 < lp)) st E) I := by
  have hT := h.1.1
  have hl := hT.2.1
  have hD4 := hT.1.1.2.1
  have w0 := sW.rf h h63 h64
  have ho := hT.2.2.2.2.1
  rw [pS_eq]
  unfold w_X13_statement
  refine ⟨_, s_X13_isSign hT (k := 66) (by decide), ?_⟩
  rintro _ _ - ⟨rfl, rfl⟩
  by_cases e66 : tK D t = 66
  · rw [bI, if_pos e66, pStF, if_pos e66]
    refine ⟨fun q => absurd q (by decide), fun _ => ?_⟩
    have h15 : I m 15 = nI sc := h.2.1.1
    rw [h15]
    refine ⟨_, s_X13_begins h15, ?_⟩
    rintro I25 ⟨p25, f25⟩
    have w25 := w0.bg p25 f25 (by omega)
    have E25 : sE I25 m D fs t o st x (sc + 1) lp E f vd := by
      have := w25.2.1
      rw [mN_n] at this
      exact this
    have p46 : I25 m 46 = I m 46 := w25.1.ps
    refine ⟨_, hBk I25 t o st x (sc + 1) lp E b0 c0 B hd E25 w25.2.2.2.2.1 w25.2.2.2.2.2 (by omega) hlp hB hB9, ?_⟩
    intro v26 I26 _ hP
    rw [p46] at hP
    cases hr : pBlock D (pS' D d) d t with
    | error fl =>
      rw [hr] at hP
      obtain ⟨rfl, x1⟩ := hP
      have x1' : sX I I26 m st b0 c0 fl := sX.tr w25 x1
      obtain ⟨y1, x2, x3, x4, l, x5, x6, x7, x8⟩ := x1'
      refine ⟨_, s_X13_ends_er x3, ?_⟩
      rintro I3 ⟨t3, f3⟩
      exact ⟨rfl, y1.tr fun a k q1 q2 => f3 a k (by unfold sFk at q2; omega), ⟨by rw [f3 _ _ (by omega)]; exact x2.1, by rw [f3 _ _ (by omega)]; exact x2.2.1, x2.2.2⟩, t3, x4.tr (fun a k hk => f3 a k (by omega)) (Nat.le_refl _), l, x5, x6.cong fun a k _ _ _ _ => f3 a k (by omega), by rw [f3 _ _ (by omega)]; exact x7, by rw [f3 _ _ (by omega)]; exact x8⟩
    | ok et =>
      obtain ⟨e, t2⟩ := et
      rw [hr] at hP
      obtain ⟨rfl, w2, b2⟩ := hP
      dsimp only at w2 b2
      obtain ⟨ss, rfl⟩ : ∃ ss, e = nd 21 [] ss lf := by
        obtain ⟨-, -, hh⟩ := pOpen_ok hr
        obtain ⟨u, v, -, h3⟩ := pAnd_ok hh
        obtain ⟨-, h4⟩ := pNeed_ok h3
        cases h4
        exact ⟨_, rfl⟩
      have w2' : sW I25 I26 m D fs st x t2 o (sc + 1) lp f vd b0 c0 (mS (I m 46) fs vd ss (sc + 1) (decide (0 < lp)) st E) := w2
      have b2' : st + (mS (I m 46) fs vd ss (sc + 1) (decide (0 < lp)) st E).1.length + 4 * (D.length - t2) ≤ B := b2
      obtain ⟨new, hn1, hn2⟩ := mS_env (ps := I m 46) (fs := fs) (vd := vd) ss (sc + 1) (decide (0 < lp)) st E
      have hF : mS (I m 46) fs vd (nd 21 [] ss lf) sc (decide (0 < lp)) st E = scO E (mS (I m 46) fs vd ss (sc + 1) (decide (0 < lp)) st E) := rfl
      generalize hq : mS (I m 46) fs vd ss (sc + 1) (decide (0 < lp)) st E = q at *
      have w2c : sW I25 I26 m D fs st (mN (I m 46) x none) t2 o (sc + 1) lp f vd b0 c0 q := by
        rw [mN_n]
        exact w2'
      have w3 := w25.tr w2c
      have w4 : sW I I26 m D fs st x t2 o (sc + 1) lp f vd b0 c0 (q.1, q.2.1, (new ++ E.1, q.2.2.2)) := by
        rw [← hn1]
        exact w3
      have hΓ : ∀ q ∈ E.1, ∃ s, s ≤ sc ∧ q.sc = nI s := h.2.2.2.2.2.2.2.2.2.1
      refine ⟨_, s_X13_ends (sc := sc) w4.2.1.1.2.1 w4.2.1.2.2.2.2.2.2.2.2.2.2 (fun z hz => ⟨sc + 1, by omega, by omega, hn2 z hz⟩) hΓ (by omega), ?_⟩
      rintro I98 ⟨p98, g98, u98, f98⟩
      have w98 := w4.en hΓ p98 g98 u98 f98
      refine ⟨rfl, ?_, ?_⟩
      · dsimp only
        rw [hF]
        exact w98
      · dsimp only
        rw [hF]
        exact b2'
  rw [bI, if_neg e66]
  refine ⟨fun _ => ?_, fun q => absurd rfl q⟩
  refine ⟨_, s_X13_isSign hT (k := 69) (by decide), ?_⟩
  rintro _ _ - ⟨rfl, rfl⟩
  have plain : ¬ (tK D t = 10 ∨ tK D t = 11) → ¬ tK D t = 14 → ¬ (tK D t = 16 ∨ tK D t = 17 ∨ tK D t = 18) → pStF D (pS' D d) d t = pPlain D d t := fun h1 h2 h3 => by rw [pStF, if_neg e66, if_neg h1, if_neg h2, if_neg h3]
  by_cases e69 : tK D t = 69
  · rw [bI, if_pos e69]
    refine ⟨fun q => absurd q (by decide), fun _ => ?_⟩
    rw [plain (by rw [e69]; decide) (by rw [e69]; decide) (by rw [e69]; decide)]
    have hp : pPlain D d t = pNeed D 69 t (.ok (nd 20 [] lf lf, t + 1)) := by
      rw [pPlain, if_neg (by rw [e69]; decide), if_neg (by rw [e69]; decide), if_neg (by rw [e69]; decide), if_neg (by rw [e69]; decide), if_pos e69]
      rfl
    rw [hp]
    exact ⟨_, s_X13_sign hT (k := 69) (by decide), fun v24 I24 _ hh => semi hD w0 (by show st + 0 + 4 * (D.length - t) ≤ B; omega) hB9 rfl hh⟩
  rw [bI, if_neg e69]
  refine ⟨fun _ => ?_, fun q => absurd rfl q⟩
  rw [hT.ix]
  refine ⟨hT.vp, fun e1 => ?_, fun e1 => ?_⟩
  · have k2 := (hT.1.nm hl).mp e1
    rw [plain (by rw [k2]; decide) (by rw [k2]; decide) (by rw [k2]; decide)]
    have hp : pPlain D d t = pAnd (pSimple D d t) fun s t1 => pNeed D 69 t1 (.ok (s, t1 + 1)) := by
      rw [pPlain, if_neg (by rw [k2]; decide), if_neg (by rw [k2]; decide), if_neg (by rw [k2]; decide), if_neg (by rw [k2]; decide), if_neg (by rw [k2]; decide)]
    rw [hp]
    exact ⟨_, s_X13_simple hi hD h hd h63 h64 hB hB9, fun v22 I22 _ hP => semi2 hD hB9 hP⟩
  have n2 : ¬ tK D t = 2 := fun z => e1 ((hT.1.nm hl).mpr z)
  have fails : (¬ (tK D t = 10 ∨ tK D t = 11) ∧ ¬ tK D t = 14 ∧ ¬ (tK D t = 16 ∨ tK D t = 17 ∨ tK D t = 18) ∧ ¬ tK D t = 19 ∧ ¬ tK D t = 20 ∧ ¬ tK D t = 21 ∧ ¬ (tK D t = 22 ∨ tK D t = 24)) → ∃ R20 : Int32 → xII → Prop, w_X13_fails m 2 R20 I ∧ ∀ (v20 : Int32) (I20 : xII), (v20 = 0 ∨ v20 = 1) → R20 v20 I20 → sP I m D fs st o x sc lp f vd b0 c0 B (pStF D (pS' D d) d t) (fun e => mS (I m 46) fs vd e sc (decide (0 < lp)) st E) v20 I20 := by
    rintro ⟨h1, h2, h3, h4, h5, h6, h7⟩
    refine ⟨_, s_X13_fails hT (by decide), ?_⟩
    rintro v20 I20 - ⟨rfl, q20, x20⟩
    rw [plain h1 h2 h3, show pPlain D d t = .error (pWr D t) by
      rw [pPlain, if_neg h4, if_neg h5, if_neg h6, if_neg h7, if_neg e69, pSimple, pNeed, if_neg n2]
      rfl]
    exact ⟨rfl, eH.sx w0 hD (by show st + 0 ≤ 9000; omega) q20.h x20⟩
  refine ⟨fun ew => ?_, fun ew => ?_⟩
  · have S : ∀ k s : Int32, mkV k 0 = s ∧ (10 : Int32) ≤ k ∧ k < 40 → (I (m + 4) t = s ↔ tK D t = k) := fun k s hs => ⟨fun z => (hT.1.wd hl hs).mp ⟨ew, z⟩, fun z => ((hT.1.wd hl hs).mpr z).2⟩
    simp only [S 10 0 (by decide), S 11 1 (by decide), S 14 4 (by decide), S 16 6 (by decide), S 17 7 (by decide), S 18 8 (by decide), S 19 9 (by decide), S 20 10 (by decide), S 21 11 (by decide), S 22 12 (by decide), S 24 14 (by decide)]
    refine ⟨fun k => ?_, fun k => ?_, fun k => ?_, fun k => ?_, fun k => ?_, fun k => ?_, fun k => ?_, fun k => ?_, fun k => ?_⟩
    · have hp : pStF D (pS' D d) d t = pAnd (pTl1 D d t) fun e t1 => pNeed D 69 t1 (.ok (e, t1 + 1)) := by rw [pStF, if_neg e66, if_pos k, pTell_eq]
      rw [hp]
      exact ⟨_, s_X13_tellHere1 hi hD h hd h63 h64 k hB hB9, fun v5 I5 _ hP => semi2 hD hB9 hP⟩
    · have hp : pStF D (pS' D d) d t = pIf D (pS' D d) d t := by rw [pStF, if_neg e66, if_neg (by rw [k]; decide), if_pos k]
      rw [hp]
      exact ⟨_, hIf I t o st x sc lp E b0 c0 B hd h h63 h64 hsc hlp k hB hB9, fun v I _ z => z⟩
    · have hp : pStF D (pS' D d) d t = pLoopS D (pS' D d) d t := by rw [pStF, if_neg e66, if_neg (by rw [k]; decide), if_neg (by rw [k]; decide), if_pos (Or.inl k)]
      rw [hp]
      exact ⟨_, hW I t o st x sc lp E b0 c0 B hd h h63 h64 hsc hlp k hB hB9, fun v I _ z => z⟩
    · have hp : pStF D (pS' D d) d t = pLoopS D (pS' D d) d t := by rw [pStF, if_neg e66, if_neg (by rw [k]; decide), if_neg (by rw [k]; decide), if_pos (Or.inr (Or.inl k))]
      rw [hp]
      exact ⟨_, hDo I t o st x sc lp E b0 c0 B hd h h63 h64 hsc hlp k hB hB9, fun v I _ z => z⟩
    · have hp : pStF D (pS' D d) d t = pLoopS D (pS' D d) d t := by rw [pStF, if_neg e66, if_neg (by rw [k]; decide), if_neg (by rw [k]; decide), if_pos (Or.inr (Or.inr k))]
      rw [hp]
      exact ⟨_, hFo I t o st x sc lp E b0 c0 B hd h h63 h64 hsc hlp k hB hB9, fun v I _ z => z⟩
    · have hp : pStF D (pS' D d) d t = pNeed D 69 (t + 1) (.ok (nd 27 [tP D t, if tK D t = 19 then 1 else 0] lf lf, t + 2)) := by
        rcases k with k | k
        · rw [plain (by rw [k]; decide) (by rw [k]; decide) (by rw [k]; decide), pPlain, if_pos k, if_pos k]
          rfl
        · rw [plain (by rw [k]; decide) (by rw [k]; decide) (by rw [k]; decide), pPlain, if_neg (by rw [k]; decide), if_pos k, if_neg (by rw [k]; decide)]
          rfl
      rw [hp]
      exact ⟨_, s_X13_leaves hD h h63 h64 k hB hB9, fun v I _ z => z⟩
    · have hp : pStF D (pS' D d) d t = pAnd (if tK D (t + 1) = 69 then .ok (nd 28 [tP D (t + 1)] lf lf, t + 1) else pAnd (pE D d (t + 1)) fun e t1 => .ok (nd 28 [tP D (t + 1)] e lf, t1)) fun s t1 => pNeed D 69 t1 (.ok (s, t1 + 1)) := by
        rw [plain (by rw [k]; decide) (by rw [k]; decide) (by rw [k]; decide), pPlain, if_neg (by rw [k]; decide), if_neg (by rw [k]; decide), if_pos k]
      rw [hp]
      exact ⟨_, s_X13_returns hi hD h hd h63 h64 k hB hB9, fun v I _ z => z⟩
    · have ht1 : t + 1 < D.length := by
        rcases k with k | k
        · exact hT.1.1.nx' hl k
        · exact hT.1.1.nx' hl k
      have hp : pStF D (pS' D d) d t = pAnd (pAnd (pIn D (pE' D d) d (t + 1)) fun e t1 => .ok (nd 29 [if tK D t = 22 then 1 else 0] e lf, t1)) fun s t1 => pNeed D 69 t1 (.ok (s, t1 + 1)) := by
        rcases k with k | k
        · rw [plain (by rw [k]; decide) (by rw [k]; decide) (by rw [k]; decide), pPlain, if_neg (by rw [k]; decide), if_neg (by rw [k]; decide), if_neg (by rw [k]; decide), if_pos (Or.inl k)]
        · rw [plain (by rw [k]; decide) (by rw [k]; decide) (by rw [k]; decide), pPlain, if_neg (by rw [k]; decide), if_neg (by rw [k]; decide), if_neg (by rw [k]; decide), if_pos (Or.inr k)]
      rw [hp]
      refine ⟨_, s_X13_isWord hT (k := 22) (by decide), ?_⟩
      rintro _ _ - ⟨rfl, rfl⟩
      intro I14 hI14
      have q14 := hT.on ht1
      rw [← hI14] at q14
      have w14 := w0.mv q14.2 q14.1 (by omega)
      clear hI14
      refine ⟨_, s_X13_openSign w14.2.1.1.1 (k := 62) (by decide), ?_⟩
      rintro v15 I15 - ⟨q15, ⟨e, rfl, x15⟩ | ⟨e, ho, rfl, x15⟩ | ⟨e, ho, rfl, T15⟩⟩
      · refine ⟨fun _ => ?_, fun q => absurd rfl q⟩
        rw [pIn, pOpen, if_neg e]
        exact ⟨rfl, eH.sx w14 hD (by show st + 0 ≤ 9000; omega) q15.h x15⟩
      · refine ⟨fun _ => ?_, fun q => absurd rfl q⟩
        obtain rfl : d = 0 := by omega
        rw [pIn, pOpen, if_pos e, if_pos rfl]
        exact ⟨rfl, eH.sx w14 hD (by show st + 0 ≤ 9000; omega) q15.h x15⟩
      refine ⟨fun q => absurd q (by decide), fun _ => ?_⟩
      obtain ⟨d', rfl⟩ : ∃ d', d = d' + 1 := ⟨d - 1, by omega⟩
      rw [pIn, pOpen, if_pos e, if_neg (by omega), show pE' D (d' + 1) (t + 1 + 1) = pE D d' (t + 1 + 1) from rfl]
      have w15 := w14.mv q15 T15 (by omega)
      have hl15 := T15.2.1
      refine ⟨_, ro_X hi d' 700 (by omega) I15 _ _ _ 0 _ (B - 4) (by omega) w15.2.1.1 (by omega) (by show st + 0 + 4 * (D.length - (t + 1 + 1)) ≤ B - 4; omega) (by omega), ?_⟩
      rintro v16 I16 - ⟨g16, r16⟩
      cases hr : pE D d' (t + 1 + 1) with
      | error fl =>
        rw [hr] at r16
        obtain ⟨rfl, x16⟩ := r16
        refine ⟨fun _ => ?_, fun q => absurd rfl q⟩
        exact ⟨rfl, eH.sx w15 hD (by show st + 0 ≤ 9000; omega) g16 x16⟩
      | ok et =>
        obtain ⟨e2, t1⟩ := et
        rw [hr] at r16
        obtain ⟨rfl, w16', b16⟩ := r16
        refine ⟨fun q => absurd q (by decide), fun _ => ?_⟩
        have hup := pE_up hT.1.1 d' _ hl15 e2 t1 hr
        have w16 : sW I I16 m D fs st x t1 (o + 1) sc lp f vd b0 c0 (cX E.1 fs false none st e2, nX E.1 fs false true none e2, E) := w15.e w16' (by omega) cX_noH
        have b16' : st + (cX E.1 fs false none st e2).length + 4 * (D.length - t1) ≤ B - 4 := b16
        refine ⟨_, s_X13_closeSign w16.2.1.1.1 (k := 63) (by decide), ?_⟩
        rintro v17 I17 - ⟨q17, ⟨e17, rfl, x17⟩ | ⟨e17, rfl, T17⟩⟩
        · refine ⟨fun _ => ?_, fun q => absurd rfl q⟩
          show sP _ _ _ _ _ _ _ _ _ _ _ _ _ _ (pAnd (pAnd (pNeed D 63 t1 _) _) _) _ _ _
          rw [pNeed, if_neg e17]
          exact ⟨rfl, eH.sx w16 hD (by dsimp only; omega) q17.h x17⟩
        refine ⟨fun q => absurd q (by decide), fun _ => ?_⟩
        have w17 := w16.mv q17 T17 (by omega)
        refine ⟨_, s_X13_step (s := st + (cX E.1 fs false none st e2).length) w17.2.1.1.2.2.2.1 (by omega), ?_⟩
        rintro _ I18 ⟨rfl, s0, s1, s2, s3, s4, -⟩
        have w18 := w17.sp1 (w := if bI (tK D t = 22) = 0 then 20 else 19) (a := 0) (d := 0) (v := 0) isHo_0 s0 s1 s2 s3 s4 (fun z => absurd z (by split <;> decide))
        dsimp only at w18
        have hF : mS (I m 46) fs vd (nd 29 [if tK D t = 22 then 1 else 0] e2 lf) sc (decide (0 < lp)) st E = (cX E.1 fs false none st e2 ++ [(if bI (tK D t = 22) = 0 then 20 else 19, 0, 0, 0)], nX E.1 fs false true none e2, E) := rfl
        refine ⟨_, s_X13_sign w18.2.1.1.1 (k := 69) (by decide), fun v19 I19 _ hh => ?_⟩
        show sP _ _ _ _ _ _ _ _ _ _ _ _ _ _ (pAnd (pAnd (pNeed D 63 t1 _) _) _) _ _ _
        rw [pNeed, if_pos e17]
        refine semi hD w18 ?_ hB9 hF hh
        dsimp only
        rw [List.length_append]
        show st + (_ + 1) + 4 * (D.length - (t1 + 1)) ≤ B
        have := T17.2.1
        omega
    · obtain ⟨h1, h2, h3, h4, h5, h6, h7, h8, h9, h10, h11⟩ := k
      exact fails ⟨by rintro (z | z); exact h1 z; exact h2 z, h3, by rintro (z | z | z); exact h4 z; exact h5 z; exact h6 z, h7, h8, h9, by rintro (z | z); exact h10 z; exact h11 z⟩
  · have nw : ∀ k, (10 : Int32) ≤ k ∧ k < 40 → ¬ tK D t = k := fun k hk z => ew (((hT.1.wd hl (k := k) (s := mkV k 0) ⟨rfl, hk⟩).mpr z).1)
    exact fails ⟨by rintro (z | z); exact nw 10 (by decide) z; exact nw 11 (by decide) z, nw 14 (by decide), by rintro (z | z | z); exact nw 16 (by decide) z; exact nw 17 (by decide) z; exact nw 18 (by decide) z, nw 19 (by decide), nw 20 (by decide), nw 21 (by decide), by rintro (z | z); exact nw 22 (by decide) z; exact nw 24 (by decide) z⟩
/-- the knot -/
theorem ro_S0 (hi : inD D) (hD : D.length ≤ 1800) (d : Nat) (ih : ∀ n, 4 * d ≤ n → ∀ d', d = d' + 1 → oSt (ro_S m n) m D fs f vd d') : ∀ n, 4 * d + 4 ≤ n → oSt (ro_S m n) m D fs f vd d ∧ oBk (ro_S m n) m D fs f vd d := by
  have hSc : ∀ n, 4 * d + 1 ≤ n → ∀ d', d = d' + 1 → oSc (ro_S m n) m D fs f vd d' := by
    intro n hn d' hd
    obtain ⟨n, rfl⟩ : ∃ k, n = k + 1 := ⟨n - 1, by omega⟩
    intro I t o st x sc lp E b0 c0 B h1 h2 h3 h4 h5 h6 h7 h8
    rw [rq_S_2]
    exact s_X13_scoped (ih n (by omega) d' hd) hD h2 h1 h3 h4 h5 h6 h7 h8
  have hBd : ∀ n, 4 * d + 2 ≤ n → ∀ d', d = d' + 1 → oBd (ro_S m n) m D fs f vd d' := by
    intro n hn d' hd
    obtain ⟨n, rfl⟩ : ∃ k, n = k + 1 := ⟨n - 1, by omega⟩
    intro I t o st x sc lp E b0 c0 B a h1 h2 h3 h4 h5 h6 h7 h8
    rw [rq_S_4]
    exact s_X13_body (hSc n (by omega) d' hd) hD h2 h1 h3 h4 h5 h6 h7 h8
  have hBk : ∀ n, 4 * d + 1 ≤ n → oBk (ro_S m n) m D fs f vd d := by
    intro n hn
    obtain ⟨n, rfl⟩ : ∃ k, n = k + 1 := ⟨n - 1, by omega⟩
    intro I t o st x sc lp E b0 c0 B h1 h2 h3 h4 h5 h6 h7 h8
    rw [rq_S_1]
    exact s_X13_block (ih n (by omega)) hD h2 h1 h3 h4 h5 h6 h7 h8
  have hIf : ∀ n, 4 * d + 3 ≤ n → oKd (ro_S m n) m D fs f vd d 3 14 (pIf D (pS' D d) d) := by
    intro n hn
    obtain ⟨n, rfl⟩ : ∃ k, n = k + 1 := ⟨n - 1, by omega⟩
    intro I t o st x sc lp E b0 c0 B h1 h2 h3 h4 h5 h6 hk h7 h8
    rw [rq_S_3]
    exact s_X13_choice (hSc n (by omega)) hi hD h2 h1 h3 h4 h5 h6 hk h7 h8
  have hW : ∀ n, 4 * d + 3 ≤ n → oKd (ro_S m n) m D fs f vd d 5 16 (pLoopS D (pS' D d) d) := by
    intro n hn
    obtain ⟨n, rfl⟩ : ∃ k, n = k + 1 := ⟨n - 1, by omega⟩
    intro I t o st x sc lp E b0 c0 B h1 h2 h3 h4 h5 h6 hk h7 h8
    rw [rq_S_5]
    exact s_X13_loop (hBd n (by omega)) hi hD h2 h1 h3 h4 h5 h6 hk h7 h8
  have hDo : ∀ n, 4 * d + 3 ≤ n → oKd (ro_S m n) m D fs f vd d 6 17 (pLoopS D (pS' D d) d) := by
    intro n hn
    obtain ⟨n, rfl⟩ : ∃ k, n = k + 1 := ⟨n - 1, by omega⟩
    intro I t o st x sc lp E b0 c0 B h1 h2 h3 h4 h5 h6 hk h7 h8
    rw [rq_S_6]
    exact s_X13_turnLoop (hBd n (by omega)) hi hD h2 h1 h3 h4 h5 h6 hk h7 h8
  have hFo : ∀ n, 4 * d + 3 ≤ n → oKd (ro_S m n) m D fs f vd d 7 18 (pLoopS D (pS' D d) d) := by
    intro n hn
    obtain ⟨n, rfl⟩ : ∃ k, n = k + 1 := ⟨n - 1, by omega⟩
    intro I t o st x sc lp E b0 c0 B h1 h2 h3 h4 h5 h6 hk h7 h8
    rw [rq_S_7]
    exact s_X13_counted (hBd n (by omega)) hi hD h2 h1 h3 h4 h5 h6 hk h7 h8
  intro n hn
  refine ⟨?_, hBk n (by omega)⟩
  obtain ⟨n, rfl⟩ : ∃ k, n = k + 1 := ⟨n - 1, by omega⟩
  intro I t o st x sc lp E b0 c0 B h1 h2 h3 h4 h5 h6 h7 h8
  rw [rq_S_0]
  exact s_X13_statement (hBk n (by omega)) (hIf n (by omega)) (hW n (by omega)) (hDo n (by omega)) (hFo n (by omega)) hi hD h2 h1 h3 h4 h5 h6 h7 h8
theorem ro_SS (hi : inD D) (hD : D.length ≤ 1800) : ∀ d n, 4 * d + 4 ≤ n → oSt (ro_S m n) m D fs f vd d ∧ oBk (ro_S m n) m D fs f vd d := by
  intro d
  induction d with
  | zero => exact fun n hn => ro_S0 hi hD 0 (fun n hn d' hd => nomatch hd) n hn
  | succ d ih => exact fun n hn => ro_S0 hi hD (d + 1) (fun n hn d' hd => by cases hd; exact (ih n (by omega)).1) n hn
end SS2
