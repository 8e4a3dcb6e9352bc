/-! ===== the Model's statements: for ===== -/
set_option maxRecDepth 100000
section SFO
variable {m t o st pe d B sc lp f t1 : Nat} {I J K : xII} {D : tkL} {fs : List fnc} {x y : nte} {vd b0 c0 ps : Int32} {E : env} {Rk : rkT} {lb : Bool}
theorem mS_for0 {s sp bd : Tr} {q0 q1 q2 : mR} (h0 : q0 = mS ps fs vd s (sc + 1) lb st E) (h1 : q1 = mS ps fs vd sp (sc + 1) lb (st + q0.1.length + 1) q0.2.2) (h2 : q2 = mS ps fs vd bd (sc + 2) true (st + q0.1.length + 1 + q1.1.length + 2) q1.2.2) : mS ps fs vd (nd 26 [0, 1] (nd 33 [] s lf) (nd 32 [] sp bd)) sc lb st E = (q0.1 ++ [(12, nI (st + q0.1.length + 1 + q1.1.length + 1), 0, 0)] ++ q1.1 ++ [(12, nI (st + q0.1.length), 0, 0)] ++ [(15, 0, 0, 0)] ++ fillH 1 (nI (st + q0.1.length + 1 + q1.1.length + 2 + q2.1.length + 1)) (fillH 2 (nI (st + q0.1.length + 1)) q2.1) ++ [(12, nI (st + q0.1.length + 1), 0, 0)], mnN (mnN q0.2.1 q1.2.1) q2.2.1, (E.1, q2.2.2.2)) := by
  subst h2 h1 h0
  show (if ([1] : List Int32) = [] then _ else _) = _
  rw [if_neg (by decide)]
  dsimp only
  rw [if_pos rfl]
  rw [show nX (mS ps fs vd s (sc + 1) lb st E).2.2.1 fs false true none .leaf = none from rfl, mnN_n]
  rw [show cX (mS ps fs vd s (sc + 1) lb st E).2.2.1 fs false none (st + (mS ps fs vd s (sc + 1) lb st E).1.length) .leaf = [] from rfl, List.append_nil, List.append_nil]
  rfl
theorem mS_for1 {s c sp bd : Tr} {q0 q1 q2 : mR} (hc : wX false c) (h0 : q0 = mS ps fs vd s (sc + 1) lb st E) (h1 : q1 = mS ps fs vd sp (sc + 1) lb (st + (q0.1.length + lX false c + 1) + 1) q0.2.2) (h2 : q2 = mS ps fs vd bd (sc + 2) true (st + (q0.1.length + lX false c + 1) + 1 + q1.1.length + 2) q1.2.2) : mS ps fs vd (nd 26 [0, 1] (nd 33 [] s c) (nd 32 [] sp bd)) sc lb st E = (q0.1 ++ cX q0.2.2.1 fs false none (st + q0.1.length) c ++ [(13, nI (st + (q0.1.length + lX false c + 1) + 1 + q1.1.length + 2 + q2.1.length + 1), 0, 0)] ++ [(12, nI (st + (q0.1.length + lX false c + 1) + 1 + q1.1.length + 1), 0, 0)] ++ q1.1 ++ [(12, nI (st + q0.1.length), 0, 0)] ++ [(15, 0, 0, 0)] ++ fillH 1 (nI (st + (q0.1.length + lX false c + 1) + 1 + q1.1.length + 2 + q2.1.length + 1)) (fillH 2 (nI (st + (q0.1.length + lX false c + 1) + 1)) q2.1) ++ [(12, nI (st + (q0.1.length + lX false c + 1) + 1), 0, 0)], mnN (mnN (mnN q0.2.1 (nX q0.2.2.1 fs false true none c)) q1.2.1) q2.2.1, (E.1, q2.2.2.2)) := by
  cases c with
  | leaf => exact nomatch hc
  | inner ck cd cv cl cr =>
    generalize hC : (Std.DTreeMap.Internal.Impl.inner ck cd cv cl cr : Tr) = c at *
    rw [show st + (q0.1.length + lX false c + 1) + 1 = st + q0.1.length + lX false c + 1 + 1 by omega] at *
    subst h2 h1 h0
    show (if ([1] : List Int32) = [] then _ else _) = _
    rw [if_neg (by decide)]
    subst hC
    dsimp only
    rw [if_neg (by decide)]
    simp only [List.append_assoc]
theorem s_X13_counted (hBd : ∀ d', d = d' + 1 → oBd Rk m D fs f vd d') (hi : inD D) (hD : D.length ≤ 1800) (h : sE I m D fs t o st x sc lp E f vd) (hd : o + d = 40) (h63 : I m 63 = b0) (h64 : I m 64 = c0) (hsc : sc ≤ 2 * o + 1) (hlp : lp ≤ o) (hk : tK D t = 18) (hB : st + 4 * (D.length - t) ≤ B) (hB9 : B ≤ 9000) : w_X13_counted Rk m (sP I m D fs st o x sc lp f vd b0 c0 B (pLoopS D (pS' D d) d t) fun e => mS (I m 46) fs vd e sc (decide (0 < lp)) st E) I := by
  have hT := h.1.1
  have hl := hT.2.1
  have hD4 := hT.1.1.2.1
  have ht1 := hT.1.1.nx' hl hk
  have w0 := sW.rf h h63 h64
  unfold w_X13_counted
  refine ⟨_, s_X13_opens hT ht1, ?_⟩
  rintro v1 I1 - ⟨q1, ⟨ho, rfl, x1⟩ | ⟨ho, rfl, T1⟩⟩
  · refine ⟨fun _ => ?_, fun q => absurd rfl q⟩
    obtain rfl : d = 0 := by omega
    rw [pLoopS, pOpen, if_pos rfl, if_pos rfl]
    exact ⟨rfl, eH.sx w0 hD (by show st + 0 ≤ 9000; omega) q1.h x1⟩
  refine ⟨fun q => absurd q (by decide), fun _ => ?_⟩
  obtain ⟨d', rfl⟩ : ∃ d', d = d' + 1 := ⟨d - 1, by omega⟩
  have hG : pLoopS D (pS' D (d' + 1)) (d' + 1) t = pOpen D 62 d' (t + 1) (pAnd (pForS D (d' - 1) (t + 2)) fun s t1 => pNeed D 69 t1 (pAnd (pForC D (d' - 1) (t1 + 1)) fun c t2 => pNeed D 69 t2 (pAnd (pForP D (d' - 1) (t2 + 1)) fun sp t3 => pNeed D 63 t3 (pAnd (pS D d' (t3 + 1)) fun b t4 => .ok (nd 26 [0, 1] (nd 33 [] s c) (nd 32 [] sp b), t4))))) := by rw [pLoopS, pOpen, if_pos rfl, if_neg (by omega), if_neg (by rw [hk]; decide), if_neg (by rw [hk]; decide)]; rfl
  rw [hG]
  have w1 := w0.mv q1 T1 (by omega)
  refine ⟨_, s_X13_openSign w1.2.1.1.1 (k := 62) (by decide), ?_⟩
  rintro v2 I2 - ⟨q2, ⟨e, rfl, x2⟩ | ⟨e, ho2, rfl, x2⟩ | ⟨e, ho2, rfl, T2⟩⟩
  · refine ⟨fun _ => ?_, fun q => absurd rfl q⟩
    rw [pOpen, if_neg e]
    exact ⟨rfl, eH.sx w1 hD (by show st + 0 ≤ 9000; omega) q2.h x2⟩
  · refine ⟨fun _ => ?_, fun q => absurd rfl q⟩
    obtain rfl : d' = 0 := by omega
    rw [pOpen, if_pos e, if_pos rfl]
    exact ⟨rfl, eH.sx w1 hD (by show st + 0 ≤ 9000; omega) q2.h x2⟩
  refine ⟨fun q => absurd q (by decide), fun _ => ?_⟩
  obtain ⟨d2, rfl⟩ : ∃ d2, d' = d2 + 1 := ⟨d' - 1, by omega⟩
  rw [pOpen, if_pos e, if_neg (by omega), Nat.add_sub_cancel]
  have w2 := w1.mv q2 T2 (by omega)
  have ht2 := T2.2.1
  have i215 : I2 m 15 = nI sc := w2.2.1.2.1.1
  rw [i215]
  refine ⟨_, s_X13_begins i215, ?_⟩
  rintro I3 ⟨p315, f3⟩
  have w3 := w2.bg p315 f3 (by omega)
  have hΓ : ∀ q ∈ E.1, ∃ s, s ≤ sc ∧ q.sc = nI s := h.2.2.2.2.2.2.2.2.2.1
  refine ⟨_, s_X13_isSign w3.2.1.1.1 (k := 69) (by decide), ?_⟩
  rintro _ _ - ⟨rfl, rfl⟩
  by_cases e69 : tK D (t + 1 + 1) = 69
  · rw [bI, if_pos e69]
    refine ⟨fun q => absurd q (by decide), fun _ => ?_⟩
    rw [show pForS D d2 (t + 2) = .ok (nd 35 [] lf lf, t + 2) from if_pos e69]
    show ctA Rk m (nI sc) (sP I m D fs st o x sc lp f vd b0 c0 B (pNeed D 69 (t + 2) (pAnd (pForC D d2 (t + 2 + 1)) fun c t2 => pNeed D 69 t2 (pAnd (pForP D d2 (t2 + 1)) fun sp t3 => pNeed D 63 t3 (pAnd (pS D (d2 + 1) (t3 + 1)) fun b t4 => .ok (nd 26 [0, 1] (nd 33 [] (nd 35 [] lf lf) c) (nd 32 [] sp b), t4))))) (fun e => mS (I m 46) fs vd e sc (decide (0 < lp)) st E)) I3
    refine s_ctA (pl := []) (y := none) (new := []) (Γ := E.1) (w := E.2) (mkA := fun c sp b => nd 26 [0, 1] (nd 33 [] (nd 35 [] lf lf) c) (nd 32 [] sp b)) (hBd _ rfl) hi hD (by omega) hsc hlp hΓ (fun q hq => nomatch hq) w3 (by show st + 0 + 4 * (D.length - (t + 2)) + 4 ≤ B; omega) hB9 (fun sp bd q1 q2 h1 h2 h3 => ?_) (fun c sp bd q1 q2 hc h1 h2 h3 => ?_)
    · exact mS_for0 (s := nd 35 [] lf lf) (q0 := ([], none, E)) rfl h1 (by rw [h2]; exact h3)
    · exact mS_for1 (s := nd 35 [] lf lf) (q0 := ([], none, E)) hc rfl h1 (by rw [h2]; exact h3)
  · rw [bI, if_neg e69]
    refine ⟨fun _ => ?_, fun q => absurd rfl q⟩
    have p346 : I3 m 46 = I m 46 := w3.1.ps
    refine ⟨_, s_X13_isWord w3.2.1.1.1 (k := 10) (by decide), ?_⟩
    rintro _ _ - ⟨rfl, rfl⟩
    have E3 : sE I3 m D fs (t + 2) (o + 2) st x (sc + 1) lp E f vd := by
      have := w3.2.1
      rw [mN_n] at this
      exact this
    refine ⟨sP I3 m D fs st (o + 2) x (sc + 1) lp f vd b0 c0 (B - 4) (pForS D d2 (t + 2)) (fun e => mS (I3 m 46) fs vd e (sc + 1) (decide (0 < lp)) st E), fun y60 I60 hP => ?_, ?_⟩
    · rw [p346] at hP
      cases hy : pForS D d2 (t + 2) with
      | error fl =>
        rw [hy] at hP
        obtain ⟨rfl, x4⟩ := hP
        refine ⟨fun _ => ?_, fun q => absurd rfl q⟩
        exact ⟨rfl, sX.tr w3 x4⟩
      | ok et =>
        obtain ⟨s, t1⟩ := et
        rw [hy] at hP
        obtain ⟨rfl, w4, b4⟩ := hP
        refine ⟨fun q => absurd q (by decide), fun _ => ?_⟩
        dsimp only at w4 b4
        obtain ⟨new, hn1, hn2⟩ := mS_env (ps := I m 46) (fs := fs) (vd := vd) s (sc + 1) (decide (0 < lp)) st E
        generalize hq : mS (I m 46) fs vd s (sc + 1) (decide (0 < lp)) st E = q0 at *
        have w4c : sW I3 I60 m D fs st (mN (I m 46) x none) t1 (o + 2) (sc + 1) lp f vd b0 c0 q0 := by
          rw [mN_n]
          exact w4
        have w5 := w3.tr w4c
        have w60 : sW I I60 m D fs st x t1 (o + 2) (sc + 1) lp f vd b0 c0 (q0.1, q0.2.1, (new ++ E.1, q0.2.2.2)) := by
          rw [← hn1]
          exact w5
        show ctA Rk m (nI sc) (sP I m D fs st o x sc lp f vd b0 c0 B (pNeed D 69 t1 (pAnd (pForC D d2 (t1 + 1)) fun c t2 => pNeed D 69 t2 (pAnd (pForP D d2 (t2 + 1)) fun sp t3 => pNeed D 63 t3 (pAnd (pS D (d2 + 1) (t3 + 1)) fun b t4 => .ok (nd 26 [0, 1] (nd 33 [] s c) (nd 32 [] sp b), t4))))) (fun e => mS (I m 46) fs vd e sc (decide (0 < lp)) st E)) I60
        have henv : q0.2.2 = (new ++ E.1, q0.2.2.2) := by rw [← hn1]
        refine s_ctA (pl := q0.1) (y := q0.2.1) (new := new) (Γ := E.1) (w := q0.2.2.2) (mkA := fun c sp b => nd 26 [0, 1] (nd 33 [] s c) (nd 32 [] sp b)) (hBd _ rfl) hi hD (by omega) hsc hlp hΓ hn2 w60 (by omega) hB9 (fun sp bd q1 q2 h1 h2 h3 => ?_) (fun c sp bd q1 q2 hc h1 h2 h3 => ?_)
        · rw [← henv] at h1
          rw [← h2] at h3
          exact mS_for0 (s := s) (q0 := q0) hq.symm h1 h3
        · rw [← henv] at h1
          rw [← h2] at h3
          have := mS_for1 (s := s) (q0 := q0) hc hq.symm h1 h3
          rw [henv] at this
          exact this
    · by_cases e10 : tK D (t + 1 + 1) = 10
      · rw [bI, if_pos e10]
        refine ⟨fun q => absurd q (by decide), fun _ => ?_⟩
        rw [show pForS D d2 (t + 2) = pStart D d2 (t + 2 + 1) by rw [pForS, if_neg e69, if_pos e10]]
        exact ⟨_, s_X13_tellHere0 (d := d2) (B := B - 4) hi hD E3 (by omega) w3.2.2.2.2.1 w3.2.2.2.2.2 e10 (by omega) (by omega), fun v I _ z => z⟩
      · rw [bI, if_neg e10]
        refine ⟨fun _ => ?_, fun q => absurd rfl q⟩
        rw [show pForS D d2 (t + 2) = pSimple D d2 (t + 2) by rw [pForS, if_neg e69, if_neg e10]]
        exact ⟨_, s_X13_simple (d := d2) (B := B - 4) hi hD E3 (by omega) w3.2.2.2.2.1 w3.2.2.2.2.2 (by omega) (by omega), fun v I _ z => z⟩
end SFO
