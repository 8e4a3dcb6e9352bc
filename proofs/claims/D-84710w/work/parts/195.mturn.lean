/-! ===== the Model's statements: do ===== -/
set_option maxRecDepth 100000
section STU
variable {m t o st pe d B sc lp f t1 t' o' t2 o2 sc' lp' : Nat} {I J K : xII} {D : tkL} {Γ : List dcl} {fs : List fnc} {x y : nte} {vd b0 c0 ps a b v : Int32} {E E' : env} {q : mR} {fl : Int32 × Int32} {Rk : rkT} {l l0 l0' l1 l2 : List stp}
theorem s_X13_word1 (h : eT I m D t o) {k s : Int32} (hs : mkV k 0 = s ∧ (10 : Int32) ≤ k ∧ k < 40) : w_X13_word m s 1 (fun v J => eQ I J m ∧ ((¬ tK D t = k ∧ v = 0 ∧ eX J m (pWr D t)) ∨ (tK D t = k ∧ v = 1 ∧ eT J m D (t + 1) o))) I := by
  unfold w_X13_word
  rw [h.2.2.2.2.2]
  refine ⟨fun z => absurd z (by decide), fun _ => ⟨_, s_X13_isWord h hs, ?_⟩⟩
  rintro _ _ - ⟨rfl, rfl⟩
  by_cases e : tK D t = k
  · rw [bI, if_pos e]
    refine ⟨fun q => absurd q (by decide), fun _ => ?_⟩
    rintro _ rfl
    have := h.1.1.nx' h.2.1 e ⟨by rintro rfl; exact absurd hs.2.1 (by decide), by rintro rfl; exact absurd hs.2.1 (by decide)⟩
    exact ⟨(h.on this).2, Or.inr ⟨e, rfl, (h.on this).1⟩⟩
  · rw [bI, if_neg e]
    refine ⟨fun _ => ?_, fun q => absurd rfl q⟩
    refine ⟨fun z => absurd z (by decide), fun _ => ⟨_, s_X13_fails h (by decide), ?_⟩⟩
    rintro _ _ - ⟨rfl, h1, h2⟩
    exact ⟨h1, Or.inl ⟨e, rfl, h2⟩⟩
theorem s_X13_turnLoop (hBd : ∀ d', d = d' + 1 → oBd Rk m D fs f vd d') (hi : inD D) (hD : D.length ≤ 1800) (h : sE I m D fs t o st x sc lp E f vd) (hd : o + d = 40) (h63 : I m 63 = b0) (h64 : I m 64 = c0) (hsc : sc ≤ 2 * o + 1) (hlp : lp ≤ o) (hk : tK D t = 17) (hB : st + 4 * (D.length - t) ≤ B) (hB9 : B ≤ 9000) : w_X13_turnLoop Rk m (sP I m D fs st o x sc lp f vd b0 c0 B (pLoopS D (pS' D d) d t) fun e => mS (I m 46) fs vd e sc (decide (0 < lp)) st E) I := by
  have hT := h.1.1
  have hl := hT.2.1
  have hD4 := hT.1.1.2.1
  have ht1 := hT.1.1.nx' hl hk
  have w0 := sW.rf h h63 h64
  have h60 : I m 60 = nI st := h.1.2.2.2.1
  unfold w_X13_turnLoop
  rw [h60]
  refine ⟨_, s_X13_opens hT ht1, ?_⟩
  rintro v1 I1 - ⟨q1, ⟨ho, rfl, x1⟩ | ⟨ho, rfl, T1⟩⟩
  · refine ⟨fun _ => ?_, fun q => absurd rfl q⟩
    obtain rfl : d = 0 := by omega
    rw [pLoopS, pOpen, if_pos rfl, if_pos rfl]
    exact ⟨rfl, eH.sx w0 hD (by show st + 0 ≤ 9000; omega) q1.h x1⟩
  refine ⟨fun q => absurd q (by decide), fun _ => ?_⟩
  obtain ⟨d', rfl⟩ : ∃ d', d = d' + 1 := ⟨d - 1, by omega⟩
  have hG : pLoopS D (pS' D (d' + 1)) (d' + 1) t = pAnd (pS D d' (t + 1)) fun b t1 => pNeed D 16 t1 (pAnd (pIn D (pE' D d') d' (t1 + 1)) fun c t2 => pNeed D 69 t2 (.ok (nd 26 [1] (nd 33 [] (nd 35 [] lf lf) c) (nd 32 [] (nd 35 [] lf lf) b), t2 + 1))) := by rw [pLoopS, pOpen, if_pos rfl, if_neg (by omega), if_pos hk]; rfl
  rw [hG]
  have w1 := w0.mv q1 T1 (by omega)
  have E1 : sE I1 m D fs (t + 1) (o + 1) st x sc lp E f vd := by
    have := w1.2.1
    rw [mN_n] at this
    exact this
  have p146 : I1 m 46 = I m 46 := w1.1.ps
  refine ⟨_, hBd d' rfl I1 (t + 1) (o + 1) st x sc lp E b0 c0 (B - 3) (-1) (by omega) E1 w1.2.2.2.2.1 w1.2.2.2.2.2 (by omega) (by omega) (by omega) (by omega), ?_⟩
  rintro v2 I2 - hP
  cases hy : pS D d' (t + 1) with
  | error fl =>
    rw [hy] at hP
    obtain ⟨rfl, x2⟩ := hP
    refine ⟨fun _ => ?_, fun q => absurd rfl q⟩
    exact ⟨rfl, sX.tr w1 x2⟩
  | ok et =>
    obtain ⟨bd, t1⟩ := et
    rw [hy] at hP
    obtain ⟨rfl, w2', b2⟩ := hP
    refine ⟨fun q => absurd q (by decide), fun _ => ?_⟩
    rw [show (pAnd (.ok (bd, t1)) fun b t1 => pNeed D 16 t1 (pAnd (pIn D (pE' D d') d' (t1 + 1)) fun c t2 => pNeed D 69 t2 (.ok (nd 26 [1] (nd 33 [] (nd 35 [] lf lf) c) (nd 32 [] (nd 35 [] lf lf) b), t2 + 1))) : pR) = pNeed D 16 t1 (pAnd (pIn D (pE' D d') d' (t1 + 1)) fun c t2 => pNeed D 69 t2 (.ok (nd 26 [1] (nd 33 [] (nd 35 [] lf lf) c) (nd 32 [] (nd 35 [] lf lf) bd), t2 + 1))) from rfl]
    rw [p146] at w2' b2
    generalize hq : mS (I m 46) fs vd bd (sc + 1) true (st + 1) E = q at *
    have k65 := w2'.2.2.2.2.2.2.1
    have k66 := w2'.2.2.2.2.2.2.2 rfl
    have w2b := w2'.w
    rw [if_pos rfl] at w2b
    have h260 : I2 m 60 = nI (st + 1 + q.1.length) := w2'.2.1.1.2.2.2.1
    have w2 : sW I I2 m D fs st x t1 (o + 1) sc lp f vd b0 c0 ([(15, 0, 0, 0)] ++ lnk (st + 1) (-1) (-1) q.1 ++ [], q.2.1, (E.1, q.2.2.2)) := by
      rw [List.append_nil]
      have w2c : sW I1 I2 m D fs st (mN (I m 46) x none) t1 (o + 1) sc lp f vd b0 c0 ([(15, 0, 0, 0)] ++ lnk (st + 1) (-1) (-1) q.1, q.2.1, (E.1, q.2.2.2)) := by
        rw [mN_n]
        exact w2b
      have := w1.tr w2c
      exact this
    have hl1 := w2.2.1.1.1.2.1
    have m2 := w2.md lnk_noH
    rw [k66, h260, k65]
    refine ⟨_, s_X13_settle2 (b := -1) m2 (by show st + 1 + q.1.length ≤ 9000; omega), ?_⟩
    rintro I3 ⟨m3, f3⟩
    have w3 := w2.rp (K := I3) (l0' := lnk (st + 1) (-1) (-1) (fillH 2 (nI (st + 1 + q.1.length)) q.1)) lnk_noH lnk_noH (by rw [lnk_len, lnk_len, fillH_len]) m3 (fun a k hk => f3 a k (by rw [lnk_len] at hk; exact hk))
    rw [List.append_nil] at w3
    have l3 : ([((15 : Int32), (0 : Int32), (0 : Int32), (0 : Int32))] ++ lnk (st + 1) (-1) (-1) (fillH 2 (nI (st + 1 + q.1.length)) q.1)).length = 1 + q.1.length := by
      rw [List.length_append, lnk_len, fillH_len]
      rfl
    refine ⟨_, s_X13_word1 w3.2.1.1.1 (k := 16) (by decide), ?_⟩
    rintro v4 I4 - ⟨q4, ⟨e16, rfl, x4⟩ | ⟨e16, rfl, T4⟩⟩
    · refine ⟨fun _ => ?_, fun q => absurd rfl q⟩
      rw [pNeed, if_neg e16]
      exact ⟨rfl, eH.sx w3 hD (by dsimp only; rw [l3]; omega) q4.h x4⟩
    refine ⟨fun q => absurd q (by decide), fun _ => ?_⟩
    rw [pNeed, if_pos e16]
    have w4 := w3.mv q4 T4 (by omega)
    have ht4 := T4.2.1
    refine ⟨_, s_X13_condition (d := d') (B := B - 7) hi w4.2.1.1 (by omega) (by omega) (by dsimp only; rw [l3]; omega) (by omega), ?_⟩
    rintro v5 I5 - ⟨g5, r5⟩
    dsimp only at r5 g5
    rw [l3] at r5 g5
    cases hr : pIn D (pE' D d') d' (t1 + 1) with
    | error fl =>
      rw [hr] at r5
      obtain ⟨rfl, x5⟩ := r5
      refine ⟨fun _ => ?_, fun q => absurd rfl q⟩
      exact ⟨rfl, eH.sx w4 hD (by dsimp only; rw [l3]; omega) (by dsimp only; rw [l3]; exact g5) x5⟩
    | ok et =>
      obtain ⟨c, t2⟩ := et
      rw [hr] at r5
      obtain ⟨rfl, w5', b5⟩ := r5
      refine ⟨fun q => absurd q (by decide), fun _ => ?_⟩
      rw [show (pAnd (.ok (c, t2)) fun c t2 => pNeed D 69 t2 (.ok (nd 26 [1] (nd 33 [] (nd 35 [] lf lf) c) (nd 32 [] (nd 35 [] lf lf) bd), t2 + 1)) : pR) = pNeed D 69 t2 (.ok (nd 26 [1] (nd 33 [] (nd 35 [] lf lf) c) (nd 32 [] (nd 35 [] lf lf) bd), t2 + 1)) from rfl]
      have hup := pIn_up hT.1.1 (fun t ht => pE'_up hT.1.1 d' t ht) ht4 _ _ hr
      have ep2 : st + (1 + q.1.length) = st + 1 + q.1.length := by omega
      rw [ep2] at w5' b5
      have b5' : st + 1 + q.1.length + (cX E.1 fs false none (st + 1 + q.1.length) c).length + 4 * (D.length - t2) ≤ B - 7 := b5
      rw [cX_len] at b5'
      have w5 : sW I I5 m D fs st x t2 (o + 1) sc lp f vd b0 c0 ([(15, 0, 0, 0)] ++ lnk (st + 1) (-1) (-1) (fillH 2 (nI (st + 1 + q.1.length)) q.1) ++ cX E.1 fs false none (st + 1 + q.1.length) c, mnN q.2.1 (nX E.1 fs false true none c), (E.1, q.2.2.2)) := w4.e (by dsimp only; rw [l3, ep2]; exact w5') (by omega) cX_noH
      have l5 : ([((15 : Int32), (0 : Int32), (0 : Int32), (0 : Int32))] ++ lnk (st + 1) (-1) (-1) (fillH 2 (nI (st + 1 + q.1.length)) q.1) ++ cX E.1 fs false none (st + 1 + q.1.length) c).length = 1 + q.1.length + lX false c := by rw [List.length_append, l3, cX_len]
      refine ⟨_, s_X13_step (s := st + ([((15 : Int32), (0 : Int32), (0 : Int32), (0 : Int32))] ++ lnk (st + 1) (-1) (-1) (fillH 2 (nI (st + 1 + q.1.length)) q.1) ++ cX E.1 fs false none (st + 1 + q.1.length) c).length) w5.2.1.1.2.2.2.1 (by rw [l5]; omega), ?_⟩
      rintro _ I6 ⟨rfl, u0, u1, u2, u3, u4, -⟩
      have w6 := w5.sp1 (w := 14) (a := nI st) (d := 0) (v := 0) isHo_0 u0 u1 u2 u3 u4 (fun z => absurd z (by decide))
      dsimp only at w6
      rw [l5, show st + (1 + q.1.length + lX false c) + 1 = st + 1 + q.1.length + lX false c + 1 by omega] at u0
      rw [u0, ← hdH_fill (v := nI (st + 1 + q.1.length))]
      rw [List.append_assoc ([(15, 0, 0, 0)] ++ lnk (st + 1) (-1) (-1) (fillH 2 (nI (st + 1 + q.1.length)) q.1))] at w6
      have m6 := w6.md lnk_noH
      refine ⟨_, s_X13_settle1 (c := -1) m6 (by rw [fillH_len]; show st + 1 + q.1.length ≤ 9000; omega), ?_⟩
      rintro I7 ⟨m7, f7⟩ I8 hI8
      have w7 := w6.rp (K := I7) (l0' := lnk (st + 1) (-1) (-1) (fillH 1 (nI (st + 1 + q.1.length + lX false c + 1)) (fillH 2 (nI (st + 1 + q.1.length)) q.1))) lnk_noH lnk_noH (by rw [lnk_len, lnk_len, fillH_len]) m7 (fun a k hk => f7 a k (by rw [lnk_len] at hk; exact hk))
      rw [fill_noH.lk, ← List.append_assoc] at w7
      have w8 := w7.cl (K := I8) hI8
      have hF : mS (I m 46) fs vd (nd 26 [1] (nd 33 [] (nd 35 [] lf lf) c) (nd 32 [] (nd 35 [] lf lf) bd)) sc (decide (0 < lp)) st E = ([(15, 0, 0, 0)] ++ fillH 1 (nI (st + 1 + q.1.length + lX false c + 1)) (fillH 2 (nI (st + 1 + q.1.length)) q.1) ++ cX E.1 fs false none (st + 1 + q.1.length) c ++ [(14, nI st, 0, 0)], mnN q.2.1 (nX E.1 fs false true none c), (E.1, q.2.2.2)) := by
        rw [← hq]
        show (if ([] : List Int32) = [] then (if (1 : Int32) = 0 then _ else _) else _) = _
        rw [if_pos rfl, if_neg (by decide)]
      refine ⟨_, s_X13_sign w8.2.1.1.1 (k := 69) (by decide), fun v9 I9 _ hp => semi hD w8 ?_ hB9 hF hp⟩
      dsimp only
      rw [List.length_append, List.length_append, List.length_append, cX_len, fillH_len, fillH_len]
      show st + (1 + q.1.length + lX false c + 1) + 4 * (D.length - t2) ≤ B
      omega
end STU
