/-! ===== the Model's statements: while, do ===== -/
set_option maxRecDepth 100000
section SLO
variable {m t o st pe d B sc lp f t1 t' o' t2 o2 sc' lp' : Nat} {I J K : xII} {D : tkL} {Γ : List dcl} {fs : List fnc} {x y : nte} {vd b0 c0 ps a b v : Int32} {E E' : env} {q : mR} {fl : Int32 × Int32} {Rk : rkT} {l l0 l0' l1 l2 : List stp}
theorem lnk_noH : ∀ {l : List stp} {st : Nat} {b c : Int32}, noH (lnk st b c l)
  | [], _, _, _ => fun q hq => nomatch hq
  | q :: l, st, b, c => by
    intro z hz
    rw [lnk] at hz
    split at hz
    · rcases List.mem_cons.mp hz with rfl | hz
      · exact isHo_0
      · exact lnk_noH z hz
    · split at hz
      · rcases List.mem_cons.mp hz with rfl | hz
        · exact isHo_0
        · exact lnk_noH z hz
      · rename_i h1 h2
        rcases List.mem_cons.mp hz with rfl | hz
        · exact ⟨by cases hh : isHo 1 z with
            | false => rfl
            | true => exact absurd hh h1, by cases hh : isHo 2 z with
            | false => rfl
            | true => exact absurd hh h2⟩
        · exact lnk_noH z hz
theorem fill_noH {v w : Int32} : noH (fillH 1 v (fillH 2 w l)) := by
  intro z hz
  have h1 := (fillH_no (h := 1) (v := v) (l := fillH 2 w l)).resolve_right (by decide) z hz
  refine ⟨h1, ?_⟩
  unfold fillH at hz
  obtain ⟨z1, hz1, rfl⟩ := List.mem_map.mp hz
  by_cases q1 : isHo 1 z1 = true
  · rw [if_pos q1]
    exact isHo_0.2
  · rw [if_neg q1]
    exact (fillH_no (h := 2) (v := w) (l := l)).resolve_right (by decide) z1 hz1
theorem hdH_fill {v : Int32} : ∀ {l : List stp} {st : Nat} {b : Int32}, hdH 1 st b (fillH 2 v l) = hdH 1 st b l
  | [], _, _ => rfl
  | q :: l, st, b => by
    show hdH 1 (st + 1) (if isHo 1 (if isHo 2 q = true then (12, v, 0, 0) else q) = true then nI st else b) (fillH 2 v l) = hdH 1 (st + 1) (if isHo 1 q = true then nI st else b) l
    rw [hdH_fill]
    by_cases h2 : isHo 2 q = true
    · have h1 : isHo 1 q = false := decide_eq_false fun z => by
        have := (of_decide_eq_true h2).2
        rw [z.2] at this
        exact absurd this (by decide)
      rw [if_pos h2, isHo_0.1, h1]
    · rw [if_neg h2]
/-- a part of the row is another one now -/
theorem sW.rp (h : sW I J m D fs st x t' o' sc lp f vd b0 c0 (l1 ++ l0 ++ l2, y, E')) (h0 : noH l0) (h0' : noH l0') (hlen : l0'.length = l0.length) (hm : mSt K m (st + l1.length) l0') (hf : ∀ a k, ¬ (a = m + 33 ∧ st + l1.length ≤ k ∧ k < st + l1.length + l0.length) → K a k = J a k) : sW I K m D fs st x t' o' sc lp f vd b0 c0 (l1 ++ l0' ++ l2, y, E') := by
  obtain ⟨a1, a2, a3, a4, a5, a6⟩ := h
  have hl : (l1 ++ l0 ++ l2).length = (l1 ++ l0' ++ l2).length := by simp only [List.length_append, hlen]
  have e1 : ∀ l0 : List stp, noH l0 → lnk st b0 c0 (l1 ++ l0 ++ l2) = lnk st b0 c0 l1 ++ l0 ++ lnk (st + (l1.length + l0.length)) (hdH 1 st b0 l1) (hdH 2 st c0 l1) l2 ∧ hdH 1 st b0 (l1 ++ l0 ++ l2) = hdH 1 (st + (l1.length + l0.length)) (hdH 1 st b0 l1) l2 ∧ hdH 2 st c0 (l1 ++ l0 ++ l2) = hdH 2 (st + (l1.length + l0.length)) (hdH 2 st c0 l1) l2 := fun l0 h0 => by
    refine ⟨?_, ?_, ?_⟩
    · rw [lnk_app, lnk_app, h0.lk, hdH_app, hdH_app, h0.hd.1, h0.hd.2, List.length_append]
    · rw [hdH_app, hdH_app, h0.hd.1, List.length_append]
    · rw [hdH_app, hdH_app, h0.hd.2, List.length_append]
  obtain ⟨f1, f2, f3⟩ := e1 l0 h0
  obtain ⟨g1, g2, g3⟩ := e1 l0' h0'
  dsimp only at a2 a4 a5 a6
  refine ⟨fun a k q1 q2 => (hf a k (by omega)).trans (a1 a k q1 q2), ?_, fun a k hk => (hf a k (by omega)).trans (a3 a k hk), ?_, ?_, ?_⟩
  · dsimp only
    rw [← hl]
    exact a2.fr fun a k q1 q2 => hf a k (by omega)
  · dsimp only
    rw [g1, hlen]
    rw [f1] at a4
    obtain ⟨p1, p2⟩ := mSt.app.mp a4
    obtain ⟨p3, p4⟩ := mSt.app.mp p1
    refine mSt.app.mpr ⟨mSt.app.mpr ⟨p3.cong fun a k q1 q2 q3 q4 => hf a k (by rw [lnk_len] at q4; omega), by rw [lnk_len]; exact hm⟩, ?_⟩
    rw [List.length_append, lnk_len] at p2
    rw [List.length_append, lnk_len, hlen]
    exact p2.cong fun a k q1 q2 q3 q4 => hf a k (by omega)
  · dsimp only
    rw [g2, hlen, hf _ _ (by omega), ← f2]
    exact a5
  · dsimp only
    rw [g3, hlen, hf _ _ (by omega), ← f3]
    exact a6
theorem sW.md (h : sW I J m D fs st x t' o' sc lp f vd b0 c0 (l1 ++ l0 ++ l2, y, E')) (h0 : noH l0) : mSt J m (st + l1.length) l0 := by
  have a4 := h.2.2.2.1
  dsimp only at a4
  rw [lnk_app, lnk_app, h0.lk] at a4
  have := (mSt.app.mp (mSt.app.mp a4).1).2
  rw [lnk_len] at this
  exact this
theorem bR.w (h : bR I J m D fs st x t' o' sc lp f vd b0 c0 a E q) : sW I J m D fs st x t' o' sc lp f vd b0 c0 ([(15, 0, 0, 0)] ++ lnk (st + 1) (-1) (-1) (if a = -1 then q.1 else fillH 2 a q.1), q.2.1, (E.1, q.2.2.2)) := by
  obtain ⟨a1, a2, a3, a4, a5, a6, -, -⟩ := h
  have hno : noH ([((15 : Int32), (0 : Int32), (0 : Int32), (0 : Int32))] ++ lnk (st + 1) (-1) (-1) (if a = -1 then q.1 else fillH 2 a q.1)) := noH.app (fun z hz => by rw [List.mem_singleton] at hz; subst hz; exact isHo_0) lnk_noH
  have hlen : st + ([((15 : Int32), (0 : Int32), (0 : Int32), (0 : Int32))] ++ lnk (st + 1) (-1) (-1) (if a = -1 then q.1 else fillH 2 a q.1)).length = st + 1 + q.1.length := by
    rw [List.length_append, lnk_len]
    split
    · show st + (1 + _) = _
      omega
    · rw [fillH_len]
      show st + (1 + _) = _
      omega
  refine ⟨a1, ?_, a3, ?_, ?_, ?_⟩
  · dsimp only
    rw [hlen]
    exact a2
  · dsimp only
    rw [hno.lk]
    exact a4
  · dsimp only
    rw [hno.hd.1]
    exact a5
  · dsimp only
    rw [hno.hd.2]
    exact a6
theorem s_X13_loop (hBd : ∀ d', d = d' + 1 → oBd Rk m D fs f vd d') (hi : inD D) (hD : D.length ≤ 1800) (h : sE I m D fs t o st x sc lp E f vd) (hd : o + d = 40) (h63 : I m 63 = b0) (h64 : I m 64 = c0) (hsc : sc ≤ 2 * o + 1) (hlp : lp ≤ o) (hk : tK D t = 16) (hB : st + 4 * (D.length - t) ≤ B) (hB9 : B ≤ 9000) : w_X13_loop Rk m (sP I m D fs st o x sc lp f vd b0 c0 B (pLoopS D (pS' D d) d t) fun e => mS (I m 46) fs vd e sc (decide (0 < lp)) st E) I := by
  have hT := h.1.1
  have hl := hT.2.1
  have hD4 := hT.1.1.2.1
  have ht1 := hT.1.1.nx' hl hk
  have w0 := sW.rf h h63 h64
  have h60 : I m 60 = nI st := h.1.2.2.2.1
  unfold w_X13_loop
  rw [h60]
  refine ⟨_, s_X13_opens hT ht1, ?_⟩
  rintro v1 I1 - ⟨q1, ⟨ho, rfl, x1⟩ | ⟨ho, rfl, T1⟩⟩
  · refine ⟨fun _ => ?_, fun q => absurd rfl q⟩
    obtain rfl : d = 0 := by omega
    rw [pLoopS, pOpen, if_pos rfl, if_pos rfl]
    exact ⟨rfl, eH.sx w0 hD (by show st + 0 ≤ 9000; omega) q1.h x1⟩
  refine ⟨fun q => absurd q (by decide), fun _ => ?_⟩
  obtain ⟨d', rfl⟩ : ∃ d', d = d' + 1 := ⟨d - 1, by omega⟩
  have hG : pLoopS D (pS' D (d' + 1)) (d' + 1) t = pAnd (pIn D (pE' D d') d' (t + 1)) fun c t1 => pAnd (pS D d' t1) fun b t2 => .ok (nd 26 [0] (nd 33 [] (nd 35 [] lf lf) c) (nd 32 [] (nd 35 [] lf lf) b), t2) := by rw [pLoopS, pOpen, if_pos rfl, if_neg (by omega), if_neg (by rw [hk]; decide), if_pos hk]; rfl
  rw [hG]
  have w1 := w0.mv q1 T1 (by omega)
  refine ⟨_, s_X13_condition (d := d') (B := B - 4) hi w1.2.1.1 (by omega) (by omega) (by show st + 0 + 4 * (D.length - (t + 1)) ≤ B - 4; omega) (by omega), ?_⟩
  rintro v2 I2 - ⟨g2, r2⟩
  cases hr : pIn D (pE' D d') d' (t + 1) with
  | error fl =>
    rw [hr] at r2
    obtain ⟨rfl, x2⟩ := r2
    refine ⟨fun _ => ?_, fun q => absurd rfl q⟩
    exact ⟨rfl, eH.sx w1 hD (by show st + 0 ≤ 9000; omega) g2 x2⟩
  | ok et =>
    obtain ⟨c, t1⟩ := et
    rw [hr] at r2
    obtain ⟨rfl, w2', b2⟩ := r2
    refine ⟨fun q => absurd q (by decide), fun _ => ?_⟩
    rw [show (pAnd (.ok (c, t1)) fun c t1 => pAnd (pS D d' t1) fun b t2 => .ok (nd 26 [0] (nd 33 [] (nd 35 [] lf lf) c) (nd 32 [] (nd 35 [] lf lf) b), t2) : pR) = pAnd (pS D d' t1) fun b t2 => .ok (nd 26 [0] (nd 33 [] (nd 35 [] lf lf) c) (nd 32 [] (nd 35 [] lf lf) b), t2) from rfl]
    have hup := pIn_up hT.1.1 (fun t ht => pE'_up hT.1.1 d' t ht) ht1 _ _ hr
    have w2 : sW I I2 m D fs st x t1 (o + 1) sc lp f vd b0 c0 (cX E.1 fs false none st c, nX E.1 fs false true none c, E) := w1.e w2' (by omega) cX_noH
    have b2' : st + (cX E.1 fs false none st c).length + 4 * (D.length - t1) ≤ B - 4 := b2
    refine ⟨_, s_X13_step (s := st + (cX E.1 fs false none st c).length) w2.2.1.1.2.2.2.1 (by omega), ?_⟩
    rintro _ I3 ⟨rfl, s0, s1, s2, s3, s4, -⟩
    have w3 : sW I I3 m D fs st x t1 (o + 1) sc lp f vd b0 c0 (cX E.1 fs false none st c ++ [(13, 0, 0, 0)], nX E.1 fs false true none c, E) := w2.sp1 (w := 13) (a := 0) (d := 0) (v := 0) isHo_0 s0 s1 s2 s3 s4 (fun z => absurd z (by decide))
    have l3 : (cX E.1 fs false none st c ++ [((13 : Int32), (0 : Int32), (0 : Int32), (0 : Int32))]).length = lX false c + 1 := by rw [List.length_append, cX_len]; rfl
    rw [cX_len] at b2'
    have p346 : I3 m 46 = I m 46 := w3.1.ps
    refine ⟨_, hBd d' rfl I3 t1 (o + 1) _ _ sc lp E _ _ (B - 2) (nI st) (by omega) w3.2.1 w3.2.2.2.2.1 w3.2.2.2.2.2 (by omega) (by omega) (by dsimp only; rw [l3]; omega) (by omega), ?_⟩
    rintro v4 I4 - hP
    dsimp only at hP
    rw [l3, ← Nat.add_assoc] at hP
    cases hy : pS D d' t1 with
    | error fl =>
      rw [hy] at hP
      obtain ⟨rfl, x4⟩ := hP
      refine ⟨fun _ => ?_, fun q => absurd rfl q⟩
      refine ⟨rfl, sX.tr w3 ?_⟩
      dsimp only
      rw [l3, ← Nat.add_assoc]
      exact x4
    | ok et =>
      obtain ⟨bd, t2⟩ := et
      rw [hy] at hP
      obtain ⟨rfl, w4', b4⟩ := hP
      refine ⟨fun q => absurd q (by decide), fun _ => ?_⟩
      rw [p346] at w4' b4
      generalize hq : mS (I m 46) fs vd bd (sc + 1) true (st + lX false c + 1 + 1) E = q at *
      have hst1 : ¬ nI st = -1 := nI_m1 (by omega)
      have k65 := w4'.2.2.2.2.2.2.1
      have w4b := w4'.w
      rw [if_neg hst1] at w4b
      have w4 : sW I I4 m D fs st x t2 (o + 1) sc lp f vd b0 c0 (cX E.1 fs false none st c ++ [(13, 0, 0, 0)] ++ ([(15, 0, 0, 0)] ++ lnk (st + lX false c + 1 + 1) (-1) (-1) (fillH 2 (nI st) q.1)), mnN (nX E.1 fs false true none c) q.2.1, (E.1, q.2.2.2)) := w3.tr (by dsimp only; rw [l3, ← Nat.add_assoc]; exact w4b)
      have l4 : (cX E.1 fs false none st c ++ [((13 : Int32), (0 : Int32), (0 : Int32), (0 : Int32))] ++ ([((15 : Int32), (0 : Int32), (0 : Int32), (0 : Int32))] ++ lnk (st + lX false c + 1 + 1) (-1) (-1) (fillH 2 (nI st) q.1))).length = lX false c + 2 + q.1.length := by
        rw [List.length_append, l3, List.length_append, lnk_len, fillH_len]
        show lX false c + 1 + (1 + q.1.length) = _
        omega
      have hl2 := w4.2.1.1.1.2.1
      refine ⟨_, s_X13_step (s := st + (cX E.1 fs false none st c ++ [((13 : Int32), (0 : Int32), (0 : Int32), (0 : Int32))] ++ ([((15 : Int32), (0 : Int32), (0 : Int32), (0 : Int32))] ++ lnk (st + lX false c + 1 + 1) (-1) (-1) (fillH 2 (nI st) q.1))).length) w4.2.1.1.2.2.2.1 (by rw [l4]; omega), ?_⟩
      rintro _ I5 ⟨rfl, u0, u1, u2, u3, u4, -⟩
      have w5 := w4.sp1 (w := 12) (a := nI st) (d := 0) (v := 0) isHo_0 u0 u1 u2 u3 u4 (fun z => absurd z (by decide))
      dsimp only at w5
      rw [l4] at u0
      have hen : st + (lX false c + 2 + q.1.length) + 1 = st + lX false c + 2 + q.1.length + 1 := by omega
      rw [hen] at u0
      rw [u0, show ix (nI (st + (cX E.1 fs false none st c).length)) = st + (cX E.1 fs false none st c).length from nI_clamp (by rw [cX_len]; omega)]
      refine ⟨vp_in_nI (by rw [cX_len]; omega) (by decide), ?_⟩
      intro I7 hI7
      rw [List.append_assoc (cX E.1 fs false none st c ++ [(13, 0, 0, 0)])] at w5
      have w7 := w5.pA (v := nI (st + lX false c + 2 + q.1.length + 1)) isHo_0
      rw [← hI7] at w7
      clear hI7
      dsimp only at w7
      rw [show cX E.1 fs false none st c ++ [((13 : Int32), nI (st + lX false c + 2 + q.1.length + 1), (0 : Int32), (0 : Int32))] ++ (([((15 : Int32), (0 : Int32), (0 : Int32), (0 : Int32))] ++ lnk (st + lX false c + 1 + 1) (-1) (-1) (fillH 2 (nI st) q.1)) ++ [((12 : Int32), nI st, (0 : Int32), (0 : Int32))]) = (cX E.1 fs false none st c ++ [((13 : Int32), nI (st + lX false c + 2 + q.1.length + 1), (0 : Int32), (0 : Int32))] ++ [((15 : Int32), (0 : Int32), (0 : Int32), (0 : Int32))]) ++ lnk (st + lX false c + 1 + 1) (-1) (-1) (fillH 2 (nI st) q.1) ++ [((12 : Int32), nI st, (0 : Int32), (0 : Int32))] by simp only [List.append_assoc]] at w7
      have l7 : st + (cX E.1 fs false none st c ++ [((13 : Int32), nI (st + lX false c + 2 + q.1.length + 1), (0 : Int32), (0 : Int32))] ++ [((15 : Int32), (0 : Int32), (0 : Int32), (0 : Int32))]).length = st + lX false c + 1 + 1 := by
        rw [List.length_append, List.length_append, cX_len]
        show st + (lX false c + 1 + 1) = _
        omega
      have m7 := w7.md lnk_noH
      rw [l7] at m7
      rw [k65, ← hdH_fill (v := nI st)]
      refine ⟨_, s_X13_settle1 (c := -1) m7 (by rw [fillH_len]; omega), ?_⟩
      rintro I8 ⟨m8, f8⟩ I9 hI9
      have w8 := w7.rp (K := I8) (l0' := lnk (st + lX false c + 1 + 1) (-1) (-1) (fillH 1 (nI (st + lX false c + 2 + q.1.length + 1)) (fillH 2 (nI st) q.1))) lnk_noH lnk_noH (by rw [lnk_len, lnk_len, fillH_len]) (by rw [l7]; exact m8) (fun a k hk => f8 a k (by rw [l7, lnk_len] at hk; exact hk))
      rw [fill_noH.lk] at w8
      have w9 := w8.cl (K := I9) hI9
      have hF : mS (I m 46) fs vd (nd 26 [0] (nd 33 [] (nd 35 [] lf lf) c) (nd 32 [] (nd 35 [] lf lf) bd)) sc (decide (0 < lp)) st E = (cX E.1 fs false none st c ++ [(13, nI (st + lX false c + 2 + q.1.length + 1), 0, 0)] ++ [(15, 0, 0, 0)] ++ fillH 1 (nI (st + lX false c + 2 + q.1.length + 1)) (fillH 2 (nI st) q.1) ++ [(12, nI st, 0, 0)], mnN (nX E.1 fs false true none c) q.2.1, (E.1, q.2.2.2)) := by
        rw [← hq]
        show (if ([] : List Int32) = [] then (if (0 : Int32) = 0 then _ else _) else _) = _
        rw [if_pos rfl, if_pos rfl]
      refine ⟨rfl, ?_, ?_⟩
      · dsimp only
        rw [hF]
        exact w9
      · dsimp only
        rw [hF]
        dsimp only
        rw [List.length_append, List.length_append, List.length_append, List.length_append, cX_len, fillH_len, fillH_len]
        show st + (lX false c + 1 + 1 + q.1.length + 1) + 4 * (D.length - t2) ≤ B
        omega
end SLO
