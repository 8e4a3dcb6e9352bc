/-! ===== the Model's statements: choices ===== -/
set_option maxRecDepth 100000
section SCH
variable {m t o st pe d B sc lp f t1 t' o' t2 o2 sc' lp' : Nat} {I J K : xII} {D : tkL} {Γ : List dcl} {fs : List fnc} {x y : nte} {vd b0 c0 ps : Int32} {E E' : env} {q : mR} {fl : Int32 × Int32} {Rk : rkT} {l l1 l2 : List stp}
/-- one less is open -/
theorem sW.cl (h : sW I J m D fs st x t' (o + 1) sc lp f vd b0 c0 q) (hK : K = xup J m 43 (J m 43 - 1)) : sW I K m D fs st x t' o sc lp f vd b0 c0 q := by
  have T := h.2.1.1.1
  have q13 : eQ J K m := fun a k hk => by rw [hK, gX, if_neg (by omega)]
  have h43 : J m 43 = nI (o + 1) := T.2.2.2.1
  rw [h43, nI_m] at hK
  exact h.mv q13 (T.up T.2.1 (by have := T.2.2.2.2.1; omega) q13 (by rw [hK, xup_k (by decide)]; exact T.2.2.1) (by rw [hK, xup_s]) (by rw [hK, xup_k (by decide)]; exact T.2.2.2.2.2)) (Nat.le_refl _)
theorem noH13 {Γ : List dcl} {c : Tr} {a : Int32} : noH (cX Γ fs false none st c ++ [(13, a, 0, 0)]) := cX_noH.app fun q hq => by
  rw [List.mem_singleton] at hq
  subst hq
  exact isHo_0
theorem s_X13_choice (hSc : ∀ d', d = d' + 1 → oSc Rk m D fs f vd d') (hi : inD D) (hD : D.length ≤ 1800) (h : sE I m D fs t o st x sc lp E f vd) (hd : o + d = 40) (h63 : I m 63 = b0) (h64 : I m 64 = c0) (hsc : sc ≤ 2 * o + 1) (hlp : lp ≤ o) (hk : tK D t = 14) (hB : st + 4 * (D.length - t) ≤ B) (hB9 : B ≤ 9000) : w_X13_choice Rk m (sP I m D fs st o x sc lp f vd b0 c0 B (pIf D (pS' D d) d t) fun e => mS (I m 46) fs vd e sc (decide (0 < lp)) st E) I := by
  have hT := h.1.1
  have hl := hT.2.1
  have hD4 := hT.1.1.2.1
  have ht1 := hT.1.1.nx' hl hk
  have w0 := sW.rf h h63 h64
  unfold w_X13_choice
  refine ⟨_, s_X13_opens hT ht1, ?_⟩
  rintro v1 I1 - ⟨q1, ⟨ho, rfl, x1⟩ | ⟨ho, rfl, T1⟩⟩
  · refine ⟨fun _ => ?_, fun q => absurd rfl q⟩
    obtain rfl : d = 0 := by omega
    rw [pIf, pOpen, if_pos hk, if_pos rfl]
    exact ⟨rfl, eH.sx w0 hD (by show st + 0 ≤ 9000; omega) q1.h x1⟩
  refine ⟨fun q => absurd q (by decide), fun _ => ?_⟩
  obtain ⟨d', rfl⟩ : ∃ d', d = d' + 1 := ⟨d - 1, by omega⟩
  rw [pIf, pOpen, if_pos hk, if_neg (by omega), Nat.add_sub_cancel, show pS' D (d' + 1) = pS D d' from rfl]
  have w1 := w0.mv q1 T1 (by omega)
  refine ⟨_, s_X13_condition (d := d') (B := B - 4) hi w1.2.1.1 (by omega) (by omega) (by show st + 0 + 4 * (D.length - (t + 1)) ≤ B - 4; omega) (by omega), ?_⟩
  rintro v2 I2 - ⟨g2, r2⟩
  cases hr : pIn D (pE' D d') d' (t + 1) with
  | error fl =>
    rw [hr] at r2
    obtain ⟨rfl, x2⟩ := r2
    refine ⟨fun _ => ?_, fun q => absurd rfl q⟩
    exact ⟨rfl, eH.sx w1 hD (by show st + 0 ≤ 9000; omega) g2 x2⟩
  | ok et =>
    obtain ⟨c, t1⟩ := et
    rw [hr] at r2
    obtain ⟨rfl, w2', b2⟩ := r2
    refine ⟨fun q => absurd q (by decide), fun _ => ?_⟩
    rw [show (pAnd (.ok (c, t1)) fun c t1 => pAnd (pS D d' t1) fun y t2 => if tK D t2 = 15 then pAnd (pS D d' (t2 + 1)) fun n t3 => .ok (nd 25 [] c (nd 32 [] y n), t3) else .ok (nd 25 [] c (nd 32 [] y (nd 35 [] lf lf)), t2) : pR) = pAnd (pS D d' t1) fun y t2 => if tK D t2 = 15 then pAnd (pS D d' (t2 + 1)) fun n t3 => .ok (nd 25 [] c (nd 32 [] y n), t3) else .ok (nd 25 [] c (nd 32 [] y (nd 35 [] lf lf)), t2) from rfl]
    have hup := pIn_up hT.1.1 (fun t ht => pE'_up hT.1.1 d' t ht) ht1 _ _ hr
    have w2 : sW I I2 m D fs st x t1 (o + 1) sc lp f vd b0 c0 (cX E.1 fs false none st c, nX E.1 fs false true none c, E) := w1.e w2' (by omega) cX_noH
    have b2' : st + (cX E.1 fs false none st c).length + 4 * (D.length - t1) ≤ B - 4 := b2
    refine ⟨_, s_X13_step (s := st + (cX E.1 fs false none st c).length) w2.2.1.1.2.2.2.1 (by omega), ?_⟩
    rintro _ I3 ⟨rfl, s0, s1, s2, s3, s4, -⟩
    have w3 : sW I I3 m D fs st x t1 (o + 1) sc lp f vd b0 c0 (cX E.1 fs false none st c ++ [(13, 0, 0, 0)], nX E.1 fs false true none c, E) := w2.sp1 (w := 13) (a := 0) (d := 0) (v := 0) isHo_0 s0 s1 s2 s3 s4 (fun z => absurd z (by decide))
    have l3 : (cX E.1 fs false none st c ++ [((13 : Int32), (0 : Int32), (0 : Int32), (0 : Int32))]).length = lX false c + 1 := by rw [List.length_append, cX_len]; rfl
    rw [cX_len] at b2'
    have p346 : I3 m 46 = I m 46 := w3.1.ps
    refine ⟨_, hSc d' rfl I3 t1 (o + 1) _ _ sc lp E _ _ (B - 3) (by omega) w3.2.1 w3.2.2.2.2.1 w3.2.2.2.2.2 (by omega) (by omega) (by dsimp only; rw [l3]; omega) (by omega), ?_⟩
    rintro v4 I4 - hP
    rw [p346] at hP
    dsimp only at hP
    rw [l3, ← Nat.add_assoc] at hP
    cases hy : pS D d' t1 with
    | error fl =>
      rw [hy] at hP
      obtain ⟨rfl, x4⟩ := hP
      refine ⟨fun _ => ?_, fun q => absurd rfl q⟩
      refine ⟨rfl, sX.tr w3 ?_⟩
      dsimp only
      rw [l3, ← Nat.add_assoc]
      exact x4
    | ok et =>
      obtain ⟨yt, t2⟩ := et
      rw [hy] at hP
      obtain ⟨rfl, w4', b4⟩ := hP
      refine ⟨fun q => absurd q (by decide), fun _ => ?_⟩
      dsimp only at w4' b4
      unfold scO at w4' b4
      generalize hq : mS (I m 46) fs vd yt (sc + 1) (decide (0 < lp)) (st + lX false c + 1) E = q at *
      dsimp only at b4
      have w4 : sW I I4 m D fs st x t2 (o + 1) sc lp f vd b0 c0 (cX E.1 fs false none st c ++ [(13, 0, 0, 0)] ++ q.1, mnN (nX E.1 fs false true none c) q.2.1, (E.1, q.2.2.2)) := w3.tr (by dsimp only; rw [l3, ← Nat.add_assoc]; exact w4')
      have hT4 := w4.2.1.1.1
      have hl4 := hT4.2.1
      have l4 : (cX E.1 fs false none st c ++ [((13 : Int32), (0 : Int32), (0 : Int32), (0 : Int32))] ++ q.1).length = lX false c + 1 + q.1.length := by rw [List.length_append, l3]
      have i44 : I4 m 44 = 0 := hT4.2.2.2.2.2
      have hvs : vp_in (nI (st + (cX E.1 fs false none st c).length)) 9000 := vp_in_nI (by rw [cX_len]; omega) (by decide)
      have hxs : ix (nI (st + (cX E.1 fs false none st c).length)) = st + (cX E.1 fs false none st c).length := nI_clamp (by rw [cX_len]; omega)
      show _ ∧ _
      refine ⟨fun _ => ?_, fun z => absurd i44 z⟩
      refine ⟨_, s_X13_isWord hT4 (k := 15) (by decide), ?_⟩
      rintro _ _ - ⟨rfl, rfl⟩
      rw [hxs, i44]
      by_cases e15 : tK D t2 = 15
      · rw [bI, if_pos e15]
        refine ⟨fun q => absurd q (by decide), fun _ => ?_⟩
        have ht2 := hT.1.1.nx' hl4 e15
        intro I12 hI12
        have q12 := hT4.on ht2
        rw [← hI12] at q12
        have w12 := w4.mv q12.2 q12.1 (by omega)
        clear hI12
        refine ⟨_, s_X13_step (s := st + (cX E.1 fs false none st c ++ [((13 : Int32), (0 : Int32), (0 : Int32), (0 : Int32))] ++ q.1).length) w12.2.1.1.2.2.2.1 (by rw [l4]; omega), ?_⟩
        rintro _ I13 ⟨rfl, u0, u1, u2, u3, u4, -⟩
        have w13 : sW I I13 m D fs st x (t2 + 1) (o + 1) sc lp f vd b0 c0 (cX E.1 fs false none st c ++ [(13, 0, 0, 0)] ++ q.1 ++ [(12, 0, 0, 0)], mnN (nX E.1 fs false true none c) q.2.1, (E.1, q.2.2.2)) := w12.sp1 (w := 12) (a := 0) (d := 0) (v := 0) isHo_0 u0 u1 u2 u3 u4 (fun z => absurd z (by decide))
        rw [l4] at u0
        rw [u0]
        refine ⟨hvs, ?_⟩
        intro I15 hI15
        rw [List.append_assoc (cX E.1 fs false none st c ++ [(13, 0, 0, 0)])] at w13
        have w15 := w13.pA (v := nI (st + (lX false c + 1 + q.1.length) + 1)) isHo_0
        rw [← hI15, ← List.append_assoc] at w15
        clear hI15
        dsimp only at w15
        have l15 : (cX E.1 fs false none st c ++ [((13 : Int32), nI (st + (lX false c + 1 + q.1.length) + 1), (0 : Int32), (0 : Int32))] ++ q.1 ++ [((12 : Int32), (0 : Int32), (0 : Int32), (0 : Int32))]).length = lX false c + 1 + q.1.length + 1 := by rw [List.length_append, List.length_append, List.length_append, cX_len]; rfl
        have p1546 : I15 m 46 = I m 46 := w15.1.ps
        refine ⟨_, hSc d' rfl I15 (t2 + 1) (o + 1) _ _ sc lp _ _ _ (B - 6) (by omega) w15.2.1 w15.2.2.2.2.1 w15.2.2.2.2.2 (by omega) (by omega) (by dsimp only; rw [l15]; omega) (by omega), ?_⟩
        rintro v16 I16 - hP
        rw [p1546] at hP
        dsimp only at hP
        rw [l15] at hP
        show _ ∧ _
        cases hn : pS D d' (t2 + 1) with
        | error fl =>
          rw [hn] at hP
          obtain ⟨rfl, x16⟩ := hP
          refine ⟨fun _ => ?_, fun q => absurd rfl q⟩
          show sP _ _ _ _ _ _ _ _ _ _ _ _ _ _ (if tK D t2 = 15 then _ else _) _ _ _
          rw [if_pos e15, hn]
          refine ⟨rfl, sX.tr w15 ?_⟩
          dsimp only
          rw [l15]
          exact x16
        | ok et =>
          obtain ⟨nt', t3⟩ := et
          rw [hn] at hP
          obtain ⟨rfl, w16', b16⟩ := hP
          refine ⟨fun q => absurd q (by decide), fun _ => ?_⟩
          dsimp only at w16' b16
          unfold scO at w16' b16
          rw [show st + (lX false c + 1 + q.1.length + 1) = st + lX false c + 1 + q.1.length + 1 by omega] at w16' b16
          generalize hq2 : mS (I m 46) fs vd nt' (sc + 1) (decide (0 < lp)) (st + lX false c + 1 + q.1.length + 1) (E.1, q.2.2.2) = q2 at *
          dsimp only at b16
          have w16 : sW I I16 m D fs st x t3 (o + 1) sc lp f vd b0 c0 (cX E.1 fs false none st c ++ [(13, nI (st + (lX false c + 1 + q.1.length) + 1), 0, 0)] ++ q.1 ++ [(12, 0, 0, 0)] ++ q2.1, mnN (mnN (nX E.1 fs false true none c) q.2.1) q2.2.1, (E.1, q2.2.2.2)) := w15.tr (by dsimp only; rw [l15, show st + (lX false c + 1 + q.1.length + 1) = st + lX false c + 1 + q.1.length + 1 by omega]; exact w16')
          have h1660 : I16 m 60 = nI (st + lX false c + 1 + q.1.length + 1 + q2.1.length) := by
            have := w16.2.1.1.2.2.2.1
            dsimp only at this
            rw [List.length_append, l15] at this
            rw [this]
            congr 1
            omega
          have i1644 : I16 m 44 = 0 := w16.2.1.1.1.2.2.2.2.2
          rw [l4, show ix (nI (st + (lX false c + 1 + q.1.length))) = st + (lX false c + 1 + q.1.length) from nI_clamp (by omega), i1644, if_pos rfl]
          refine ⟨vp_in_nI (by omega) (by decide), ?_⟩
          intro I18 hI18 I19 hI19
          have w18 := w16.pA (v := I16 m 60) isHo_0
          have l16 : (cX E.1 fs false none st c ++ [((13 : Int32), nI (st + (lX false c + 1 + q.1.length) + 1), (0 : Int32), (0 : Int32))] ++ q.1).length = lX false c + 1 + q.1.length := by rw [List.length_append, List.length_append, cX_len]; rfl
          rw [l16, ← hI18] at w18
          dsimp only at w18
          have w19 := w18.cl (K := I19) (by rw [hI19, show I18 m 43 = I16 m 43 by rw [hI18, gX, if_neg (by omega)]])
          show sP _ _ _ _ _ _ _ _ _ _ _ _ _ _ (if tK D t2 = 15 then _ else _) _ _ _
          rw [if_pos e15, hn]
          have hF := mS_if2 (ps := I m 46) (fs := fs) (vd := vd) (c := c) (y := yt) (n := nt') (sc := sc) (lb := decide (0 < lp)) (st := st) (E := E) (pS_k hn)
          rw [hq, hq2, ← h1660] at hF
          refine ⟨rfl, ?_, ?_⟩
          · dsimp only
            rw [hF, show st + lX false c + 1 + q.1.length + 1 = st + (lX false c + 1 + q.1.length) + 1 by omega]
            exact w19
          · dsimp only
            rw [hF]
            dsimp only
            rw [List.length_append, List.length_append, List.length_append, List.length_append, cX_len]
            show st + (lX false c + 1 + q.1.length + 1 + q2.1.length) + 4 * (D.length - t3) ≤ B
            omega
      · rw [bI, if_neg e15]
        refine ⟨fun _ => ?_, fun q => absurd rfl q⟩
        refine ⟨hvs, ?_⟩
        intro I10 hI10 I11 hI11
        rw [if_pos rfl]
        have h460 : I4 m 60 = nI (st + lX false c + 1 + q.1.length) := by
          have := w4.2.1.1.2.2.2.1
          dsimp only at this
          rw [l4] at this
          rw [this]
          congr 1
          omega
        have w10 := w4.pA (v := I4 m 60) isHo_0
        rw [← hI10] at w10
        dsimp only at w10
        have w11 := w10.cl (K := I11) (by rw [hI11, show I10 m 43 = I4 m 43 by rw [hI10, gX, if_neg (by omega)]])
        show sP _ _ _ _ _ _ _ _ _ _ _ _ _ _ (if tK D t2 = 15 then _ else _) _ _ _
        rw [if_neg e15]
        have hF : mS (I m 46) fs vd (nd 25 [] c (nd 32 [] yt (nd 35 [] lf lf))) sc (decide (0 < lp)) st E = (cX E.1 fs false none st c ++ [(13, nI (st + lX false c + 1 + q.1.length), 0, 0)] ++ q.1, mnN (nX E.1 fs false true none c) q.2.1, (E.1, q.2.2.2)) := by
          rw [← hq]
          rfl
        rw [← h460] at hF
        refine ⟨rfl, ?_, ?_⟩
        · dsimp only
          rw [hF]
          exact w11
        · dsimp only
          rw [hF]
          dsimp only
          rw [List.length_append, List.length_append, cX_len]
          show st + (lX false c + 1 + q.1.length) + 4 * (D.length - t2) ≤ B
          omega
end SCH
