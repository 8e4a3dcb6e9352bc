/-! ===== the Model's statements: blocks, all of them, the knot ===== -/
set_option maxRecDepth 100000
def oBk (Rk : rkT) (m : Nat) (D : tkL) (fs : List fnc) (f : Nat) (vd : Int32) (d : Nat) : Prop := ∀ I t o st x sc lp E b0 c0 B, o + d = 40 → sE I m D fs t o st x sc lp E f vd → I m 63 = b0 → I m 64 = c0 → sc ≤ 2 * o + 2 → lp ≤ o → st + 4 * (D.length - t) ≤ B → B ≤ 9000 → Rk 1 0 0 (sP I m D fs st o x sc lp f vd b0 c0 B (pBlock D (pS' D d) d t) fun e => mS (I m 46) fs vd (tLt e) sc (decide (0 < lp)) st E) I
def oKd (Rk : rkT) (m : Nat) (D : tkL) (fs : List fnc) (f : Nat) (vd : Int32) (d j : Nat) (kd : Int32) (r : Nat → pR) : Prop := ∀ I t o st x sc lp E b0 c0 B, o + d = 40 → sE I m D fs t o st x sc lp E f vd → I m 63 = b0 → I m 64 = c0 → sc ≤ 2 * o + 1 → lp ≤ o → tK D t = kd → st + 4 * (D.length - t) ≤ B → B ≤ 9000 → Rk j 0 0 (sP I m D fs st o x sc lp f vd b0 c0 B (r t) fun e => mS (I m 46) fs vd e sc (decide (0 < lp)) st E) I
section PSU
variable {D : tkL} {d t : Nat} {S : Nat → pR}
theorem pSimple_up (hD : wfD D) (ht : t < D.length) : pUp D t (pSimple D d t) := by
  intro e t1 h
  obtain ⟨hk, h⟩ := pNeed_ok h
  have h1 := hD.nx' ht hk
  split at h
  · obtain ⟨u, v, h2, h3⟩ := pAnd_ok h
    cases h3
    have := pCall_up hD (fun t ht => pE'_up hD d t ht) h1 _ _ h2
    omega
  · obtain ⟨u, v, h2, h3⟩ := pAnd_ok h
    have q := pPlace_up hD (fun t ht => pE'_up hD d t ht) h1 h2
    split at h3
    · rename_i hk
      have := hD.nx' q.2 hk
      cases h3
      omega
    · split at h3
      · rename_i hk
        have := hD.nx' q.2 hk
        cases h3
        omega
      · split at h3
        · rename_i ha
          have hn : ¬ tK D v = 0 ∧ ¬ tK D v = 1 := by
            refine ⟨fun z => ?_, fun z => ?_⟩
            · rw [z] at ha
              exact absurd ha (by decide)
            · rw [z] at ha
              exact absurd ha (by decide)
          have h5 := hD.nx q.2 hn.1 hn.2
          obtain ⟨u2, v2, h4, h6⟩ := pAnd_ok h3
          have := pE_up hD d _ h5 _ _ h4
          cases h6
          omega
        · exact nomatch h3
theorem pStart_up (hD : wfD D) (ht : t < D.length) : pUp D t (pStart D d t) := by
  intro e t1 h
  obtain ⟨hk, h⟩ := pNeed_ok h
  have h1 := hD.nx' ht hk
  obtain ⟨hk, h⟩ := pNeed_ok h
  have h2 := hD.nx' h1 hk
  obtain ⟨u, v, h3, h4⟩ := pAnd_ok h
  have := pE_up hD d _ h2 _ _ h3
  cases h4
  omega
theorem pTell_up (hD : wfD D) (ht : t + 1 < D.length) : pUp D t (pTell D d t) := by
  intro e t1 h
  obtain ⟨hk, h⟩ := pNeed_ok h
  have h1 := hD.nx' ht hk
  split at h
  · obtain ⟨hk, -, h⟩ := pOpen_ok h
    have h2 := hD.nx' h1 hk
    obtain ⟨u, v, h3, h4⟩ := pAnd_ok h
    have q := pE'_up hD d _ h2 _ _ h3
    obtain ⟨hk, h4⟩ := pNeed_ok h4
    have h5 := hD.nx' q.2 hk
    obtain ⟨hk, h4⟩ := pNeed_ok h4
    have h6 := hD.nx' h5 hk
    cases h4
    omega
  · split at h
    · rename_i hk
      have h2 := hD.nx' h1 hk
      obtain ⟨u, v, h3, h4⟩ := pAnd_ok h
      have q := pE_up hD d _ h2 _ _ h3
      obtain ⟨hk, h4⟩ := pNeed_ok h4
      have h5 := hD.nx' q.2 hk
      cases h4
      omega
    · obtain ⟨hk, h4⟩ := pNeed_ok h
      have h5 := hD.nx' h1 hk
      cases h4
      omega
theorem pSts_up (hS : ∀ t, t < D.length → pUp D t (S t)) : ∀ f t, t < D.length → ∀ e t1, pSts D S f t = .ok (e, t1) → t ≤ t1 ∧ t1 < D.length
  | 0, t, _, e, t1, h => nomatch h
  | f + 1, t, ht, e, t1, h => by
    unfold pSts at h
    split at h
    · cases h
      exact ⟨Nat.le_refl _, ht⟩
    · obtain ⟨u, v, h3, h4⟩ := pAnd_ok h
      have q := hS t ht _ _ h3
      obtain ⟨u2, v2, h5, h6⟩ := pAnd_ok h4
      have q2 := pSts_up hS f v q.2 _ _ h5
      cases h6
      omega
theorem pBlock_up (hD : wfD D) (hS : ∀ t, t < D.length → pUp D t (S t)) (ht : t < D.length) : pUp D t (pBlock D S d t) := by
  intro e t1 h
  obtain ⟨hk, -, h⟩ := pOpen_ok h
  have h1 := hD.nx' ht hk
  obtain ⟨u, v, h3, h4⟩ := pAnd_ok h
  have q := pSts_up hS _ _ h1 _ _ h3
  obtain ⟨hk, h5⟩ := pNeed_ok h4
  have := hD.nx' q.2 hk
  cases h5
  omega
theorem pStF_up (hD : wfD D) (hS : ∀ t, t < D.length → pUp D t (S t)) (ht : t < D.length) : pUp D t (pStF D S d t) := by
  intro e t1 h
  unfold pStF at h
  split at h
  · exact pBlock_up hD hS ht _ _ h
  · split at h
    · rename_i hk
      have h1 : t + 1 < D.length := by
        rcases hk with k | k
        · exact hD.nx' ht k
        · exact hD.nx' ht k
      exact pTell_up hD h1 _ _ h
    · split at h
      · obtain ⟨hk, -, h⟩ := pOpen_ok h
        have h1 := hD.nx' ht hk
        obtain ⟨u, v, h3, h4⟩ := pAnd_ok h
        have q := pIn_up hD (fun t ht => pE'_up hD _ t ht) h1 _ _ h3
        obtain ⟨u2, v2, h5, h6⟩ := pAnd_ok h4
        have q2 := hS _ q.2 _ _ h5
        split at h6
        · rename_i hk
          have h7 := hD.nx' q2.2 hk
          obtain ⟨u3, v3, h8, h9⟩ := pAnd_ok h6
          have := hS _ h7 _ _ h8
          cases h9
          omega
        · cases h6
          omega
      · split at h
        · rename_i hk
          have h1 : t + 1 < D.length := by
            rcases hk with k | k | k
            · exact hD.nx' ht k
            · exact hD.nx' ht k
            · exact hD.nx' ht k
          obtain ⟨-, -, h⟩ := pOpen_ok h
          split at h
          · obtain ⟨u, v, h3, h4⟩ := pAnd_ok h
            have q := hS _ h1 _ _ h3
            obtain ⟨hk, h4⟩ := pNeed_ok h4
            have h5 := hD.nx' q.2 hk
            obtain ⟨u2, v2, h6, h7⟩ := pAnd_ok h4
            have q2 := pIn_up hD (fun t ht => pE'_up hD _ t ht) h5 _ _ h6
            obtain ⟨hk, h7⟩ := pNeed_ok h7
            have h8 := hD.nx' q2.2 hk
            cases h7
            omega
          · split at h
            · obtain ⟨u, v, h3, h4⟩ := pAnd_ok h
              have q := pIn_up hD (fun t ht => pE'_up hD _ t ht) h1 _ _ h3
              obtain ⟨u2, v2, h6, h7⟩ := pAnd_ok h4
              have q2 := hS _ q.2 _ _ h6
              cases h7
              omega
            · obtain ⟨hk, -, h⟩ := pOpen_ok h
              have h2 := hD.nx' h1 hk
              obtain ⟨u, v, h3, h4⟩ := pAnd_ok h
              have q : t + 2 ≤ v ∧ v < D.length := by
                unfold pForS at h3
                split at h3
                · cases h3
                  exact ⟨Nat.le_refl _, h2⟩
                · split at h3
                  · rename_i hk
                    have := pStart_up hD (hD.nx' h2 hk) _ _ h3
                    omega
                  · have := pSimple_up hD h2 _ _ h3
                    omega
              obtain ⟨hk, h4⟩ := pNeed_ok h4
              have h5 := hD.nx' q.2 hk
              obtain ⟨u2, v2, h6, h7⟩ := pAnd_ok h4
              have q2 : v + 1 ≤ v2 ∧ v2 < D.length := by
                unfold pForC at h6
                split at h6
                · cases h6
                  exact ⟨Nat.le_refl _, h5⟩
                · have := pE_up hD _ _ h5 _ _ h6
                  omega
              obtain ⟨hk, h7⟩ := pNeed_ok h7
              have h8 := hD.nx' q2.2 hk
              obtain ⟨u3, v3, h9, h10⟩ := pAnd_ok h7
              have q3 : v2 + 1 ≤ v3 ∧ v3 < D.length := by
                unfold pForP at h9
                split at h9
                · cases h9
                  exact ⟨Nat.le_refl _, h8⟩
                · have := pSimple_up hD h8 _ _ h9
                  omega
              obtain ⟨hk, h10⟩ := pNeed_ok h10
              have h11 := hD.nx' q3.2 hk
              obtain ⟨u4, v4, h12, h13⟩ := pAnd_ok h10
              have := hS _ h11 _ _ h12
              cases h13
              omega
        · obtain ⟨u, v, h2, h3⟩ := pAnd_ok h
          obtain ⟨hk, h4⟩ := pNeed_ok h3
          have q : t ≤ v ∧ v < D.length := by
            split at h2
            · rename_i hk
              have := hD.nx' ht hk
              cases h2
              omega
            · split at h2
              · rename_i hk
                have := hD.nx' ht hk
                cases h2
                omega
              · split at h2
                · rename_i hk
                  have h1 := hD.nx' ht hk
                  split at h2
                  · cases h2
                    omega
                  · obtain ⟨u, v, h5, h6⟩ := pAnd_ok h2
                    have := pE_up hD _ _ h1 _ _ h5
                    cases h6
                    omega
                · split at h2
                  · rename_i hk
                    have h1 : t + 1 < D.length := by
                      rcases hk with k | k
                      · exact hD.nx' ht k
                      · exact hD.nx' ht k
                    obtain ⟨u, v, h5, h6⟩ := pAnd_ok h2
                    have := pIn_up hD (fun t ht => pE'_up hD _ t ht) h1 _ _ h5
                    cases h6
                    omega
                  · split at h2
                    · cases h2
                      omega
                    · have := pSimple_up hD ht _ _ h2
                      omega
          have := hD.nx' q.2 hk
          cases h4
          omega
theorem pS_up (hD : wfD D) : ∀ d t, t < D.length → pUp D t (pS D d t)
  | 0, t, ht => by
    show pUp D t (pStF D (fun _ => .error (0, 0)) 0 t)
    exact pStF_up hD (fun t ht e t1 h => nomatch h) ht
  | d + 1, t, ht => by
    show pUp D t (pStF D (pS D d) (d + 1) t)
    exact pStF_up hD (fun t ht => pS_up hD d t ht) ht
end PSU
section SSS
variable {m t o st pe d B sc lp f t1 : Nat} {I J K : xII} {D : tkL} {fs : List fnc} {x y : nte} {vd b0 c0 ps : Int32} {E : env} {Rk : rkT} {lb : Bool} {fl : Int32 × Int32}
theorem s_X13_block (hS : ∀ d', d = d' + 1 → oSt Rk m D fs f vd d') (hD : D.length ≤ 1800) (h : sE I m D fs t o st x sc lp E f vd) (hd : o + d = 40) (h63 : I m 63 = b0) (h64 : I m 64 = c0) (hsc : sc ≤ 2 * o + 2) (hlp : lp ≤ o) (hB : st + 4 * (D.length - t) ≤ B) (hB9 : B ≤ 9000) : w_X13_block Rk m (sP I m D fs st o x sc lp f vd b0 c0 B (pBlock D (pS' D d) d t) fun e => mS (I m 46) fs vd (tLt e) sc (decide (0 < lp)) st E) I := by
  have hT := h.1.1
  have hl := hT.2.1
  have w0 := sW.rf h h63 h64
  unfold w_X13_block
  refine ⟨_, s_X13_openSign hT (k := 66) (by decide), ?_⟩
  rintro v1 I1 - ⟨q1, ⟨e, rfl, x1⟩ | ⟨e, ho, rfl, x1⟩ | ⟨e, ho, rfl, T1⟩⟩
  · refine ⟨fun _ => ?_, fun q => absurd rfl q⟩
    rw [pBlock, pOpen, if_neg e]
    exact ⟨rfl, eH.sx w0 hD (by show st + 0 ≤ 9000; omega) q1.h x1⟩
  · refine ⟨fun _ => ?_, fun q => absurd rfl q⟩
    obtain rfl : d = 0 := by omega
    rw [pBlock, pOpen, if_pos e, if_pos rfl]
    exact ⟨rfl, eH.sx w0 hD (by show st + 0 ≤ 9000; omega) q1.h x1⟩
  refine ⟨fun q => absurd q (by decide), fun _ => ?_⟩
  obtain ⟨d', rfl⟩ : ∃ d', d = d' + 1 := ⟨d - 1, by omega⟩
  rw [pBlock, pOpen, if_pos e, if_neg (by omega), show pS' D (d' + 1) = pS D d' from rfl]
  have w1 := w0.mv q1 T1 (by omega)
  have ht1 := T1.2.1
  generalize hr : (pAnd (pSts D (pS D d') D.length (t + 1)) fun ss t1 => pNeed D 67 t1 (.ok (nd 21 [] ss lf, t1 + 1)) : pR) = r
  refine ⟨fun n2 I2 => (∃ (mk : Tr → Tr) (p : mR) (tk fu : Nat), tk < D.length ∧ n2 = D.length - tk + 1 ∧ D.length < fu + tk ∧ (∀ ss, mS (I m 46) fs vd (mk ss) sc (decide (0 < lp)) st E = (p.1 ++ (mS (I m 46) fs vd ss sc (decide (0 < lp)) (st + p.1.length) p.2.2).1, mnN p.2.1 (mS (I m 46) fs vd ss sc (decide (0 < lp)) (st + p.1.length) p.2.2).2.1, (mS (I m 46) fs vd ss sc (decide (0 < lp)) (st + p.1.length) p.2.2).2.2)) ∧ r = pAnd (pSts D (pS D d') fu tk) (fun ss t1 => pNeed D 67 t1 (.ok (nd 21 [] (mk ss) lf, t1 + 1))) ∧ sW I I2 m D fs st x tk (o + 1) sc lp f vd b0 c0 p ∧ st + p.1.length + 4 * (D.length - tk) ≤ B - 4) ∨ (n2 = 0 ∧ ∃ fl, r = .error fl ∧ sX I I2 m st b0 c0 fl), ⟨_, Or.inl ⟨id, ([], none, E), t + 1, D.length, ht1, rfl, by omega, fun ss => rfl, hr.symm, w1, by show st + 0 + 4 * (D.length - (t + 1)) ≤ B - 4; omega⟩⟩, ?_⟩
  clear hr
  rintro n2 I2 (⟨mk, p, tk, fu, k1, rfl, k3, k4, k5, k6, k7⟩ | ⟨rfl, fl, hfl, x2⟩)
  · have hT2 := k6.2.1.1.1
    have i44 : I2 m 44 = 0 := hT2.2.2.2.2.2
    obtain ⟨fu, rfl⟩ : ∃ n, fu = n + 1 := ⟨fu - 1, by omega⟩
    rw [pSts] at k5
    refine ⟨fun I3 => tK D tk = 67 ∧ I2 = I3, fun I3 hJ => ?_, fun _ => ?_, fun z => absurd i44 z⟩
    · obtain ⟨e67, rfl⟩ := hJ
      rw [if_pos e67] at k5
      have k5' : r = pNeed D 67 tk (.ok (nd 21 [] (mk lf) lf, tk + 1)) := k5
      refine ⟨_, s_X13_closeSign hT2 (k := 67) (by decide), ?_⟩
      rintro v4 I4 - ⟨q4, ⟨e4, rfl, x4⟩ | ⟨e4, rfl, T4⟩⟩
      · exact absurd e67 e4
      · rw [k5', pNeed, if_pos e67]
        have hF := k4 lf
        have w4 := k6.mv q4 T4 (by omega)
        have hl4 := T4.2.1
        refine ⟨rfl, ?_, ?_⟩
        · show sW _ _ _ _ _ _ _ _ _ _ _ _ _ _ _ (mS (I m 46) fs vd (mk lf) sc (decide (0 < lp)) st E)
          rw [hF]
          show sW _ _ _ _ _ _ _ _ _ _ _ _ _ _ _ (p.1 ++ [], mnN p.2.1 none, p.2.2)
          rw [List.append_nil, mnN_n]
          exact w4
        · show st + (mS (I m 46) fs vd (mk lf) sc (decide (0 < lp)) st E).1.length + _ ≤ B
          rw [hF]
          show st + (p.1 ++ []).length + 4 * (D.length - (tk + 1)) ≤ B
          rw [List.append_nil]
          omega
    · refine ⟨_, s_X13_isSign hT2 (k := 67) (by decide), ?_⟩
      rintro _ _ - ⟨rfl, rfl⟩
      by_cases e67 : tK D tk = 67
      · rw [bI, if_pos e67]
        refine ⟨fun q => absurd q (by decide), fun _ => ?_⟩
        exact ⟨e67, rfl⟩
      · rw [bI, if_neg e67]
        refine ⟨fun _ => ?_, fun q => absurd rfl q⟩
        rw [if_neg e67] at k5
        have p246 : I2 m 46 = I m 46 := k6.1.ps
        refine ⟨_, hS d' rfl I2 tk (o + 1) _ _ sc lp _ _ _ (B - 4) (by omega) k6.2.1 k6.2.2.2.2.1 k6.2.2.2.2.2 (by omega) (by omega) k7 (by omega), ?_⟩
        rintro v6 I6 - hP
        rw [p246] at hP
        cases hy : pS D d' tk with
        | error fl =>
          rw [hy] at hP k5
          exact ⟨0, by omega, Or.inr ⟨rfl, fl, k5, sX.tr k6 hP.2⟩⟩
        | ok et =>
          obtain ⟨s, t1⟩ := et
          rw [hy] at hP k5
          obtain ⟨-, w6, b6⟩ := hP
          dsimp only at w6 b6
          have w7 := k6.tr w6
          have hl7 := w7.2.1.1.1.2.1
          have hup : tk < t1 := by
            have := k6.2.1.1.1
            exact (pS_up hT.1.1 d' tk k1 s t1 hy).1
          refine ⟨D.length - t1 + 1, by omega, Or.inl ⟨fun ss => mk (nd 22 [] s ss), _, t1, fu, hl7, rfl, by omega, fun ss => ?_, ?_, w7, ?_⟩⟩
          · rw [k4 (nd 22 [] s ss)]
            dsimp only
            rw [List.length_append, ← Nat.add_assoc, List.append_assoc, mnN_as]
            rfl
          · rw [k5]
            show pAnd (pAnd (pSts D (pS D d') fu t1) _) _ = _
            rw [pAnd_as]
            rfl
          · dsimp only
            rw [List.length_append]
            omega
  · have i44 : 0 < I2 m 44 := by rw [x2.2.1.1]; exact x2.2.1.2.2
    refine ⟨fun I3 => I2 = I3, fun I3 hJ => ?_, fun z => ?_, fun _ => rfl⟩
    · subst hJ
      refine ⟨_, s_X13_close_er i44, ?_⟩
      rintro _ _ - ⟨rfl, rfl⟩
      rw [hfl]
      exact ⟨rfl, x2⟩
    · rw [z] at i44
      exact absurd i44 (by decide)
end SSS
