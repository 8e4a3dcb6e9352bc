/-! ===== the Model's expressions: ? :, the knot ===== -/
set_option maxRecDepth 100000
section MEX
variable {m t o st pe d B : Nat} {I J K : xII} {D : tkL} {Γ : List dcl} {fs : List fnc} {c : Bool} {x : nte} {Rk : rkT}
theorem s_X13_expression (hCh : oCh Rk m D Γ fs c d) (hO : oN Rk m D Γ fs c d) (h : eE I m D Γ fs c t o st pe x) (hd : o + d = 40) (hpe : pe ≤ 10 * o) (hB : st + 4 * (D.length - t) ≤ B) (hB9 : B ≤ 9000) : w_X13_expression Rk m (eP I m D Γ fs c st pe o x B (pE D d t) (fX Γ fs c true none st)) I := by
  have hT := h.1
  have hwD := hT.1.1
  have hD4 := hwD.2.1
  unfold w_X13_expression
  refine ⟨_, hCh I t o st pe x B hd h hpe hB hB9, ?_⟩
  rintro v1 I1 - ⟨g1, r1⟩
  cases hr : pRow D (pE' D d) d 10 t with
  | error f =>
    rw [hr] at r1
    obtain ⟨rfl, x1⟩ := r1
    rw [show pE D d t = .error f by rw [pE_eq, pExpr, hr]; rfl]
    refine ⟨fun _ => ?_, fun q => absurd rfl q⟩
    exact eP.er g1 x1 rfl
  | ok et =>
    obtain ⟨e, t1⟩ := et
    rw [hr] at r1
    obtain ⟨rfl, w1', b1'⟩ := r1
    have w1 : eW I I1 m D Γ fs c st pe x t1 o (cX Γ fs c none st e) (nX Γ fs c true none e) (hnX Γ fs e) := w1'
    have b1 : st + (cX Γ fs c none st e).length + 4 * (D.length - t1) ≤ B := b1'
    have hE : pE D d t = if tK D t1 = 70 then (if d = 0 then .error (3, tP D t1) else pAnd (pE' D d (t1 + 1)) fun y t2 => pNeed D 71 t2 (pAnd (pE' D d (t2 + 1)) fun n t3 => .ok (nd 8 [tFst e] e (nd 9 [] y n), t3))) else .ok (e, t1) := by rw [pE_eq, pExpr, hr]; rfl
    refine ⟨fun q => absurd q (by decide), fun _ => ?_⟩
    refine ⟨_, s_X13_isSign w1.2.1.1 (k := 70) (by decide), ?_⟩
    rintro _ _ - ⟨rfl, rfl⟩
    by_cases e70 : tK D t1 = 70
    rotate_left
    · rw [bI, if_neg e70, hE, if_neg e70]
      refine ⟨fun _ => ?_, fun q => absurd rfl q⟩
      exact ⟨w1.h, rfl, w1, b1⟩
    rw [bI, if_pos e70, hE, if_pos e70]
    refine ⟨fun q => absurd q (by decide), fun _ => ?_⟩
    have ht2 := hwD.nx' w1.2.1.1.2.1 e70
    refine ⟨_, s_X13_opens w1.2.1.1 ht2, ?_⟩
    rintro v3 I3 - ⟨q3, ⟨ho, rfl, x3⟩ | ⟨ho, rfl, T3⟩⟩
    · refine ⟨fun _ => ?_, fun q => absurd rfl q⟩
      obtain rfl : d = 0 := by omega
      rw [if_pos rfl]
      exact eP.er (w1.h.q q3) x3 rfl
    refine ⟨fun q => absurd q (by decide), fun _ => ?_⟩
    obtain ⟨d', rfl⟩ : ∃ d', d = d' + 1 := ⟨d - 1, by omega⟩
    rw [if_neg (by omega), show pE' D (d' + 1) = pE D d' from rfl]
    rw [cX_len] at b1
    have w3 := w1.mv q3 T3
    refine ⟨_, s_X13_step (s := st + (cX Γ fs c none st e).length) w3.2.1.2.2.2.1 (by rw [cX_len]; omega), ?_⟩
    rintro _ I4 ⟨rfl, s0, s1, s2, s3, s4, -⟩
    have w4 := w3.st1 (w := 13) (a := 0) (d := 0) (v := 0) s0 s1 s2 s3 s4 (fun z => absurd z (by decide))
    have l4 : st + (cX Γ fs c none st e ++ [((13 : Int32), (0 : Int32), (0 : Int32), (0 : Int32))]).length = st + lX c e + 1 := by rw [List.length_append, cX_len]; rfl
    have E4 := w4.2.1
    rw [l4] at E4
    refine ⟨_, hO d' rfl I4 (t1 + 1) (o + 1) (st + lX c e + 1) pe _ (B - 3) (by omega) E4 (by omega) (by omega) (by omega), ?_⟩
    rintro v5 I5 - ⟨g5, r5⟩
    cases hy : pE D d' (t1 + 1) with
    | error f =>
      rw [hy] at r5
      obtain ⟨rfl, x5⟩ := r5
      refine ⟨fun _ => ?_, fun q => absurd rfl q⟩
      exact eP.er (w4.h.tr g5) x5 rfl
    | ok et =>
      obtain ⟨y, t2⟩ := et
      rw [hy] at r5
      obtain ⟨rfl, w5, b5'⟩ := r5
      refine ⟨fun q => absurd q (by decide), fun _ => ?_⟩
      have b5 : st + lX c e + 1 + (cX Γ fs c none (st + lX c e + 1) y).length + 4 * (D.length - t2) ≤ B - 3 := b5'
      rw [cX_len] at b5
      have w6 : eW I I5 m D Γ fs c st pe x t2 (o + 1) (cX Γ fs c none st e ++ [((13 : Int32), (0 : Int32), (0 : Int32), (0 : Int32))] ++ cX Γ fs c none (st + lX c e + 1) y) (mnN (nX Γ fs c true none e) (nX Γ fs c true none y)) (hnX Γ fs e || hnX Γ fs y) := w4.tr (by rw [l4]; exact w5)
      refine ⟨_, s_X13_sign w6.2.1.1 (k := 71) (by decide), ?_⟩
      rintro v6 I6 - ⟨q6, ⟨e6, rfl, x6⟩ | ⟨e6, rfl, T6⟩⟩
      · refine ⟨fun _ => ?_, fun q => absurd rfl q⟩
        show eP _ _ _ _ _ _ _ _ _ _ _ (pNeed D 71 t2 _) _ _ _
        rw [pNeed, if_neg e6]
        exact eP.er (w6.h.q q6) x6 rfl
      refine ⟨fun q => absurd q (by decide), fun _ => ?_⟩
      have w7 := w6.mv q6 T6
      have hl2 := T6.2.1
      have l6 : (cX Γ fs c none st e ++ [((13 : Int32), (0 : Int32), (0 : Int32), (0 : Int32))] ++ cX Γ fs c none (st + lX c e + 1) y).length = lX c e + 1 + lX c y := by
        rw [List.length_append, List.length_append, cX_len, cX_len]
        rfl
      refine ⟨_, s_X13_step (s := st + (cX Γ fs c none st e ++ [((13 : Int32), (0 : Int32), (0 : Int32), (0 : Int32))] ++ cX Γ fs c none (st + lX c e + 1) y).length) w7.2.1.2.2.2.1 (by rw [l6]; omega), ?_⟩
      rintro _ I7 ⟨rfl, u0, u1, u2, u3, u4, -⟩
      have w8 := w7.st1 (w := 12) (a := 0) (d := 0) (v := 0) u0 u1 u2 u3 u4 (fun z => absurd z (by decide))
      rw [l6] at u0
      rw [cX_len, show ix (nI (st + lX c e)) = st + lX c e from nI_clamp (by omega), u0]
      refine ⟨vp_in_nI (by omega) (by decide), ?_⟩
      intro I9 hI9
      rw [List.append_assoc (cX Γ fs c none st e ++ [((13 : Int32), (0 : Int32), (0 : Int32), (0 : Int32))])] at w8
      have v9 : eV I _ m D Γ fs c st pe pe x (t2 + 1) (o + 1) _ _ _ := eV.pA (v := nI (st + (lX c e + 1 + lX c y) + 1)) w8
      rw [cX_len, ← hI9, ← List.append_assoc] at v9
      have w9 : eW I I9 m D Γ fs c st pe x (t2 + 1) (o + 1) _ _ _ := v9
      have l9 : st + (cX Γ fs c none st e ++ [((13 : Int32), nI (st + (lX c e + 1 + lX c y) + 1), (0 : Int32), (0 : Int32))] ++ cX Γ fs c none (st + lX c e + 1) y ++ [((12 : Int32), (0 : Int32), (0 : Int32), (0 : Int32))]).length = st + lX c e + 1 + lX c y + 1 := by
        rw [List.length_append, List.length_append, List.length_append, cX_len, cX_len]
        show st + (lX c e + 1 + lX c y + 1) = _
        omega
      have E9 := w9.2.1
      rw [l9] at E9
      refine ⟨_, hO d' rfl I9 (t2 + 1) (o + 1) (st + lX c e + 1 + lX c y + 1) pe _ (B - 6) (by omega) E9 (by omega) (by omega) (by omega), ?_⟩
      rintro v10 I10 - ⟨g10, r10⟩
      show _ ∧ _
      cases hn : pE D d' (t2 + 1) with
      | error f =>
        rw [hn] at r10
        obtain ⟨rfl, x10⟩ := r10
        refine ⟨fun _ => ?_, fun q => absurd rfl q⟩
        show eP _ _ _ _ _ _ _ _ _ _ _ (pNeed D 71 t2 _) _ _ _
        rw [pNeed, if_pos e6, hn]
        exact eP.er (w9.h.tr g10) x10 rfl
      | ok et =>
        obtain ⟨n, t3⟩ := et
        rw [hn] at r10
        obtain ⟨rfl, w10', b10'⟩ := r10
        refine ⟨fun q => absurd q (by decide), fun _ => ?_⟩
        have b10 : st + lX c e + 1 + lX c y + 1 + (cX Γ fs c none (st + lX c e + 1 + lX c y + 1) n).length + 4 * (D.length - t3) ≤ B - 6 := b10'
        rw [cX_len] at b10
        have w10 := w9.tr (by rw [l9]; exact w10')
        rw [l6, show ix (nI (st + (lX c e + 1 + lX c y))) = st + (lX c e + 1 + lX c y) from nI_clamp (by omega)]
        refine ⟨vp_in_nI (by omega) (by decide), ?_⟩
        intro I12 hI12 I13 hI13
        have v12 : eV I _ m D Γ fs c st pe pe x t3 (o + 1) _ _ _ := eV.pA (v := I10 m 60) w10
        have l10 : (cX Γ fs c none st e ++ [((13 : Int32), nI (st + (lX c e + 1 + lX c y) + 1), (0 : Int32), (0 : Int32))] ++ cX Γ fs c none (st + lX c e + 1) y).length = lX c e + 1 + lX c y := by
          rw [List.length_append, List.length_append, cX_len, cX_len]
          rfl
        rw [l10, ← hI12] at v12
        have w12 : eW I I12 m D Γ fs c st pe x t3 (o + 1) _ _ _ := v12
        have h60 : I10 m 60 = nI (st + lX c e + 1 + lX c y + 1 + lX c n) := by
          have := w10'.2.1.2.2.2.1
          rw [show (fX Γ fs c true none (st + lX c e + 1 + lX c y + 1) n).1.length = lX c n from cX_len ..] at this
          exact this
        have h43 : I12 m 43 = nI (o + 1) := w12.2.1.1.2.2.2.1
        have h43' : I10 m 43 = I12 m 43 := by rw [hI12, gX, if_neg (by omega)]
        rw [h43', h43, nI_m] at hI13
        have q13 : eQ I12 I13 m := fun a k hk => by rw [hI13, gX, if_neg (by omega)]
        have T12 := w12.2.1.1
        have T13 : eT I13 m D t3 o := T12.up T12.2.1 (by omega) q13 (by rw [hI13, xup_k (by decide)]; exact T12.2.2.1) (by rw [hI13, xup_s]) (by rw [hI13, xup_k (by decide)]; exact T12.2.2.2.2.2)
        have w13 := w12.mv q13 T13
        show eP _ _ _ _ _ _ _ _ _ _ _ (pNeed D 71 t2 _) _ _ _
        rw [pNeed, if_pos e6, hn]
        have hcx : cX Γ fs c none st (nd 8 [tFst e] e (nd 9 [] y n)) = cX Γ fs c none st e ++ [(13, nI (st + lX c e + 1 + lX c y + 1), 0, 0)] ++ cX Γ fs c none (st + lX c e + 1) y ++ [(12, nI (st + lX c e + 1 + lX c y + 1 + lX c n), 0, 0)] ++ cX Γ fs c none (st + lX c e + 1 + lX c y + 1) n := rfl
        refine ⟨w13.h, rfl, ?_, ?_⟩
        · show eW _ _ _ _ _ _ _ _ _ _ _ _ (cX Γ fs c none st (nd 8 [tFst e] e (nd 9 [] y n))) (mnN (nX Γ fs c true none e) (mnN (nX Γ fs c true none y) (nX Γ fs c true none n))) (hnX Γ fs e || (hnX Γ fs y || hnX Γ fs n))
          rw [hcx, ← mnN_as, ← Bool.or_assoc, ← h60, show st + lX c e + 1 + lX c y + 1 = st + (lX c e + 1 + lX c y) + 1 by omega]
          rw [show st + lX c e + 1 + lX c y + 1 = st + (lX c e + 1 + lX c y) + 1 by omega] at w13
          exact w13
        · show st + (cX Γ fs c none st (nd 8 [tFst e] e (nd 9 [] y n))).length + 4 * (D.length - t3) ≤ B
          rw [cX_len]
          show st + (lX c e + lX c y + lX c n + 2) + 4 * (D.length - t3) ≤ B
          omega
theorem ro_X0 (hi : inD D) (d : Nat) (hN : ∀ n, 7 * d ≤ n → oN (ro_E m n) m D Γ fs c d) : ∀ n, 7 * d + 7 ≤ n → oX (ro_E m n) m D Γ fs c d := by
  have hAg : ∀ n, 7 * d + 1 ≤ n → ∀ d', d = d' + 1 → oAg (ro_E m n) m D Γ fs c d' := by
    intro n hn d' hd
    obtain ⟨n, rfl⟩ : ∃ k, n = k + 1 := ⟨n - 1, by omega⟩
    intro I t o st pe x B f kk ks h1 h2 h3 h4 h5 h6 h7
    rw [rq_E_7]
    exact s_X13_argument (hN n (by omega) d' hd) h2 h1 h3 h4 h5 h6 h7
  have hCl : ∀ n, 7 * d + 2 ≤ n → oCl (ro_E m n) m D Γ fs c d := by
    intro n hn
    obtain ⟨n, rfl⟩ : ∃ k, n = k + 1 := ⟨n - 1, by omega⟩
    intro I t o st pe x B tn w wi h1 h2 h3 h4 h5 h6 h7 h8 h9
    rw [rq_E_6]
    exact s_X13_call hi (hAg n (by omega)) h2 h1 h3 h4 h5 h6 h7 h8 h9
  have hEl : ∀ n, 7 * d + 1 ≤ n → oEl (ro_E m n) m D Γ fs c d := by
    intro n hn
    obtain ⟨n, rfl⟩ : ∃ k, n = k + 1 := ⟨n - 1, by omega⟩
    intro I t o st pe x B k q h1 h2 h3 h4 h5 h6 h7
    rw [rq_E_8]
    exact s_X13_element (hN n (by omega)) h2 h1 h3 h4 h5 h6 h7
  have hNm : ∀ n, 7 * d + 3 ≤ n → oNm (ro_E m n) m D Γ fs c d := by
    intro n hn
    obtain ⟨n, rfl⟩ : ∃ k, n = k + 1 := ⟨n - 1, by omega⟩
    intro I t o st pe x B tn h1 h2 h3 h4 h5 h6 h7
    have a1 := hCl n (by omega)
    have a2 := hEl n (by omega)
    cases c with
    | true =>
      rw [if_pos rfl, rq_E_4]
      exact s_X13_inConstant a1 a2 h2 h1 h3 h4 h5 h6 h7
    | false =>
      rw [if_neg Bool.false_ne_true, rq_E_5]
      exact s_X13_named a1 a2 h2 h1 h3 h4 h5 h6 h7
  have hPl : ∀ n, 7 * d + 4 ≤ n → oPl (ro_E m n) m D Γ fs c d := by
    intro n hn
    obtain ⟨n, rfl⟩ : ∃ k, n = k + 1 := ⟨n - 1, by omega⟩
    intro I t o st pe x B h1 h2 h3 h4 h5
    rw [rq_E_3]
    exact s_X13_plain (hNm n (by omega)) (hN n (by omega)) h2 h1 h3 h4 h5
  have hOp : ∀ n, 7 * d + 5 ≤ n → oOp (ro_E m n) m D Γ fs c d := by
    intro n hn
    obtain ⟨n, rfl⟩ : ∃ k, n = k + 1 := ⟨n - 1, by omega⟩
    intro I t o st pe x B h1 h2 h3 h4 h5
    rw [rq_E_2]
    exact s_X13_operand (hPl n (by omega)) h2 h1 h3 h4 h5
  have hCh : ∀ n, 7 * d + 6 ≤ n → oCh (ro_E m n) m D Γ fs c d := by
    intro n hn
    obtain ⟨n, rfl⟩ : ∃ k, n = k + 1 := ⟨n - 1, by omega⟩
    intro I t o st pe x B h1 h2 h3 h4 h5
    rw [rq_E_1]
    exact s_X13_chain (hOp n (by omega)) h2 h1 h3 h4 h5
  intro n hn
  obtain ⟨n, rfl⟩ : ∃ k, n = k + 1 := ⟨n - 1, by omega⟩
  intro I t o st pe x B h1 h2 h3 h4 h5
  rw [rq_E_0]
  exact s_X13_expression (hCh n (by omega)) (hN n (by omega)) h2 h1 h3 h4 h5
/-- the knot -/
theorem ro_X (hi : inD D) : ∀ d n, 7 * d + 7 ≤ n → oX (ro_E m n) m D Γ fs c d := by
  intro d
  induction d with
  | zero =>
    intro n hn
    exact ro_X0 hi 0 (fun n hn d' hd => nomatch hd) n hn
  | succ d ih =>
    intro n hn
    exact ro_X0 hi (d + 1) (fun n hn d' hd => by cases hd; exact ih n (by omega)) n hn
theorem ro_Cl (hi : inD D) {d n : Nat} (hn : 7 * d + 2 ≤ n) : oCl (ro_E m n) m D Γ fs c d := by
  obtain ⟨n, rfl⟩ : ∃ k, n = k + 2 := ⟨n - 2, by omega⟩
  intro I t o st pe x B tn w wi h1 h2 h3 h4 h5 h6 h7 h8 h9
  rw [show n + 2 = (n + 1) + 1 from rfl, rq_E_6]
  refine s_X13_call hi (fun d' hd => ?_) h2 h1 h3 h4 h5 h6 h7 h8 h9
  intro I t o st pe x B f kk ks h1 h2 h3 h4 h5 h6 h7
  rw [rq_E_7]
  exact s_X13_argument (ro_X hi d' n (by omega)) h2 h1 h3 h4 h5 h6 h7
theorem ro_El (hi : inD D) {d n : Nat} (hn : 7 * d + 1 ≤ n) : oEl (ro_E m n) m D Γ fs c d := by
  obtain ⟨n, rfl⟩ : ∃ k, n = k + 1 := ⟨n - 1, by omega⟩
  intro I t o st pe x B k q h1 h2 h3 h4 h5 h6 h7
  rw [rq_E_8]
  exact s_X13_element (fun d' hd => ro_X hi d' n (by omega)) h2 h1 h3 h4 h5 h6 h7
end MEX
