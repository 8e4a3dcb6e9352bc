/-! ===== the House's parser: expressions, all together ===== -/
set_option maxRecDepth 100000
section HX
variable {G : xG} {x op d k : Nat} {D : tkL}
variable {r0 r2 r3 r4 : oT} {r1' : oT1} {r5 r6 : oT2}
theorem s_X1_expr (h0 : ∀ d', d' + 1 = d → oE G x D r0 (pE D d') (op + 1)) (h1 : oR G x D r1' d 10 op) (hop : op + d = 40) : oE G x D (w_X1_expr G r0 r1' r2 r3 r4 r5 r6) (pE D d) op := by
  intro A t E h hr hE hok
  have ht := h.lt
  have hxl := h.xl
  rw [pE_eq] at hE ⊢
  refine ⟨hs_t2 h.1, _, h1 A t E h hr (hE.sub pf.rf (by omega) (by omega) (by omega) (fun f e => by rw [pExpr, e]; rfl)), ?_⟩
  rintro _ A1 hok1 ⟨e1, tr1, t1, r1, rfl, p1, f1, l1, n1, u1, i1, x1⟩
  have ht1 := p1.lt
  have eP : pExpr D (pE' D d) d t = if tK D t1 = 70 then (if d = 0 then .error (3, tP D t1) else pAnd (pE' D d (t1 + 1)) fun y t2 => pNeed D 71 t2 (pAnd (pE' D d (t2 + 1)) fun n t3 => .ok (nd 8 [tFst tr1] tr1 (nd 9 [] y n), t3))) else .ok (tr1, t1) := by rw [pExpr, r1]; rfl
  rw [eP] at hE ⊢
  refine ⟨hs_t2 p1.1, _, s_X1_is p1, ?_⟩
  rintro v3 _ _ _ ⟨⟨rfl, q3⟩ | ⟨rfl, q3⟩, rfl⟩
  · refine ⟨fun q => absurd q (by decide), fun _ => ?_⟩
    rw [if_pos q3] at hE ⊢
    refine ⟨hs_t2 p1.1, _, s_X1_opens p1 (fun q => absurd q3 q) (fun q e => hE.fl t1 f1 (by omega) (by omega) (by omega) (by omega) (by rw [if_pos (by omega)])), ?_⟩
    rintro A5 hok5 ⟨q5, ho, p5, f5, n5, u5⟩
    obtain ⟨d', rfl⟩ : ∃ d', d = d' + 1 := ⟨d - 1, by omega⟩
    rw [if_neg (by omega)] at hE ⊢
    have ht5 := p5.lt
    have f15 := f1.tr f5
    refine ⟨hs_t2 p5.1, _, h0 d' rfl A5 (t1 + 1) E p5 (hr.sub (by omega) (by omega) (by omega) (by omega)) (hE.sub f15 (by omega) (by omega) (by omega) (fun f e => by rw [pE'_s, e]; rfl)), ?_⟩
    rintro _ A7 hok7 ⟨e7, tr7, t7, r7, rfl, p7, f7, l7, n7, u7, i7, x7⟩
    have ht7 := p7.lt
    have f17 := f15.tr f7
    have eP2 : (pAnd (pE' D (d' + 1) (t1 + 1)) fun y t2 => pNeed D 71 t2 (pAnd (pE' D (d' + 1) (t2 + 1)) fun n t3 => (.ok (nd 8 [tFst tr1] tr1 (nd 9 [] y n), t3) : pR))) = pNeed D 71 t7 (pAnd (pE D d' (t7 + 1)) fun n t3 => .ok (nd 8 [tFst tr1] tr1 (nd 9 [] tr7 n), t3)) := by rw [pE'_s, r7]; rfl
    rw [eP2] at hE ⊢
    refine ⟨hs_t2 p7.1, _, s_X1_need p7 (fun q => hE.fl t7 f17 (by omega) (by omega) (by omega) (by omega) (by rw [pNeed, if_neg q])), ?_⟩
    rintro A9 hok9 ⟨q9, p9, f9, n9, u9⟩
    rw [pNeed, if_pos q9] at hE ⊢
    have ht9 := p9.lt
    have f19 := f17.tr f9
    refine ⟨hs_t2 p9.1, _, h0 d' rfl A9 (t7 + 1) E p9 (hr.sub (by omega) (by omega) (by omega) (by omega)) (hE.sub f19 (by omega) (by omega) (by omega) (fun f e => by rw [e]; rfl)), ?_⟩
    rintro _ A11 hok11 ⟨e11, tr11, t11, r11, rfl, p11, f11, l11, n11, u11, i11, x11⟩
    rw [r11] at hE ⊢
    have ht11 := p11.lt
    have hl11 := p11.1.lt
    have hN := h.1.1
    refine ⟨hs_t2 p11.1, ?_⟩
    rintro _ rfl
    rw [p11.o, nI_sub1, nI_dec (by omega), Nat.add_sub_cancel]
    have p14 := p11.opn (o := op) (by omega)
    have hok14 : xok G (A11.setI (x + 2) 4 (nI op)) := hok11.setI (by omega)
    have f14 : pf x A (A11.setI (x + 2) 4 (nI op)) := (f19.tr f11).set
    have g14 : Fr (fun a => a = x + 2) A11 (A11.setI (x + 2) 4 (nI op)) := Fr.setI rfl
    have a1 := f1.1.1
    have a5 := f5.1.1
    have a7 := f7.1.1
    have a9 := f9.1.1
    have a11 := f11.1.1
    have kA : ∀ {c : Tr} {n0 : Nat} {v : Nat}, A.n ≤ n0 → rX G A11 (fun a => n0 ≤ a) c [] [v] → rX G (A11.setI (x + 2) 4 (nI op)) (fun a => A.n ≤ a) c [] [v] := fun q hc => rX.fr hok11 hok14 g14 _ (p11.kx (by omega)) (rX.mn hok11 _ (fun a z _ => by omega) hc)
    have k11 : ∀ {c : Tr} {n0 : Nat} {v : Nat}, A.n ≤ n0 → rX G A9 (fun a => n0 ≤ a) c [] [v] → rX G A11 (fun a => n0 ≤ a) c [] [v] := fun q hc => rX.fr hok9 hok11 f11.1 _ (p9.kx (by omega)) hc
    have k9 : ∀ {c : Tr} {n0 : Nat} {v : Nat}, A.n ≤ n0 → rX G A7 (fun a => n0 ≤ a) c [] [v] → rX G A9 (fun a => n0 ≤ a) c [] [v] := fun q hc => rX.fr hok7 hok9 f9.1 _ (p7.kx (by omega)) hc
    have y1 := kA (by omega) (k11 (by omega) (k9 (by omega) (rX.fr hok5 hok7 f7.1 _ (p5.kx (by omega)) (rX.fr hok1 hok5 f5.1 _ (p1.kx (by omega)) x1))))
    have y7 := kA (by omega) (k11 (by omega) (k9 (by omega) x7))
    have y11 := kA (by omega) x11
    have nn : (A11.setI (x + 2) 4 (nI op)).n = A11.n := rfl
    have uu : (A11.setI (x + 2) 4 (nI op)).u = A11.u := rfl
    generalize A11.setI (x + 2) 4 (nI op) = A14 at *
    have o1 := rX.ob i1 y1
    refine ⟨(hr.rr (A1 := A14) (t1 := t11) (c := 1) (s := 4) (by omega) (by omega) (by omega) (by omega)).o, ?_⟩
    rintro _ rfl
    have xe0 : e1 < A14.n := by
      obtain ⟨c, q1, q2⟩ := o1.2.2
      have : ∀ c ∈ eCl, c < 38 := by decide
      have := this c q2
      exact hok14.1.lt q1 (by omega)
    have xe16 : xE (A14.new 22 0 4 0) e1 := by
      obtain ⟨c, q1, q2⟩ := o1.2.2
      exact ⟨c, by rw [gN_tg, if_neg (by omega)]; exact q1, q2⟩
    refine ⟨_, s_X23_init (by rw [gN_tg, if_pos rfl]) xe16, ?_⟩
    rintro _ hok17 rfl
    have fs : (A14.new 22 0 4 0).I e1 0 = tFst tr1 := by rw [gN_I, if_neg (by omega)]; exact o1.2.1
    rw [fs] at hok17 ⊢
    have f17' : Fr (fun a => a = A14.n) A14 (((((A14.new 22 0 4 0).setI A14.n 0 (tFst tr1)).setP A14.n 1 (some e1)).setP A14.n 2 (some e7)).setP A14.n 3 (some e11)) := Fr.fn.fs.fp.fp.fp
    have hl14 := p14.1.lt
    have kB : ∀ {c : Tr} {v : Nat}, rX G A14 (fun a => A.n ≤ a) c [] [v] → rX G (((((A14.new 22 0 4 0).setI A14.n 0 (tFst tr1)).setP A14.n 1 (some e1)).setP A14.n 2 (some e7)).setP A14.n 3 (some e11)) (fun a => A.n ≤ a ∧ a ≠ A14.n) c [] [v] := fun hc => rX.fr hok14 hok17 f17' _ (Kp.nw (Nat.le_refl _)) (rX.mn hok14 _ (fun a q q' => ⟨q, by omega⟩) hc)
    refine ⟨A14.n, nd 8 [tFst tr1] tr1 (nd 9 [] tr7 tr11), t11, rfl, rfl, p14.fr f17' (fun a ha q => by omega), f14.own f17' (fun a ha q => by omega) hxl, by omega, ?_, ?_, by show 8 ≤ 8; decide, ?_⟩
    · show A14.n + 1 ≤ _
      omega
    · show A14.u + 4 ≤ _
      omega
    · refine ⟨rfl, A14.n, e1, e7, e11, rfl, by omega, ?_, ?_, ?_, ?_, ?_, kB y1, rfl, e7, e11, rfl, kB y7, kB y11⟩ <;> grind [gI_I, gI_L, gI_P, gI_tg, gI_ln, gI_gh, gI_n, gI_u, gL_I, gL_L, gL_P, gL_tg, gL_ln, gL_gh, gL_n, gL_u, gP_I, gP_L, gP_P, gP_tg, gP_ln, gP_gh, gP_n, gP_u, gN_I, gN_L, gN_P, gN_tg, gN_ln, gN_gh, gN_n, gN_u]
  · refine ⟨fun _ => ?_, fun q => absurd rfl q⟩
    rw [if_neg q3] at hE ⊢
    exact ⟨e1, tr1, t1, rfl, rfl, p1, f1, l1, n1, u1, i1, x1⟩
/-- one depth more -/
theorem go_P (d : Nat) (ih : ∀ d', d' + 1 = d → ∀ n op, 15 * d' + 16 ≤ n → op + d' = 40 → oE G x D (rk_P G n).1 (pE D d') op) : ∀ n op, 15 * d + 16 ≤ n → op + d = 40 → oE G x D (rk_P G n).1 (pE D d) op := by
  intro n op hn hop
  have i0 : ∀ m, 15 * d + 1 ≤ m → ∀ d', d' + 1 = d → oE G x D (rk_P G m).1 (pE D d') (op + 1) := fun m hm d' hd => ih d' hd m (op + 1) (by omega) (by omega)
  have iIn : ∀ m, 15 * d + 2 ≤ m → oE G x D (rk_P G m).2.2.2.2.1 (pIn D (pE' D d) d) op := fun m hm => by
    obtain ⟨m, rfl⟩ : ∃ m', m = m' + 1 := ⟨m - 1, by omega⟩
    show oE G x D (w_X1_inside G (rk_P G m).1 (rk_P G m).2.1 (rk_P G m).2.2.1 (rk_P G m).2.2.2.1 (rk_P G m).2.2.2.2.1 (rk_P G m).2.2.2.2.2.1 (rk_P G m).2.2.2.2.2.2) _ _
    exact s_X1_inside (i0 m (by omega)) hop
  have iPl : ∀ m, 15 * d + 2 ≤ m → oF G x D (rk_P G m).2.2.2.2.2.1 (pPlace D (pE' D d) d) op := fun m hm => by
    obtain ⟨m, rfl⟩ : ∃ m', m = m' + 1 := ⟨m - 1, by omega⟩
    show oF G x D (w_X1_place G (rk_P G m).1 (rk_P G m).2.1 (rk_P G m).2.2.1 (rk_P G m).2.2.2.1 (rk_P G m).2.2.2.2.1 (rk_P G m).2.2.2.2.2.1 (rk_P G m).2.2.2.2.2.2) _ _
    exact fun p nm A t E h hr hE => s_X1_place (i0 m (by omega)) hop h hr hE
  have iCa : ∀ m, 15 * d + 2 ≤ m → oF G x D (rk_P G m).2.2.2.2.2.2 (pCall D (pE' D d) d) op := fun m hm => by
    obtain ⟨m, rfl⟩ : ∃ m', m = m' + 1 := ⟨m - 1, by omega⟩
    show oF G x D (w_X1_call G (rk_P G m).1 (rk_P G m).2.1 (rk_P G m).2.2.1 (rk_P G m).2.2.2.1 (rk_P G m).2.2.2.2.1 (rk_P G m).2.2.2.2.2.1 (rk_P G m).2.2.2.2.2.2) _ _
    exact fun p nm A t E h hr hE => s_X1_call (i0 m (by omega)) hop h hr hE
  have iOp : ∀ m, 15 * d + 3 ≤ m → oE G x D (rk_P G m).2.2.2.1 (pOpnd D (pE' D d) d) op := fun m hm => by
    obtain ⟨m, rfl⟩ : ∃ m', m = m' + 1 := ⟨m - 1, by omega⟩
    show oE G x D (w_X1_operand G (rk_P G m).1 (rk_P G m).2.1 (rk_P G m).2.2.1 (rk_P G m).2.2.2.1 (rk_P G m).2.2.2.2.1 (rk_P G m).2.2.2.2.2.1 (rk_P G m).2.2.2.2.2.2) _ _
    exact s_X1_operand (iIn m (by omega)) (iPl m (by omega)) (iCa m (by omega)) hop
  have iAh : ∀ m, 15 * d + 4 ≤ m → oE G x D (rk_P G m).2.2.1 (pAhead D (pE' D d) d) op := fun m hm => by
    obtain ⟨m, rfl⟩ : ∃ m', m = m' + 1 := ⟨m - 1, by omega⟩
    show oE G x D (w_X1_ahead G (rk_P G m).1 (rk_P G m).2.1 (rk_P G m).2.2.1 (rk_P G m).2.2.2.1 (rk_P G m).2.2.2.2.1 (rk_P G m).2.2.2.2.2.1 (rk_P G m).2.2.2.2.2.2) _ _
    exact s_X1_ahead (iOp m (by omega))
  have iRo : ∀ k m, k ≤ 10 → 15 * d + 5 + k ≤ m → oR G x D (rk_P G m).2.1 d k op := by
    intro k
    induction k with
    | zero =>
      intro m _ hm
      obtain ⟨m, rfl⟩ : ∃ m', m = m' + 1 := ⟨m - 1, by omega⟩
      show oR G x D (w_X1_row G (rk_P G m).1 (rk_P G m).2.1 (rk_P G m).2.2.1 (rk_P G m).2.2.2.1 (rk_P G m).2.2.2.2.1 (rk_P G m).2.2.2.2.2.1 (rk_P G m).2.2.2.2.2.2) _ _ _
      exact s_X1_row0 (iAh m (by omega))
    | succ k ihk =>
      intro m hk hm
      obtain ⟨m, rfl⟩ : ∃ m', m = m' + 1 := ⟨m - 1, by omega⟩
      show oR G x D (w_X1_row G (rk_P G m).1 (rk_P G m).2.1 (rk_P G m).2.2.1 (rk_P G m).2.2.2.1 (rk_P G m).2.2.2.2.1 (rk_P G m).2.2.2.2.2.1 (rk_P G m).2.2.2.2.2.2) _ _ _
      exact s_X1_row (by omega) (ihk m (by omega) (by omega))
  obtain ⟨n, rfl⟩ : ∃ n', n = n' + 1 := ⟨n - 1, by omega⟩
  show oE G x D (w_X1_expr G (rk_P G n).1 (rk_P G n).2.1 (rk_P G n).2.2.1 (rk_P G n).2.2.2.1 (rk_P G n).2.2.2.2.1 (rk_P G n).2.2.2.2.2.1 (rk_P G n).2.2.2.2.2.2) _ _
  exact s_X1_expr (i0 n (by omega)) (iRo 10 n (by omega) (by omega)) hop
theorem s_rk_P : ∀ d n op, 15 * d + 16 ≤ n → op + d = 40 → oE G x D (rk_P G n).1 (pE D d) op := by
  intro d
  induction d with
  | zero =>
    intro n op hn hop
    exact go_P 0 (fun d' h => absurd h (by omega)) n op hn hop
  | succ d ih =>
    intro n op hn hop
    exact go_P (d + 1) (fun d' h m op' hm hop' => by
      have : d' = d := by omega
      subst this
      exact ih m op' hm hop') n op hn hop
end HX
