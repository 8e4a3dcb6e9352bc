/-! ===== the House's parser: simple statements, what is told in functions ===== -/
set_option maxRecDepth 100000
section HM
variable {G : xG} {A A1 B : xA} {x t t1 op d z z1 : Nat} {D : tkL} {E : Nat → xA → Prop} {r : pR} {v : Option Nat}
theorem actS_e {k : Int32} (h1 : ¬ k = 72) (h2 : ¬ k = 40) (h3 : ¬ k = 41) (h4 : ¬ k = 42) : actS k = if k < 44 then -2 else if 51 < k then -2 else k - 44 := by
  rw [actS, if_neg h1, if_neg h2, if_neg h3, if_neg h4]
theorem actS_n {k : Int32} (h : (-1 : Int32) ≤ actS k) : ¬ k = 0 ∧ ¬ k = 1 := by
  refine ⟨?_, ?_⟩ <;> rintro rfl <;> exact absurd h (by decide)
theorem s_X1_simple (hO : xHO G) (hop : op + d = 40) : oS G x D (w_X1_simple G) (pSimple D d) op := by
  intro A t E h hr hE hok
  have ht := h.lt
  have hxl := h.xl
  have hl := h.1.lt
  have hN := h.1.1
  refine ⟨hs_t2 h.1, _, s_X1_here h, ?_⟩
  rintro _ _ _ ⟨rfl, rfl⟩
  refine ⟨hs_t2 h.1, _, s_X1_needName h (fun q => hE.fl t pf.rf (by omega) (by omega) (by omega) (by omega) (by rw [pSimple, pNeed, if_neg q])), ?_⟩
  rintro _ A3 hok3 ⟨q3, rfl, p3, f3, n3, u3⟩
  rw [pSimple, pNeed, if_pos q3] at hE ⊢
  have ht3 := p3.lt
  have a3 := f3.1.1
  refine ⟨hs_t2 p3.1, _, s_X1_is p3, ?_⟩
  rintro v5 _ _ _ ⟨⟨rfl, q5⟩ | ⟨rfl, q5⟩, rfl⟩
  · -- a call
    refine ⟨fun q => absurd q (by decide), fun _ => ?_⟩
    rw [if_pos q5] at hE ⊢
    refine ⟨(hr.rr (A1 := A3) (t1 := t + 1) (c := 1) (s := 1) (by omega) (by omega) (by omega) (by omega)).o, ?_⟩
    rintro _ rfl
    have p8 : PS G (A3.new 28 0 1 0) x D (t + 1) op := p3.fr Fr.fn (fun a ha q => by omega)
    have f8 : pf x A (A3.new 28 0 1 0) := f3.own Fr.fn (fun a ha q => by omega) hxl
    have nn : (A3.new 28 0 1 0).n = A3.n + 1 := rfl
    have uu : (A3.new 28 0 1 0).u = A3.u + 1 := rfl
    have tg8 : (A3.new 28 0 1 0).tg A3.n = 28 := by rw [gN_tg, if_pos rfl]
    generalize A3.new 28 0 1 0 = A8 at *
    refine ⟨hs_t2 p8.1, _, s_g6 hop _ _ A8 (t + 1) E p8 (hr.sub (by omega) (by omega) (by omega) (by omega)) (hE.sub f8 (by omega) (by omega) (by omega) (fun f e => by rw [e]; rfl)), ?_⟩
    rintro _ A9 hok9 ⟨e, tr, t9, r9, rfl, p9, f9, l9, n9, u9, i9, x9⟩
    rw [r9] at hE ⊢
    have a9 := f9.1.1
    have tg9 : A9.tg A3.n = 28 := (f9.1.tg (by omega)).trans tg8
    refine ⟨_, s_X29_init tg9, ?_⟩
    rintro _ hok11 rfl
    have f11 : Fr (fun a => a = A3.n) A9 (A9.setP A3.n 0 (some e)) := Fr.rf.fp
    have x11 : rX G (A9.setP A3.n 0 (some e)) (fun a => A.n ≤ a) tr [] [e] := rX.mn hok11 _ (fun a q _ => q.1) (rX.fr hok9 hok11 f11 _ (Kp.one (by rw [tg9]; decide) (fun q => q.2 rfl)) (rX.mn (N' := fun a => A.n ≤ a ∧ a ≠ A3.n) hok9 _ (fun a q _ => ⟨by omega, by omega⟩) x9))
    refine ⟨A3.n, nd 31 [] tr lf, t9, rfl, rfl, p9.fr f11 (fun a ha q => by omega), (f8.tr f9).own f11 (fun a ha q => by omega) hxl, by omega, ?_, ?_, by right; right; decide, A3.n, e, rfl, by omega, tg9, ?_, i9, x11⟩
    · show A9.n ≤ _
      omega
    · show A9.u ≤ _
      omega
    · grind [gI_I, gI_L, gI_P, gI_tg, gI_ln, gI_gh, gI_n, gI_u, gL_I, gL_L, gL_P, gL_tg, gL_ln, gL_gh, gL_n, gL_u, gP_I, gP_L, gP_P, gP_tg, gP_ln, gP_gh, gP_n, gP_u, gN_I, gN_L, gN_P, gN_tg, gN_ln, gN_gh, gN_n, gN_u]
  · refine ⟨fun _ => ?_, fun q => absurd rfl q⟩
    rw [if_neg q5] at hE ⊢
    refine ⟨hs_t2 p3.1, _, s_g5 hop _ _ A3 (t + 1) E p3 (hr.sub (by omega) (by omega) (by omega) (by omega)) (hE.sub f3 (by omega) (by omega) (by omega) (fun f e => by rw [e]; rfl)), ?_⟩
    rintro _ A7 hok7 ⟨e, tr, t7, r7, rfl, p7, f7, l7, n7, u7, i7, x7⟩
    rw [r7] at hE ⊢
    have ht7 := p7.lt
    have a7 := f7.1.1
    have f17 := f3.tr f7
    have x7' : rX G A7 (fun a => A.n ≤ a) tr [] [e] := rX.mn hok7 _ (fun a q _ => by omega) x7
    refine ⟨hs_t2 p7.1, _, s_X1_kind p7, ?_⟩
    rintro _ _ _ ⟨rfl, rfl⟩
    -- the node, with one token passed
    have fin : ∀ (a : Int32), t7 + 1 < D.length → A7.tg (x + 2) = 2 ∧ ∀ A12 : xA, A12 = A7.setI (x + 2) 3 (A7.I (x + 2) 3 + 1) → rmO G A12 3 ∧ ∀ A14 : xA, A14 = A12.new 29 0 3 0 → ∃ R15 : xA → Prop, w_X30_init G A12.n (some e) a none R15 A14 ∧ ∀ A15 : xA, xok G A15 → R15 A15 → sQ G x D A t op 0 (.ok (nd 30 [a] tr lf, t7 + 1)) (some A12.n) A15 := by
      intro a hx
      refine ⟨hs_t2 p7.1, ?_⟩
      rintro _ rfl
      rw [p7.a, nI_1]
      have p12 := p7.at hx
      have f12 : pf x A (A7.setI (x + 2) 3 (nI (t7 + 1))) := f17.set
      have hok12 : xok G (A7.setI (x + 2) 3 (nI (t7 + 1))) := hok7.setI (by omega)
      have x12 : rX G (A7.setI (x + 2) 3 (nI (t7 + 1))) (fun a => A.n ≤ a) tr [] [e] := rX.fr hok7 hok12 (S := fun a => a = x + 2) (Fr.setI rfl) _ (p7.kx (by omega)) x7'
      have nn : (A7.setI (x + 2) 3 (nI (t7 + 1))).n = A7.n := rfl
      have uu : (A7.setI (x + 2) 3 (nI (t7 + 1))).u = A7.u := rfl
      generalize A7.setI (x + 2) 3 (nI (t7 + 1)) = A12 at *
      have hl12 := p12.1.lt
      refine ⟨(hr.rr (A1 := A12) (t1 := t7 + 1) (c := 1) (s := 3) (by omega) (by omega) (by omega) (by omega)).o, ?_⟩
      rintro _ rfl
      refine ⟨_, s_X30_init (by rw [gN_tg, if_pos rfl]), ?_⟩
      rintro _ hok15 rfl
      have f15 : Fr (fun a => a = A12.n) A12 ((((A12.new 29 0 3 0).setP A12.n 0 (some e)).setI A12.n 1 a).setP A12.n 2 none) := Fr.fn.fp.fs.fp
      refine ⟨A12.n, nd 30 [a] tr lf, t7 + 1, rfl, rfl, p12.fr f15 (fun a ha q => by omega), f12.own f15 (fun a ha q => by omega) hxl, by omega, ?_, ?_, by right; right; decide, A12.n, e, rfl, by omega, ?_, ?_, ?_, i7, ?_, ?_⟩
      · show A12.n + 1 ≤ _
        omega
      · show A12.u + 3 ≤ _
        omega
      · grind [gI_I, gI_L, gI_P, gI_tg, gI_ln, gI_gh, gI_n, gI_u, gL_I, gL_L, gL_P, gL_tg, gL_ln, gL_gh, gL_n, gL_u, gP_I, gP_L, gP_P, gP_tg, gP_ln, gP_gh, gP_n, gP_u, gN_I, gN_L, gN_P, gN_tg, gN_ln, gN_gh, gN_n, gN_u]
      · grind [gI_I, gI_L, gI_P, gI_tg, gI_ln, gI_gh, gI_n, gI_u, gL_I, gL_L, gL_P, gL_tg, gL_ln, gL_gh, gL_n, gL_u, gP_I, gP_L, gP_P, gP_tg, gP_ln, gP_gh, gP_n, gP_u, gN_I, gN_L, gN_P, gN_tg, gN_ln, gN_gh, gN_n, gN_u]
      · grind [gI_I, gI_L, gI_P, gI_tg, gI_ln, gI_gh, gI_n, gI_u, gL_I, gL_L, gL_P, gL_tg, gL_ln, gL_gh, gL_n, gL_u, gP_I, gP_L, gP_P, gP_tg, gP_ln, gP_gh, gP_n, gP_u, gN_I, gN_L, gN_P, gN_tg, gN_ln, gN_gh, gN_n, gN_u]
      · exact rX.fr hok12 hok15 f15 _ (Kp.nw (Nat.le_refl _)) x12
      · exact Or.inl ⟨rfl, by grind [gI_I, gI_L, gI_P, gI_tg, gI_ln, gI_gh, gI_n, gI_u, gL_I, gL_L, gL_P, gL_tg, gL_ln, gL_gh, gL_n, gL_u, gP_I, gP_L, gP_P, gP_tg, gP_ln, gP_gh, gP_n, gP_u, gN_I, gN_L, gN_P, gN_tg, gN_ln, gN_gh, gN_n, gN_u]⟩
    refine ⟨fun q => ?_, fun q52 => ⟨fun q => ?_, fun q53 => ?_⟩⟩
    · have e1 : (if tK D t7 = 52 then .ok (nd 30 [0] tr lf, t7 + 1) else if tK D t7 = 53 then .ok (nd 30 [1] tr lf, t7 + 1) else if (-1 : Int32) ≤ actS (tK D t7) then pAnd (pE D d (t7 + 1)) fun e t2 => .ok (nd 30 [actS (tK D t7)] tr e, t2) else .error (pWr D t7) : pR) = .ok (nd 30 [0] tr lf, t7 + 1) := if_pos q
      show _ ∧ _
      have := fin 0 (p7.2.2.1.nx' ht7 q)
      rw [← e1] at this
      exact this
    · have e1 : (if tK D t7 = 52 then .ok (nd 30 [0] tr lf, t7 + 1) else if tK D t7 = 53 then .ok (nd 30 [1] tr lf, t7 + 1) else if (-1 : Int32) ≤ actS (tK D t7) then pAnd (pE D d (t7 + 1)) fun e t2 => .ok (nd 30 [actS (tK D t7)] tr e, t2) else .error (pWr D t7) : pR) = .ok (nd 30 [1] tr lf, t7 + 1) := by rw [if_neg q52, if_pos q]
      have := fin 1 (p7.2.2.1.nx' ht7 q)
      rw [← e1] at this
      exact this
    · have e1 : (pAnd (.ok (tr, t7)) fun pl t1 => if tK D t1 = 52 then .ok (nd 30 [0] pl lf, t1 + 1) else if tK D t1 = 53 then .ok (nd 30 [1] pl lf, t1 + 1) else if (-1 : Int32) ≤ actS (tK D t1) then pAnd (pE D d (t1 + 1)) fun e t2 => .ok (nd 30 [actS (tK D t1)] pl e, t2) else .error (pWr D t1) : pR) = if (-1 : Int32) ≤ actS (tK D t7) then pAnd (pE D d (t7 + 1)) fun e t2 => .ok (nd 30 [actS (tK D t7)] tr e, t2) else .error (pWr D t7) := by
        show (if tK D t7 = 52 then _ else _) = _
        rw [if_neg q52, if_neg q53]
      rw [e1] at hE ⊢
      refine ⟨fun y => y = actS (tK D t7), ?_, ?_⟩
      · rintro _ rfl
        refine ⟨fun q => ?_, fun q => ?_⟩
        · rw [if_pos q] at hE ⊢
          have hx := p7.2.2.1.nx ht7 (actS_n q).1 (actS_n q).2
          refine ⟨hs_t2 p7.1, ?_⟩
          rintro _ rfl
          rw [p7.a, nI_1]
          have p12 := p7.at hx
          have f12 : pf x A (A7.setI (x + 2) 3 (nI (t7 + 1))) := f17.set
          have hok12 : xok G (A7.setI (x + 2) 3 (nI (t7 + 1))) := hok7.setI (by omega)
          have x12 : rX G (A7.setI (x + 2) 3 (nI (t7 + 1))) (fun a => A.n ≤ a) tr [] [e] := rX.fr hok7 hok12 (S := fun a => a = x + 2) (Fr.setI rfl) _ (p7.kx (by omega)) x7'
          have nn : (A7.setI (x + 2) 3 (nI (t7 + 1))).n = A7.n := rfl
          have uu : (A7.setI (x + 2) 3 (nI (t7 + 1))).u = A7.u := rfl
          generalize A7.setI (x + 2) 3 (nI (t7 + 1)) = A12 at *
          have hl12 := p12.1.lt
          refine ⟨(hr.rr (A1 := A12) (t1 := t7 + 1) (c := 1) (s := 3) (by omega) (by omega) (by omega) (by omega)).o, ?_⟩
          rintro _ rfl
          have p21 : PS G (A12.new 29 0 3 0) x D (t7 + 1) op := p12.fr Fr.fn (fun a ha q => by omega)
          have f21 : pf x A (A12.new 29 0 3 0) := f12.own Fr.fn (fun a ha q => by omega) hxl
          have hok21 : xok G (A12.new 29 0 3 0) := hok12.new
          have x21 : rX G (A12.new 29 0 3 0) (fun a => A.n ≤ a ∧ a ≠ A12.n) tr [] [e] := rX.fr hok12 hok21 (S := fun a => a = A12.n) Fr.fn _ (Kp.nw (Nat.le_refl _)) (rX.mn hok12 _ (fun a q q' => ⟨q, by omega⟩) x12)
          have nn2 : (A12.new 29 0 3 0).n = A12.n + 1 := rfl
          have uu2 : (A12.new 29 0 3 0).u = A12.u + 3 := rfl
          have tg21 : (A12.new 29 0 3 0).tg A12.n = 29 := by rw [gN_tg, if_pos rfl]
          generalize A12.new 29 0 3 0 = A21 at *
          refine ⟨_, s_g0 hop A21 (t7 + 1) E p21 (hr.sub (by omega) (by omega) (by omega) (by omega)) (hE.sub f21 (by omega) (by omega) (by omega) (fun f e => by rw [e]; rfl)), ?_⟩
          rintro _ A22 hok22 ⟨e2, tr2, t22, r22, rfl, p22, f22, l22, n22, u22, i22, x22⟩
          rw [r22] at hE ⊢
          have a22 := f22.1.1
          have tg22 : A22.tg A12.n = 29 := (f22.1.tg (by omega)).trans tg21
          refine ⟨_, s_X30_init tg22, ?_⟩
          rintro _ hok23 rfl
          have f23 : Fr (fun a => a = A12.n) A22 (((A22.setP A12.n 0 (some e)).setI A12.n 1 (actS (tK D t7))).setP A12.n 2 (some e2)) := Fr.rf.fp.fs.fp
          have kk : ∀ {c : Tr} {v : Nat}, rX G A22 (fun a => A.n ≤ a ∧ a ≠ A12.n) c [] [v] → rX G (((A22.setP A12.n 0 (some e)).setI A12.n 1 (actS (tK D t7))).setP A12.n 2 (some e2)) (fun a => A.n ≤ a) c [] [v] := fun hc => rX.mn hok23 _ (fun a q _ => q.1) (rX.fr hok22 hok23 f23 _ (Kp.one (by rw [tg22]; decide) (fun q => q.2 rfl)) hc)
          refine ⟨A12.n, nd 30 [actS (tK D t7)] tr tr2, t22, rfl, rfl, p22.fr f23 (fun a ha q => by omega), (f21.tr f22).own f23 (fun a ha q => by omega) hxl, by omega, ?_, ?_, by right; right; decide, A12.n, e, rfl, by omega, tg22, ?_, ?_, i7, kk (rX.fr hok21 hok22 f22.1 _ (p21.kx (by omega)) x21), Or.inr ⟨e2, i22, ?_, kk (rX.mn hok22 _ (fun a q _ => ⟨by omega, by omega⟩) x22)⟩⟩
          · show A22.n ≤ _
            omega
          · show A22.u ≤ _
            omega
          · grind [gI_I, gI_L, gI_P, gI_tg, gI_ln, gI_gh, gI_n, gI_u, gL_I, gL_L, gL_P, gL_tg, gL_ln, gL_gh, gL_n, gL_u, gP_I, gP_L, gP_P, gP_tg, gP_ln, gP_gh, gP_n, gP_u, gN_I, gN_L, gN_P, gN_tg, gN_ln, gN_gh, gN_n, gN_u]
          · grind [gI_I, gI_L, gI_P, gI_tg, gI_ln, gI_gh, gI_n, gI_u, gL_I, gL_L, gL_P, gL_tg, gL_ln, gL_gh, gL_n, gL_u, gP_I, gP_L, gP_P, gP_tg, gP_ln, gP_gh, gP_n, gP_u, gN_I, gN_L, gN_P, gN_tg, gN_ln, gN_gh, gN_n, gN_u]
          · grind [gI_I, gI_L, gI_P, gI_tg, gI_ln, gI_gh, gI_n, gI_u, gL_I, gL_L, gL_P, gL_tg, gL_ln, gL_gh, gL_n, gL_u, gP_I, gP_L, gP_P, gP_tg, gP_ln, gP_gh, gP_n, gP_u, gN_I, gN_L, gN_P, gN_tg, gN_ln, gN_gh, gN_n, gN_u]
        · rw [if_neg q] at hE
          refine ⟨hs_t2 p7.1, _, s_X1_wrong p7, ?_⟩
          rintro _ _ _ ⟨rfl, rfl⟩
          exact ⟨_, rfl, hE.fl t7 f17 (by omega) (by omega) (by omega) (by omega) rfl⟩
      · refine ⟨fun q => by rw [q]; rfl, fun q72 => ⟨fun q => by rw [q]; rfl, fun q40 => ⟨fun q => by rw [q]; rfl, fun q41 => ⟨fun q => by rw [q]; rfl, fun q42 => ?_⟩⟩⟩⟩
        rw [actS_e q72 q40 q41 q42]
        refine ⟨fun q => (if_pos q).symm, fun q44 => ⟨fun q => by rw [if_neg q44, if_pos q], fun q51 => ?_⟩⟩
        rw [if_neg q44, if_neg q51]
        exact actsOf hO hok7 q44 q51
end HM
