/-! ===== the House's parser: choices, loops; all statements ===== -/
set_option maxRecDepth 100000
section HL
variable {G : xG} {A A1 B : xA} {x t t1 op d z z1 : Nat} {D : tkL} {E : Nat → xA → Prop} {r : pR} {v : Option Nat} {N N' S : Nat → Prop}
variable {r0 r1 r2 r3 : oT}
theorem s_X1_choice (h0 : ∀ d', d' + 1 = d → oU G x D r0 (pS D d') (op + 1)) (hop : op + d = 40) : oU G x D (w_X1_choice G r0 r1 r2 r3) (pIf D (pS' D d) d) op := by
  intro A t E h hr hE hok
  have ht := h.lt
  have hxl := h.xl
  have hl := h.1.lt
  have hN := h.1.1
  refine ⟨hs_t2 h.1, _, s_X1_opens h (fun q => hE.fl t pf.rf (by omega) (by omega) (by omega) (by omega) (by rw [pIf, pOpen, if_neg q])) (fun q e => hE.fl t pf.rf (by omega) (by omega) (by omega) (by omega) (by rw [pIf, pOpen, if_pos q, if_pos (by omega)])), ?_⟩
  rintro A1 hok1 ⟨q1, ho, p1, f1, n1, u1⟩
  obtain ⟨d', rfl⟩ : ∃ d', d = d' + 1 := ⟨d - 1, by omega⟩
  have eP : pIf D (pS' D (d' + 1)) (d' + 1) t = pAnd (pIn D (pE' D d') d' (t + 1)) fun c t1 => pAnd (pS D d' t1) fun y t2 => if tK D t2 = 15 then pAnd (pS D d' (t2 + 1)) fun n t3 => .ok (nd 25 [] c (nd 32 [] y n), t3) else .ok (nd 25 [] c (nd 32 [] y (nd 35 [] lf lf)), t2) := by rw [pIf, pOpen, if_pos q1, if_neg (by omega)]; rfl
  rw [eP] at hE ⊢
  have ht1 := p1.lt
  refine ⟨hs_t2 p1.1, _, s_g4 (d := d') (by omega) A1 (t + 1) E p1 (hr.sub (by omega) (by omega) (by omega) (by omega)) (hE.sub f1 (by omega) (by omega) (by omega) (fun f e => by rw [e]; rfl)), ?_⟩
  rintro _ A3 hok3 ⟨e3, tr3, t3, r3, rfl, p3, f3, l3, n3, u3, i3, x3⟩
  have eP3 : (pAnd (pIn D (pE' D d') d' (t + 1)) fun c t1 => pAnd (pS D d' t1) fun y t2 => if tK D t2 = 15 then pAnd (pS D d' (t2 + 1)) fun n t3 => .ok (nd 25 [] c (nd 32 [] y n), t3) else .ok (nd 25 [] c (nd 32 [] y (nd 35 [] lf lf)), t2) : pR) = pAnd (pS D d' t3) fun y t2 => if tK D t2 = 15 then pAnd (pS D d' (t2 + 1)) fun n t3 => .ok (nd 25 [] tr3 (nd 32 [] y n), t3) else .ok (nd 25 [] tr3 (nd 32 [] y (nd 35 [] lf lf)), t2) := by rw [r3]; rfl
  rw [eP3] at hE ⊢
  have ht3 := p3.lt
  have f13 := f1.tr f3
  refine ⟨hs_t2 p3.1, _, h0 d' rfl A3 t3 E p3 (hr.sub (by omega) (by omega) (by omega) (by omega)) (hE.sub f13 (by omega) (by omega) (by omega) (fun f e => by rw [e]; rfl)), ?_⟩
  rintro _ A5 hok5 ⟨e5, tr5, t5, r5, rfl, p5, f5, l5, n5, u5, i5, x5⟩
  have eP5 : (pAnd (pS D d' t3) fun y t2 => if tK D t2 = 15 then pAnd (pS D d' (t2 + 1)) fun n t3 => .ok (nd 25 [] tr3 (nd 32 [] y n), t3) else .ok (nd 25 [] tr3 (nd 32 [] y (nd 35 [] lf lf)), t2) : pR) = if tK D t5 = 15 then pAnd (pS D d' (t5 + 1)) fun n t3 => .ok (nd 25 [] tr3 (nd 32 [] tr5 n), t3) else .ok (nd 25 [] tr3 (nd 32 [] tr5 (nd 35 [] lf lf)), t5) := by rw [r5]; rfl
  rw [eP5] at hE ⊢
  have ht5 := p5.lt
  have f15 := f13.tr f5
  have a1 := f1.1.1
  have a3 := f3.1.1
  have a5 := f5.1.1
  have x3' : rX G A5 (fun a => A.n ≤ a) tr3 [] [e3] := rX.fr hok3 hok5 f5.1 _ (p3.kx (by omega)) (rX.mn hok3 _ (fun a q _ => by omega) x3)
  have x5' : rS G A5 x (fun a => A.n ≤ a) tr5 [some e5] := rS.mn hok5 (fun a q _ => by omega) _ x5
  refine ⟨hs_t2 p5.1, _, s_X1_takes p5, ?_⟩
  intro v7 A7 hok7 _ hv7
  refine ⟨fun y A9 => ∃ nt t9, (if tK D t5 = 15 then pAnd (pS D d' (t5 + 1)) fun n t3 => .ok (nd 25 [] tr3 (nd 32 [] tr5 n), t3) else .ok (nd 25 [] tr3 (nd 32 [] tr5 (nd 35 [] lf lf)), t5)) = (.ok (nd 25 [] tr3 (nd 32 [] tr5 nt), t9) : pR) ∧ xok G A9 ∧ PS G A9 x D t9 (op + 1) ∧ pf x A A9 ∧ t < t9 ∧ A9.n + 16 ≤ A.n + 24 * (t9 - t) ∧ A9.u + 64 ≤ A.u + 128 * (t9 - t) ∧ rX G A9 (fun a => A.n ≤ a) tr3 [] [e3] ∧ rS G A9 x (fun a => A.n ≤ a) tr5 [some e5] ∧ rS G A9 x (fun a => A.n ≤ a) nt [y], ?_, fun z7 => ?_, fun z7 => ?_⟩
  · rintro y A9 ⟨nt, t9, e9, hok9, p9, f9, l9, n9, u9, y3, y5, yn⟩
    rw [e9]
    have ht9 := p9.lt
    refine ⟨hs_t2 p9.1, ?_⟩
    rintro _ rfl
    rw [p9.o, nI_sub1, nI_dec (by omega), Nat.add_sub_cancel]
    have p11 := p9.opn (o := op) (by omega)
    have hok11 : xok G (A9.setI (x + 2) 4 (nI op)) := hok9.setI (by omega)
    have f11 : pf x A (A9.setI (x + 2) 4 (nI op)) := f9.set
    have g11 : Fr (fun a => a = x + 2) A9 (A9.setI (x + 2) 4 (nI op)) := Fr.setI rfl
    have k3 := rX.fr hok9 hok11 g11 _ (p9.kx (by omega)) y3
    have k5 := rS.fr hok9 hok11 g11 (p9.kx (by omega)) _ y5
    have kn := rS.fr hok9 hok11 g11 (p9.kx (by omega)) _ yn
    have nn : (A9.setI (x + 2) 4 (nI op)).n = A9.n := rfl
    have uu : (A9.setI (x + 2) 4 (nI op)).u = A9.u := rfl
    generalize A9.setI (x + 2) 4 (nI op) = A11 at *
    have hl11 := p11.1.lt
    have a11 := f11.1.1
    refine ⟨(hr.rr (A1 := A11) (t1 := t9) (c := 1) (s := 3) (by omega) (by omega) (by omega) (by omega)).o, ?_⟩
    rintro _ rfl
    refine ⟨_, s_X27_init (by rw [gN_tg, if_pos rfl]), ?_⟩
    rintro _ hok14 rfl
    have f14 : Fr (fun a => a = A11.n) A11 ((((A11.new 26 0 3 0).setP A11.n 0 (some e3)).setP A11.n 1 (some e5)).setP A11.n 2 y) := Fr.fn.fp.fp.fp
    have eY : ((((A11.new 26 0 3 0).setP A11.n 0 (some e3)).setP A11.n 1 (some e5)).setP A11.n 2 y).P A11.n 2 = y := by grind [gI_I, gI_L, gI_P, gI_tg, gI_ln, gI_gh, gI_n, gI_u, gL_I, gL_L, gL_P, gL_tg, gL_ln, gL_gh, gL_n, gL_u, gP_I, gP_L, gP_P, gP_tg, gP_ln, gP_gh, gP_n, gP_u, gN_I, gN_L, gN_P, gN_tg, gN_ln, gN_gh, gN_n, gN_u]
    refine ⟨A11.n, nd 25 [] tr3 (nd 32 [] tr5 nt), t9, rfl, rfl, p11.fr f14 (fun a ha q => by omega), f11.own f14 (fun a ha q => by omega) hxl, by omega, ?_, ?_, by right; right; decide, A11.n, e3, e5, rfl, by omega, ?_, ?_, ?_, i3, rX.fr hok11 hok14 f14 _ (Kp.nw (Nat.le_refl _)) k3, some e5, _, rfl, rS.fr hok11 hok14 f14 (Kp.nw (Nat.le_refl _)) _ k5, ?_⟩
    · show A11.n + 1 + 8 ≤ _
      omega
    · show A11.u + 3 + 32 ≤ _
      omega
    · grind [gI_I, gI_L, gI_P, gI_tg, gI_ln, gI_gh, gI_n, gI_u, gL_I, gL_L, gL_P, gL_tg, gL_ln, gL_gh, gL_n, gL_u, gP_I, gP_L, gP_P, gP_tg, gP_ln, gP_gh, gP_n, gP_u, gN_I, gN_L, gN_P, gN_tg, gN_ln, gN_gh, gN_n, gN_u]
    · grind [gI_I, gI_L, gI_P, gI_tg, gI_ln, gI_gh, gI_n, gI_u, gL_I, gL_L, gL_P, gL_tg, gL_ln, gL_gh, gL_n, gL_u, gP_I, gP_L, gP_P, gP_tg, gP_ln, gP_gh, gP_n, gP_u, gN_I, gN_L, gN_P, gN_tg, gN_ln, gN_gh, gN_n, gN_u]
    · grind [gI_I, gI_L, gI_P, gI_tg, gI_ln, gI_gh, gI_n, gI_u, gL_I, gL_L, gL_P, gL_tg, gL_ln, gL_gh, gL_n, gL_u, gP_I, gP_L, gP_P, gP_tg, gP_ln, gP_gh, gP_n, gP_u, gN_I, gN_L, gN_P, gN_tg, gN_ln, gN_gh, gN_n, gN_u]
    · rw [eY]
      exact rS.fr hok11 hok14 f14 (Kp.nw (Nat.le_refl _)) _ kn
  · rcases hv7 with ⟨rfl, -⟩ | ⟨rfl, q7, rfl⟩
    · exact absurd z7 (by decide)
    · exact ⟨nd 35 [] lf lf, t5, by rw [if_neg q7], hok5, p5, f15, by omega, by omega, by omega, x3', x5', rfl⟩
  · rcases hv7 with ⟨rfl, q7, p7, f7, n7, u7⟩ | ⟨rfl, q7, rfl⟩
    · rw [if_pos q7] at hE ⊢
      have ht7 := p7.lt
      have a7 := f7.1.1
      refine ⟨hs_t2 p7.1, _, h0 d' rfl A7 (t5 + 1) E p7 (hr.sub (by omega) (by omega) (by omega) (by omega)) (hE.sub (f15.tr f7) (by omega) (by omega) (by omega) (fun f e => by rw [e]; rfl)), ?_⟩
      rintro _ A15 hok15 ⟨e15, tr15, t15, r15, rfl, p15, g15, l15, n15, u15, i15, x15⟩
      refine ⟨tr15, t15, by rw [r15]; rfl, hok15, p15, (f15.tr f7).tr g15, by omega, by omega, by omega, rX.fr hok7 hok15 g15.1 _ (p7.kx (by omega)) (rX.fr hok5 hok7 f7.1 _ (p5.kx (by omega)) x3'), rS.fr hok7 hok15 g15.1 (p7.kx (by omega)) _ (rS.fr hok5 hok7 f7.1 (p5.kx (by omega)) _ x5'), rS.mn hok15 (fun a q _ => by omega) _ x15⟩
    · exact absurd rfl z7
/-- the end of a loop -/
theorem s_loopEnd {st sp c b : Tr} {ys yt ya : Option Nat} {eb : Nat} {i : Int32} {mk : List Int32} {t9 : Nat} (hi : i = 0 ∨ i = 1) (hxl : x + 2 < A.n) (hN : G.N ≤ x) (hr : pm G D A t 0) (hop : op ≤ 40) (hok9 : xok G B) (p9 : PS G B x D t9 (op + 1)) (f9 : pf x A B) (l9 : t < t9) (n9 : B.n + 16 ≤ A.n + 24 * (t9 - t)) (u9 : B.u + 64 ≤ A.u + 128 * (t9 - t)) (y1 : rS G B x (fun a => A.n ≤ a) st [ys]) (y2 : rS G B x (fun a => A.n ≤ a) sp [yt]) (y3 : orX G B (fun a => A.n ≤ a) c ya) (y4 : rS G B x (fun a => A.n ≤ a) b [some eb]) (hq : r = .ok (nd 26 (i :: mk) (nd 33 [] st c) (nd 32 [] sp b), t9)) :
    B.tg (x + 2) = 2 ∧ ∀ A51 : xA, A51 = B.setI (x + 2) 4 (B.I (x + 2) 4 - 1) → rmO G A51 5 ∧ ∀ A53 : xA, A53 = A51.new 27 0 5 0 → ∃ R54 : xA → Prop, w_X28_init G A51.n ys ya yt (some eb) i R54 A53 ∧ ∀ A54 : xA, xok G A54 → R54 A54 → tQ G x D A t op r (some A51.n) A54 := by
  have ht9 := p9.lt
  refine ⟨hs_t2 p9.1, ?_⟩
  rintro _ rfl
  rw [p9.o, nI_sub1, nI_dec (by omega), Nat.add_sub_cancel, hq]
  have p11 := p9.opn (o := op) hop
  have hok11 : xok G (B.setI (x + 2) 4 (nI op)) := hok9.setI (by omega)
  have f11 : pf x A (B.setI (x + 2) 4 (nI op)) := f9.set
  have g11 : Fr (fun a => a = x + 2) B (B.setI (x + 2) 4 (nI op)) := Fr.setI rfl
  have k1 := rS.fr hok9 hok11 g11 (p9.kx (by omega)) _ y1
  have k2 := rS.fr hok9 hok11 g11 (p9.kx (by omega)) _ y2
  have k3 := y3.fr hok9 hok11 g11 (p9.kx (by omega))
  have k4 := rS.fr hok9 hok11 g11 (p9.kx (by omega)) _ y4
  have nn : (B.setI (x + 2) 4 (nI op)).n = B.n := rfl
  have uu : (B.setI (x + 2) 4 (nI op)).u = B.u := rfl
  generalize B.setI (x + 2) 4 (nI op) = A11 at *
  have hl11 := p11.1.lt
  have a11 := f11.1.1
  refine ⟨(hr.rr (A1 := A11) (t1 := t9) (c := 1) (s := 5) (by omega) (by omega) (by omega) (by omega)).o, ?_⟩
  rintro _ rfl
  refine ⟨_, s_X28_init (by rw [gN_tg, if_pos rfl]) hi, ?_⟩
  rintro _ hok14 rfl
  have f14 : Fr (fun a => a = A11.n) A11 ((((((A11.new 27 0 5 0).setP A11.n 0 ys).setP A11.n 2 ya).setP A11.n 1 yt).setP A11.n 3 (some eb)).setI A11.n 4 i) := Fr.fn.fp.fp.fp.fp.fs
  have e0 : ((((((A11.new 27 0 5 0).setP A11.n 0 ys).setP A11.n 2 ya).setP A11.n 1 yt).setP A11.n 3 (some eb)).setI A11.n 4 i).P A11.n 0 = ys := by grind [gI_I, gI_L, gI_P, gI_tg, gI_ln, gI_gh, gI_n, gI_u, gL_I, gL_L, gL_P, gL_tg, gL_ln, gL_gh, gL_n, gL_u, gP_I, gP_L, gP_P, gP_tg, gP_ln, gP_gh, gP_n, gP_u, gN_I, gN_L, gN_P, gN_tg, gN_ln, gN_gh, gN_n, gN_u]
  have e1 : ((((((A11.new 27 0 5 0).setP A11.n 0 ys).setP A11.n 2 ya).setP A11.n 1 yt).setP A11.n 3 (some eb)).setI A11.n 4 i).P A11.n 1 = yt := by grind [gI_I, gI_L, gI_P, gI_tg, gI_ln, gI_gh, gI_n, gI_u, gL_I, gL_L, gL_P, gL_tg, gL_ln, gL_gh, gL_n, gL_u, gP_I, gP_L, gP_P, gP_tg, gP_ln, gP_gh, gP_n, gP_u, gN_I, gN_L, gN_P, gN_tg, gN_ln, gN_gh, gN_n, gN_u]
  have e2 : ((((((A11.new 27 0 5 0).setP A11.n 0 ys).setP A11.n 2 ya).setP A11.n 1 yt).setP A11.n 3 (some eb)).setI A11.n 4 i).P A11.n 2 = ya := by grind [gI_I, gI_L, gI_P, gI_tg, gI_ln, gI_gh, gI_n, gI_u, gL_I, gL_L, gL_P, gL_tg, gL_ln, gL_gh, gL_n, gL_u, gP_I, gP_L, gP_P, gP_tg, gP_ln, gP_gh, gP_n, gP_u, gN_I, gN_L, gN_P, gN_tg, gN_ln, gN_gh, gN_n, gN_u]
  refine ⟨A11.n, nd 26 (i :: mk) (nd 33 [] st c) (nd 32 [] sp b), t9, rfl, rfl, p11.fr f14 (fun a ha q => by omega), f11.own f14 (fun a ha q => by omega) hxl, by omega, ?_, ?_, by right; right; decide, A11.n, eb, rfl, by omega, ?_, ?_, ?_, ⟨_, _, rfl, ?_, ?_⟩, _, some eb, rfl, ?_, rS.fr hok11 hok14 f14 (Kp.nw (Nat.le_refl _)) _ k4⟩
  · show A11.n + 1 + 8 ≤ _
    omega
  · show A11.u + 5 + 32 ≤ _
    omega
  · grind [gI_I, gI_L, gI_P, gI_tg, gI_ln, gI_gh, gI_n, gI_u, gL_I, gL_L, gL_P, gL_tg, gL_ln, gL_gh, gL_n, gL_u, gP_I, gP_L, gP_P, gP_tg, gP_ln, gP_gh, gP_n, gP_u, gN_I, gN_L, gN_P, gN_tg, gN_ln, gN_gh, gN_n, gN_u]
  · grind [gI_I, gI_L, gI_P, gI_tg, gI_ln, gI_gh, gI_n, gI_u, gL_I, gL_L, gL_P, gL_tg, gL_ln, gL_gh, gL_n, gL_u, gP_I, gP_L, gP_P, gP_tg, gP_ln, gP_gh, gP_n, gP_u, gN_I, gN_L, gN_P, gN_tg, gN_ln, gN_gh, gN_n, gN_u]
  · grind [gI_I, gI_L, gI_P, gI_tg, gI_ln, gI_gh, gI_n, gI_u, gL_I, gL_L, gL_P, gL_tg, gL_ln, gL_gh, gL_n, gL_u, gP_I, gP_L, gP_P, gP_tg, gP_ln, gP_gh, gP_n, gP_u, gN_I, gN_L, gN_P, gN_tg, gN_ln, gN_gh, gN_n, gN_u]
  · rw [e0]
    exact rS.fr hok11 hok14 f14 (Kp.nw (Nat.le_refl _)) _ k1
  · rw [e2]
    exact k3.fr hok11 hok14 f14 (Kp.nw (Nat.le_refl _))
  · rw [e1]
    exact rS.fr hok11 hok14 f14 (Kp.nw (Nat.le_refl _)) _ k2
theorem s_X1_loop (hO : xHO G) (h0 : ∀ d', d' + 1 = d → oU G x D r0 (pS D d') (op + 1)) (hop : op + d = 40) (hk : tK D t = 16 ∨ tK D t = 17 ∨ tK D t = 18) (h : PS G A x D t op) (hr : pm G D A t 0) (hE : pX x D A t 0 (pLoopS D (pS' D d) d t) E) : w_X1_loop G r0 r1 r2 r3 (x + 2) (tQ G x D A t op (pLoopS D (pS' D d) d t)) E A := by
  intro hok
  have ht := h.lt
  have hxl := h.xl
  have hl := h.1.lt
  have hN := h.1.1
  refine ⟨hs_t2 h.1, _, s_X1_kind h, ?_⟩
  rintro _ _ _ ⟨rfl, rfl⟩
  refine ⟨hs_t2 h.1, _, s_X1_opens h (fun q => absurd rfl q) (fun q e => hE.fl t pf.rf (by omega) (by omega) (by omega) (by omega) (by rw [pLoopS, pOpen, if_pos rfl, if_pos (by omega)])) (by rcases hk with q | q | q <;> rw [q] <;> decide), ?_⟩
  rintro A3 hok3 ⟨-, ho, p3, f3, n3, u3⟩
  obtain ⟨d', rfl⟩ : ∃ d', d = d' + 1 := ⟨d - 1, by omega⟩
  have ht3 := p3.lt
  have a3 := f3.1.1
  refine ⟨fun q17 => ?_, fun q17 => ?_⟩
  · -- do
    have eP : pLoopS D (pS' D (d' + 1)) (d' + 1) t = pAnd (pS D d' (t + 1)) fun b t1 => pNeed D 16 t1 (pAnd (pIn D (pE' D d') d' (t1 + 1)) fun c t2 => pNeed D 69 t2 (.ok (nd 26 [1] (nd 33 [] (nd 35 [] lf lf) c) (nd 32 [] (nd 35 [] lf lf) b), t2 + 1))) := by rw [pLoopS, pOpen, if_pos rfl, if_neg (by omega), if_pos q17]; rfl
    rw [eP] at hE ⊢
    refine ⟨hs_t2 p3.1, _, h0 d' rfl A3 (t + 1) E p3 (hr.sub (by omega) (by omega) (by omega) (by omega)) (hE.sub f3 (by omega) (by omega) (by omega) (fun f e => by rw [e]; rfl)), ?_⟩
    rintro _ A5 hok5 ⟨e5, tr5, t5, r5, rfl, p5, f5, l5, n5, u5, i5, x5⟩
    rw [r5] at hE ⊢
    have ht5 := p5.lt
    have f15 := f3.tr f5
    have a5 := f5.1.1
    refine ⟨hs_t2 p5.1, _, s_X1_need p5 (fun q => hE.fl t5 f15 (by omega) (by omega) (by omega) (by omega) (if_neg q)), ?_⟩
    rintro A7 hok7 ⟨q7, p7, f7, n7, u7⟩
    have eP7 : (pAnd (.ok (tr5, t5)) fun b t1 => pNeed D 16 t1 (pAnd (pIn D (pE' D d') d' (t1 + 1)) fun c t2 => pNeed D 69 t2 (.ok (nd 26 [1] (nd 33 [] (nd 35 [] lf lf) c) (nd 32 [] (nd 35 [] lf lf) b), t2 + 1))) : pR) = pAnd (pIn D (pE' D d') d' (t5 + 1)) fun c t2 => pNeed D 69 t2 (.ok (nd 26 [1] (nd 33 [] (nd 35 [] lf lf) c) (nd 32 [] (nd 35 [] lf lf) tr5), t2 + 1)) := if_pos q7
    rw [eP7] at hE ⊢
    have ht7 := p7.lt
    have f17 := f15.tr f7
    have a7 := f7.1.1
    refine ⟨hs_t2 p7.1, _, s_g4 (d := d') (by omega) A7 (t5 + 1) E p7 (hr.sub (by omega) (by omega) (by omega) (by omega)) (hE.sub f17 (by omega) (by omega) (by omega) (fun f e => by rw [e]; rfl)), ?_⟩
    rintro _ A9 hok9 ⟨e9, tr9, t9, r9, rfl, p9, f9, l9, n9, u9, i9, x9⟩
    rw [r9] at hE ⊢
    have ht9 := p9.lt
    have f19 := f17.tr f9
    have a9 := f9.1.1
    refine ⟨hs_t2 p9.1, _, s_X1_need p9 (fun q => hE.fl t9 f19 (by omega) (by omega) (by omega) (by omega) (if_neg q)), ?_⟩
    rintro A11 hok11 ⟨q11, p11, f11, n11, u11⟩
    exact s_loopEnd (st := nd 35 [] lf lf) (sp := nd 35 [] lf lf) (Or.inr rfl) hxl hN hr (by omega) hok11 p11 (f19.tr f11) (by omega) (by omega) (by omega) rfl rfl (Or.inr ⟨e9, i9, rfl, rX.fr hok9 hok11 f11.1 _ (p9.kx (by omega)) (rX.mn hok9 _ (fun a q _ => by omega) x9)⟩) (rS.fr hok9 hok11 f11.1 (p9.kx (by omega)) _ (rS.fr hok7 hok9 f9.1 (p7.kx (by omega)) _ (rS.fr hok5 hok7 f7.1 (p5.kx (by omega)) _ (rS.mn hok5 (fun a q _ => by omega) _ x5)))) (if_pos q11)
  · refine ⟨fun y2 y3 y4 A5 => ∃ mk st c sp t5, pLoopS D (pS' D (d' + 1)) (d' + 1) t = pAnd (pS D d' t5) (fun b t4 => .ok (nd 26 (0 :: mk) (nd 33 [] st c) (nd 32 [] sp b), t4)) ∧ xok G A5 ∧ PS G A5 x D t5 (op + 1) ∧ pf x A A5 ∧ t < t5 ∧ A5.n + 8 ≤ A.n + 24 * (t5 - t) ∧ A5.u + 32 ≤ A.u + 128 * (t5 - t) ∧ rS G A5 x (fun a => A.n ≤ a) st [y2] ∧ rS G A5 x (fun a => A.n ≤ a) sp [y3] ∧ orX G A5 (fun a => A.n ≤ a) c y4, ?_, fun q16 => ?_, fun q16 => ?_⟩
    · rintro y2 y3 y4 A5 ⟨mk, st, c, sp, t5, e5, hok5, p5, f5, l5, n5, u5, z1, z2, z3⟩
      rw [e5] at hE ⊢
      have ht5 := p5.lt
      have a5 := f5.1.1
      refine ⟨hs_t2 p5.1, _, h0 d' rfl A5 t5 E p5 (hr.sub (by omega) (by omega) (by omega) (by omega)) (hE.sub f5 (by omega) (by omega) (by omega) (fun f e => by rw [e]; rfl)), ?_⟩
      rintro _ A6 hok6 ⟨e6, tr6, t6, r6, rfl, p6, f6, l6, n6, u6, i6, x6⟩
      exact s_loopEnd (Or.inl rfl) hxl hN hr (by omega) hok6 p6 (f5.tr f6) (by omega) (by omega) (by omega) (rS.fr hok5 hok6 f6.1 (p5.kx (by omega)) _ z1) (rS.fr hok5 hok6 f6.1 (p5.kx (by omega)) _ z2) (z3.fr hok5 hok6 f6.1 (p5.kx (by omega))) (rS.mn hok6 (fun a q _ => by omega) _ x6) (by rw [r6]; rfl)
    · -- while
      have eP : pLoopS D (pS' D (d' + 1)) (d' + 1) t = pAnd (pIn D (pE' D d') d' (t + 1)) fun c t1 => pAnd (pS D d' t1) fun b t2 => .ok (nd 26 [0] (nd 33 [] (nd 35 [] lf lf) c) (nd 32 [] (nd 35 [] lf lf) b), t2) := by rw [pLoopS, pOpen, if_pos rfl, if_neg (by omega), if_neg q17, if_pos q16]; rfl
      rw [eP] at hE ⊢
      refine ⟨hs_t2 p3.1, _, s_g4 (d := d') (by omega) A3 (t + 1) E p3 (hr.sub (by omega) (by omega) (by omega) (by omega)) (hE.sub f3 (by omega) (by omega) (by omega) (fun f e => by rw [e]; rfl)), ?_⟩
      rintro _ A9 hok9 ⟨e9, tr9, t9, r9, rfl, p9, f9, l9, n9, u9, i9, x9⟩
      exact ⟨[], nd 35 [] lf lf, tr9, nd 35 [] lf lf, t9, by rw [r9]; rfl, hok9, p9, f3.tr f9, by omega, by omega, by omega, rfl, rfl, Or.inr ⟨e9, i9, rfl, rX.mn hok9 _ (fun a q _ => by omega) x9⟩⟩
    · -- for
      have eP : pLoopS D (pS' D (d' + 1)) (d' + 1) t = pOpen D 62 d' (t + 1) (pAnd (pForS D (d' - 1) (t + 2)) fun s t1 => pNeed D 69 t1 (pAnd (pForC D (d' - 1) (t1 + 1)) fun c t2 => pNeed D 69 t2 (pAnd (pForP D (d' - 1) (t2 + 1)) fun sp t3 => pNeed D 63 t3 (pAnd (pS D d' (t3 + 1)) fun b t4 => .ok (nd 26 [0, 1] (nd 33 [] s c) (nd 32 [] sp b), t4))))) := by rw [pLoopS, pOpen, if_pos rfl, if_neg (by omega), if_neg q17, if_neg q16]; rfl
      rw [eP] at hE ⊢
      refine ⟨hs_t2 p3.1, _, s_X1_opens p3 (fun q => hE.fl (t + 1) f3 (by omega) (by omega) (by omega) (by omega) (by rw [pOpen, if_neg q])) (fun q e => hE.fl (t + 1) f3 (by omega) (by omega) (by omega) (by omega) (by rw [pOpen, if_pos q, if_pos (by omega)])), ?_⟩
      rintro A13 hok13 ⟨q13, ho13, p13, f13, n13, u13⟩
      obtain ⟨d2, rfl⟩ : ∃ d2, d' = d2 + 1 := ⟨d' - 1, by omega⟩
      rw [pOpen, if_pos q13, if_neg (by omega), Nat.add_sub_cancel] at hE ⊢
      have ht13 := p13.lt
      have g13 := f3.tr f13
      have a13 := f13.1.1
      refine ⟨hs_t2 p13.1, _, s_X1_is p13, ?_⟩
      rintro v15 _ _ _ ⟨hv15, rfl⟩
      refine ⟨fun y A17 => ∃ st t17, pForS D d2 (t + 2) = .ok (st, t17) ∧ xok G A17 ∧ PS G A17 x D t17 (op + 1 + 1) ∧ pf x A A17 ∧ t + 2 ≤ t17 ∧ A17.n + 40 ≤ A.n + 24 * (t17 - t) ∧ A17.u + 200 ≤ A.u + 128 * (t17 - t) ∧ rS G A17 x (fun a => A.n ≤ a) st [y], ?_, fun z15 => ?_, fun z15 => ?_⟩
      · rintro y17 A17 ⟨st, t17, e17, hok17, p17, f17, l17, n17, u17, x17⟩
        rw [e17] at hE ⊢
        have ht17 := p17.lt
        have a17 := f17.1.1
        refine ⟨hs_t2 p17.1, _, s_X1_need p17 (fun q => hE.fl t17 f17 (by omega) (by omega) (by omega) (by omega) (if_neg q)), ?_⟩
        rintro A18 hok18 ⟨q18, p18, f18, n18, u18⟩
        have eP18 : (pAnd (.ok (st, t17)) fun s t1 => pNeed D 69 t1 (pAnd (pForC D d2 (t1 + 1)) fun c t2 => pNeed D 69 t2 (pAnd (pForP D d2 (t2 + 1)) fun sp t3 => pNeed D 63 t3 (pAnd (pS D (d2 + 1) (t3 + 1)) fun b t4 => .ok (nd 26 [0, 1] (nd 33 [] s c) (nd 32 [] sp b), t4)))) : pR) = pAnd (pForC D d2 (t17 + 1)) fun c t2 => pNeed D 69 t2 (pAnd (pForP D d2 (t2 + 1)) fun sp t3 => pNeed D 63 t3 (pAnd (pS D (d2 + 1) (t3 + 1)) fun b t4 => .ok (nd 26 [0, 1] (nd 33 [] st c) (nd 32 [] sp b), t4))) := if_pos q18
        rw [eP18] at hE ⊢
        have ht18 := p18.lt
        have g18 := f17.tr f18
        have a18 := f18.1.1
        have x18 := rS.fr hok17 hok18 f18.1 (p17.kx (by omega)) _ x17
        refine ⟨hs_t2 p18.1, _, s_X1_is p18, ?_⟩
        rintro v20 _ _ _ ⟨hv20, rfl⟩
        refine ⟨fun y A22 => ∃ c t22, pForC D d2 (t17 + 1) = .ok (c, t22) ∧ xok G A22 ∧ PS G A22 x D t22 (op + 1 + 1) ∧ pf x A A22 ∧ t17 + 1 ≤ t22 ∧ A22.n + 40 ≤ A.n + 24 * (t22 - t) ∧ A22.u + 200 ≤ A.u + 128 * (t22 - t) ∧ rS G A22 x (fun a => A.n ≤ a) st [y17] ∧ orX G A22 (fun a => A.n ≤ a) c y, ?_, fun z20 => ?_, fun z20 => ?_⟩
        · rintro y22 A22 ⟨c, t22, e22, hok22, p22, f22, l22, n22, u22, x22, c22⟩
          rw [e22] at hE ⊢
          have ht22 := p22.lt
          have a22 := f22.1.1
          refine ⟨hs_t2 p22.1, _, s_X1_need p22 (fun q => hE.fl t22 f22 (by omega) (by omega) (by omega) (by omega) (if_neg q)), ?_⟩
          rintro A23 hok23 ⟨q23, p23, f23, n23, u23⟩
          have eP23 : (pAnd (.ok (c, t22)) fun c t2 => pNeed D 69 t2 (pAnd (pForP D d2 (t2 + 1)) fun sp t3 => pNeed D 63 t3 (pAnd (pS D (d2 + 1) (t3 + 1)) fun b t4 => .ok (nd 26 [0, 1] (nd 33 [] st c) (nd 32 [] sp b), t4))) : pR) = pAnd (pForP D d2 (t22 + 1)) fun sp t3 => pNeed D 63 t3 (pAnd (pS D (d2 + 1) (t3 + 1)) fun b t4 => .ok (nd 26 [0, 1] (nd 33 [] st c) (nd 32 [] sp b), t4)) := if_pos q23
          rw [eP23] at hE ⊢
          have ht23 := p23.lt
          have g23 := f22.tr f23
          have a23 := f23.1.1
          have x23 := rS.fr hok22 hok23 f23.1 (p22.kx (by omega)) _ x22
          have c23 := c22.fr hok22 hok23 f23.1 (p22.kx (by omega))
          refine ⟨hs_t2 p23.1, _, s_X1_is p23, ?_⟩
          rintro v25 _ _ _ ⟨hv25, rfl⟩
          refine ⟨fun y A27 => ∃ sp t27, pForP D d2 (t22 + 1) = .ok (sp, t27) ∧ xok G A27 ∧ PS G A27 x D t27 (op + 1 + 1) ∧ pf x A A27 ∧ t22 + 1 ≤ t27 ∧ A27.n + 40 ≤ A.n + 24 * (t27 - t) ∧ A27.u + 200 ≤ A.u + 128 * (t27 - t) ∧ rS G A27 x (fun a => A.n ≤ a) st [y17] ∧ orX G A27 (fun a => A.n ≤ a) c y22 ∧ rS G A27 x (fun a => A.n ≤ a) sp [y], ?_, fun z25 => ?_, fun z25 => ?_⟩
          · rintro y27 A27 ⟨sp, t27, e27, hok27, p27, f27, l27, n27, u27, x27, c27, s27⟩
            rw [e27] at hE ⊢
            have ht27 := p27.lt
            refine ⟨hs_t2 p27.1, _, s_X1_closes p27 (by omega) (fun q => hE.fl t27 f27 (by omega) (by omega) (by omega) (by omega) (if_neg q)), ?_⟩
            rintro A28 hok28 ⟨q28, p28, f28, n28, u28⟩
            refine ⟨[1], st, c, sp, t27 + 1, if_pos q28, hok28, p28, f27.tr f28, by omega, by omega, by omega, rS.fr hok27 hok28 f28.1 (p27.kx (by omega)) _ x27, rS.fr hok27 hok28 f28.1 (p27.kx (by omega)) _ s27, c27.fr hok27 hok28 f28.1 (p27.kx (by omega))⟩
          · rcases hv25 with ⟨rfl, q⟩ | ⟨rfl, q⟩
            · exact absurd z25 (by decide)
            · have e25 : pForP D d2 (t22 + 1) = pSimple D d2 (t22 + 1) := if_neg q
              rw [e25] at hE ⊢
              refine ⟨hs_t2 p23.1, _, s_X1_simple (d := d2) hO (by omega) A23 (t22 + 1) E p23 (hr.sub (by omega) (by omega) (by omega) (by omega)) (hE.sub g23 (by omega) (by omega) (by omega) (fun f e => by rw [e]; rfl)), ?_⟩
              rintro _ A30 hok30 ⟨e30, tr30, t30, r30, rfl, p30, f30, l30, n30, u30, i30, x30⟩
              exact ⟨tr30, t30, r30, hok30, p30, g23.tr f30, by omega, by omega, by omega, rS.fr hok23 hok30 f30.1 (p23.kx (by omega)) _ x23, c23.fr hok23 hok30 f30.1 (p23.kx (by omega)), rS.mn hok30 (fun a q _ => by omega) _ x30⟩
          · rcases hv25 with ⟨rfl, q⟩ | ⟨rfl, q⟩
            · exact ⟨nd 35 [] lf lf, t22 + 1, if_pos q, hok23, p23, g23, by omega, by omega, by omega, x23, c23, rfl⟩
            · exact absurd rfl z25
        · rcases hv20 with ⟨rfl, q⟩ | ⟨rfl, q⟩
          · exact absurd z20 (by decide)
          · have e20 : pForC D d2 (t17 + 1) = pE D d2 (t17 + 1) := if_neg q
            rw [e20] at hE ⊢
            refine ⟨hs_t2 p18.1, _, s_g0 (d := d2) (by omega) A18 (t17 + 1) E p18 (hr.sub (by omega) (by omega) (by omega) (by omega)) (hE.sub g18 (by omega) (by omega) (by omega) (fun f e => by rw [e]; rfl)), ?_⟩
            rintro _ A32 hok32 ⟨e32, tr32, t32, r32, rfl, p32, f32, l32, n32, u32, i32, x32⟩
            exact ⟨tr32, t32, r32, hok32, p32, g18.tr f32, by omega, by omega, by omega, rS.fr hok18 hok32 f32.1 (p18.kx (by omega)) _ x18, Or.inr ⟨e32, i32, rfl, rX.mn hok32 _ (fun a q _ => by omega) x32⟩⟩
        · rcases hv20 with ⟨rfl, q⟩ | ⟨rfl, q⟩
          · exact ⟨lf, t17 + 1, if_pos q, hok18, p18, g18, by omega, by omega, by omega, x18, Or.inl ⟨rfl, rfl⟩⟩
          · exact absurd rfl z20
      · rcases hv15 with ⟨rfl, q⟩ | ⟨rfl, q⟩
        · exact absurd z15 (by decide)
        · refine ⟨hs_t2 p13.1, _, s_X1_takes p13, ?_⟩
          rintro v34 A34 hok34 _ (⟨rfl, q34, p34, f34, n34, u34⟩ | ⟨rfl, q34, rfl⟩)
          · refine ⟨fun q => absurd q (by decide), fun _ => ?_⟩
            have e15 : pForS D d2 (t + 2) = pStart D d2 (t + 3) := by rw [pForS, if_neg q, if_pos q34]
            rw [e15] at hE ⊢
            have ht34 := p34.lt
            have a34 := f34.1.1
            refine ⟨hs_t2 p34.1, _, s_X1_startTell (d := d2) (by omega) A34 (t + 3) E p34 (hr.sub (by omega) (by omega) (by omega) (by omega)) (hE.sub (g13.tr f34) (by omega) (by omega) (by omega) (fun f e => by rw [e]; rfl)), ?_⟩
            rintro _ A38 hok38 ⟨e38, tr38, t38, r38, rfl, p38, f38, l38, n38, u38, i38, x38⟩
            exact ⟨tr38, t38, r38, hok38, p38, (g13.tr f34).tr f38, by omega, by omega, by omega, rS.mn hok38 (fun a q _ => by omega) _ x38⟩
          · refine ⟨fun _ => ?_, fun q => absurd rfl q⟩
            have e15 : pForS D d2 (t + 2) = pSimple D d2 (t + 2) := by rw [pForS, if_neg q, if_neg q34]
            rw [e15] at hE ⊢
            refine ⟨hs_t2 p13.1, _, s_X1_simple (d := d2) hO (by omega) A13 (t + 2) E p13 (hr.sub (by omega) (by omega) (by omega) (by omega)) (hE.sub g13 (by omega) (by omega) (by omega) (fun f e => by rw [e]; rfl)), ?_⟩
            rintro _ A38 hok38 ⟨e38, tr38, t38, r38, rfl, p38, f38, l38, n38, u38, i38, x38⟩
            exact ⟨tr38, t38, r38, hok38, p38, g13.tr f38, by omega, by omega, by omega, rS.mn hok38 (fun a q _ => by omega) _ x38⟩
      · rcases hv15 with ⟨rfl, q⟩ | ⟨rfl, q⟩
        · exact ⟨nd 35 [] lf lf, t + 2, if_pos q, hok13, p13, g13, by omega, by omega, by omega, rfl⟩
        · exact absurd rfl z15
/-- one depth more -/
theorem go_S2 (hO : xHO G) (d : Nat) (ih : ∀ d', d' + 1 = d → ∀ n op, 2 * d' + 2 ≤ n → op + d' = 40 → oU G x D (rk_S2 G n).1 (pS D d') op) : ∀ n op, 2 * d + 2 ≤ n → op + d = 40 → oU G x D (rk_S2 G n).1 (pS D d) op := by
  intro n op hn hop
  have i0 : ∀ m, 2 * d ≤ m → ∀ d', d' + 1 = d → oU G x D (rk_S2 G m).1 (pS D d') (op + 1) := fun m hm d' hd => ih d' hd m (op + 1) (by omega) (by omega)
  obtain ⟨n, rfl⟩ : ∃ n', n = n' + 2 := ⟨n - 2, by omega⟩
  have b1 : oU G x D (rk_S2 G (n + 1)).2.1 (pBlock D (pS' D d) d) op := by
    show oU G x D (w_X1_block G (rk_S2 G n).1 (rk_S2 G n).2.1 (rk_S2 G n).2.2.1 (rk_S2 G n).2.2.2) _ _
    exact s_X1_block hO (i0 n (by omega)) hop
  have b2 : oU G x D (rk_S2 G (n + 1)).2.2.1 (pIf D (pS' D d) d) op := by
    show oU G x D (w_X1_choice G (rk_S2 G n).1 (rk_S2 G n).2.1 (rk_S2 G n).2.2.1 (rk_S2 G n).2.2.2) _ _
    exact s_X1_choice (i0 n (by omega)) hop
  show oU G x D (w_X1_statement G (rk_S2 G (n + 1)).1 (rk_S2 G (n + 1)).2.1 (rk_S2 G (n + 1)).2.2.1 (rk_S2 G (n + 1)).2.2.2) _ _
  refine s_X1_statement hO hop b1 b2 fun A t E hk h hr hE => ?_
  show w_X1_loop G (rk_S2 G n).1 (rk_S2 G n).2.1 (rk_S2 G n).2.2.1 (rk_S2 G n).2.2.2 (x + 2) _ _ _
  exact s_X1_loop hO (i0 n (by omega)) hop hk h hr hE
theorem s_rk_S2 (hO : xHO G) : ∀ d n op, 2 * d + 2 ≤ n → op + d = 40 → oU G x D (rk_S2 G n).1 (pS D d) op := by
  intro d
  induction d with
  | zero =>
    intro n op hn hop
    exact go_S2 hO 0 (fun d' h => absurd h (by omega)) n op hn hop
  | succ d ih =>
    intro n op hn hop
    exact go_S2 hO (d + 1) (fun d' h m op' hm hop' => by
      have : d' = d := by omega
      subst this
      exact ih m op' hm hop') n op hn hop
/-- a block, as functions have it -/
theorem s_g_block (hO : xHO G) (hop : op + d = 40) : oU G x D (g_S2_1 G) (pBlock D (pS' D d) d) op := by
  obtain ⟨n, hn⟩ : ∃ n, n = 199 := ⟨_, rfl⟩
  show oU G x D (rk_S2 G (199 + 1)).2.1 _ _
  rw [← hn]
  show oU G x D (w_X1_block G (rk_S2 G n).1 (rk_S2 G n).2.1 (rk_S2 G n).2.2.1 (rk_S2 G n).2.2.2) _ _
  exact s_X1_block hO (fun d' hd => s_rk_S2 hO d' n (op + 1) (by omega) (by omega)) hop
end HL
