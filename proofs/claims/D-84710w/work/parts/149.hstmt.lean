/-! ===== the House's parser: statements ===== -/
set_option maxRecDepth 100000
section HQ
variable {G : xG} {A A1 B : xA} {x t t1 op d z z1 : Nat} {D : tkL} {E : Nat → xA → Prop} {r : pR} {v : Option Nat}
variable {r0 r1 r2 r3 : oT}
/-- leave -/
theorem s_leave (hr : pm G D A t 0) (hok3 : xok G B) (p3 : PS G B x D (t + 1) op) (f3 : pz x A B) (hxl : x + 2 < A.n) {b : Int32} (hb : b = 0 ∨ b = 1) (hq : r = pNeed D 69 (t + 1) (.ok (nd 27 [tP D t, b] lf lf, t + 2))) : rmO G B 2 ∧ ∀ A60 : xA, A60 = B.new 30 0 2 0 → ∃ R61 : xA → Prop, w_X31_init G B.n (tP D t) b R61 A60 ∧ ∀ A61 : xA, xok G A61 → R61 A61 → j8 G x D A t op r (some B.n) A61 := by
  obtain ⟨f3, n3, u3⟩ := f3
  have ht3 := p3.lt
  have hl3 := p3.1.lt
  refine ⟨(hr.rr (A1 := B) (t1 := t + 1) (c := 1) (s := 2) (by omega) (by omega) (by omega) (by omega)).o, ?_⟩
  rintro _ rfl
  refine ⟨_, s_X31_init (by rw [gN_tg, if_pos rfl]) hb, ?_⟩
  rintro _ hok15 rfl
  have f15 : Fr (fun a => a = B.n) B (((B.new 30 0 2 0).setI B.n 0 (tP D t)).setI B.n 1 b) := Fr.fn.fs.fs
  refine ⟨B.n, _, t + 1, rfl, hq, p3.fr f15 (fun a ha q => by omega), f3.own f15 (fun a ha q => by omega) hxl, by omega, ?_, ?_, by right; right; decide, ⟨B.n, rfl, by omega, ?_, ?_, ?_⟩, hok15⟩
  · show B.n + 1 ≤ _
    omega
  · show B.u + 2 ≤ _
    omega
  · grind [gI_I, gI_L, gI_P, gI_tg, gI_ln, gI_gh, gI_n, gI_u, gL_I, gL_L, gL_P, gL_tg, gL_ln, gL_gh, gL_n, gL_u, gP_I, gP_L, gP_P, gP_tg, gP_ln, gP_gh, gP_n, gP_u, gN_I, gN_L, gN_P, gN_tg, gN_ln, gN_gh, gN_n, gN_u]
  · grind [gI_I, gI_L, gI_P, gI_tg, gI_ln, gI_gh, gI_n, gI_u, gL_I, gL_L, gL_P, gL_tg, gL_ln, gL_gh, gL_n, gL_u, gP_I, gP_L, gP_P, gP_tg, gP_ln, gP_gh, gP_n, gP_u, gN_I, gN_L, gN_P, gN_tg, gN_ln, gN_gh, gN_n, gN_u]
  · grind [gI_I, gI_L, gI_P, gI_tg, gI_ln, gI_gh, gI_n, gI_u, gL_I, gL_L, gL_P, gL_tg, gL_ln, gL_gh, gL_n, gL_u, gP_I, gP_L, gP_P, gP_tg, gP_ln, gP_gh, gP_n, gP_u, gN_I, gN_L, gN_P, gN_tg, gN_ln, gN_gh, gN_n, gN_u]
/-- put, halt -/
theorem s_out (hop : op + d = 40) (hr : pm G D A t 0) (hok : xok G A) (h : PS G A x D t op) {v : Int32} (hv : v = 1 ∧ tK D t = 22 ∨ v = 0 ∧ ¬ tK D t = 22) (hk : tK D t = 22 ∨ tK D t = 24) (hE : pX x D A t 0 (pPlain D d t) E) : A.tg (x + 2) = 2 ∧ ∀ A28 : xA, A28 = A.setI (x + 2) 3 (A.I (x + 2) 3 + 1) → rmO G A28 2 ∧ ∀ A30 : xA, A30 = A28.new 32 0 2 0 → ∃ R31 : Option Nat → xA → Prop, g_P_4 G (x + 2) R31 E A30 ∧ ∀ (v31 : Option Nat) (A31 : xA), xok G A31 → R31 v31 A31 → ∃ R32 : xA → Prop, w_X33_init G A28.n v31 v R32 A31 ∧ ∀ A32 : xA, xok G A32 → R32 A32 → j8 G x D A t op (pPlain D d t) (some A28.n) A32 := by
  have ht := h.lt
  have hxl := h.xl
  have hl := h.1.lt
  have hN := h.1.1
  have hx1 : t + 1 < D.length := h.2.2.1.nx ht (by rcases hk with q | q <;> rw [q] <;> decide) (by rcases hk with q | q <;> rw [q] <;> decide)
  have n19 : ¬ tK D t = 19 := by rcases hk with q | q <;> rw [q] <;> decide
  have n20 : ¬ tK D t = 20 := by rcases hk with q | q <;> rw [q] <;> decide
  have n21 : ¬ tK D t = 21 := by rcases hk with q | q <;> rw [q] <;> decide
  have hv01 : v = 0 ∨ v = 1 := by rcases hv with ⟨q, -⟩ | ⟨q, -⟩ <;> simp [q]
  have hb : v = if tK D t = 22 then 1 else 0 := by rcases hv with ⟨rfl, q⟩ | ⟨rfl, q⟩ <;> simp [q]
  have eP : pPlain D d t = pAnd (pAnd (pIn D (pE' D d) d (t + 1)) fun e t1 => .ok (nd 29 [if tK D t = 22 then 1 else 0] e lf, t1)) fun s t1 => pNeed D 69 t1 (.ok (s, t1 + 1)) := by rw [pPlain, if_neg n19, if_neg n20, if_neg n21, if_pos hk]
  rw [eP] at hE ⊢
  refine ⟨hs_t2 h.1, ?_⟩
  rintro _ rfl
  rw [h.a, nI_1]
  have p4 := h.at hx1
  have f4 : pf x A (A.setI (x + 2) 3 (nI (t + 1))) := pf.rf.set
  have nn4 : (A.setI (x + 2) 3 (nI (t + 1))).n = A.n := rfl
  have uu4 : (A.setI (x + 2) 3 (nI (t + 1))).u = A.u := rfl
  generalize A.setI (x + 2) 3 (nI (t + 1)) = A4 at *
  refine ⟨(hr.rr (A1 := A4) (t1 := t + 1) (c := 1) (s := 2) (by omega) (by omega) (by omega) (by omega)).o, ?_⟩
  rintro _ rfl
  have p8 : PS G (A4.new 32 0 2 0) x D (t + 1) op := p4.fr Fr.fn (fun a ha q => by omega)
  have f8 : pf x A (A4.new 32 0 2 0) := f4.own Fr.fn (fun a ha q => by omega) hxl
  have nn : (A4.new 32 0 2 0).n = A4.n + 1 := rfl
  have uu : (A4.new 32 0 2 0).u = A4.u + 2 := rfl
  have tg8 : (A4.new 32 0 2 0).tg A4.n = 32 := by rw [gN_tg, if_pos rfl]
  generalize A4.new 32 0 2 0 = A8 at *
  refine ⟨_, s_g4 hop A8 (t + 1) E p8 (hr.sub (by omega) (by omega) (by omega) (by omega)) (hE.sub f8 (by omega) (by omega) (by omega) (fun f e => by rw [e]; rfl)), ?_⟩
  rintro _ A9 hok9 ⟨e, tr, t9, r9, rfl, p9, f9, l9, n9, u9, i9, x9⟩
  rw [r9]
  have a9 := f9.1.1
  have tg9 : A9.tg A4.n = 32 := (f9.1.tg (by omega)).trans tg8
  refine ⟨_, s_X33_init tg9 hv01, ?_⟩
  rintro _ hok11 rfl
  have f11 : Fr (fun a => a = A4.n) A9 ((A9.setP A4.n 0 (some e)).setI A4.n 1 v) := Fr.rf.fp.fs
  refine ⟨A4.n, nd 29 [if tK D t = 22 then 1 else 0] tr lf, t9, rfl, rfl, p9.fr f11 (fun a ha q => by omega), (f8.tr f9).own f11 (fun a ha q => by omega) hxl, by omega, ?_, ?_, by right; right; decide, ⟨A4.n, e, rfl, by omega, tg9, ?_, ?_, i9, ?_⟩, hok11⟩
  · show A9.n ≤ _
    omega
  · show A9.u ≤ _
    omega
  · rw [← hb]
    grind [gI_I, gI_L, gI_P, gI_tg, gI_ln, gI_gh, gI_n, gI_u, gL_I, gL_L, gL_P, gL_tg, gL_ln, gL_gh, gL_n, gL_u, gP_I, gP_L, gP_P, gP_tg, gP_ln, gP_gh, gP_n, gP_u, gN_I, gN_L, gN_P, gN_tg, gN_ln, gN_gh, gN_n, gN_u]
  · grind [gI_I, gI_L, gI_P, gI_tg, gI_ln, gI_gh, gI_n, gI_u, gL_I, gL_L, gL_P, gL_tg, gL_ln, gL_gh, gL_n, gL_u, gP_I, gP_L, gP_P, gP_tg, gP_ln, gP_gh, gP_n, gP_u, gN_I, gN_L, gN_P, gN_tg, gN_ln, gN_gh, gN_n, gN_u]
  · exact rX.mn hok11 _ (fun a q _ => q.1) (rX.fr hok9 hok11 f11 _ (Kp.one (by rw [tg9]; decide) (fun q => q.2 rfl)) (rX.mn (N' := fun a => A.n ≤ a ∧ a ≠ A4.n) hok9 _ (fun a q _ => ⟨by omega, by omega⟩) x9))
theorem s_X1_statement (hO : xHO G) (hop : op + d = 40) (h1 : oU G x D r1 (pBlock D (pS' D d) d) op) (h2 : oU G x D r2 (pIf D (pS' D d) d) op) (h3 : ∀ A t E, (tK D t = 16 ∨ tK D t = 17 ∨ tK D t = 18) → PS G A x D t op → pm G D A t 0 → pX x D A t 0 (pLoopS D (pS' D d) d t) E → r3 (x + 2) (tQ G x D A t op (pLoopS D (pS' D d) d t)) E A) : oU G x D (w_X1_statement G r0 r1 r2 r3) (pS D d) op := by
  intro A t E h hr hE hok
  have ht := h.lt
  have hxl := h.xl
  have hl := h.1.lt
  have hN := h.1.1
  rw [pS_eq] at hE ⊢
  refine ⟨hs_t2 h.1, _, s_X1_here h, ?_⟩
  rintro _ _ _ ⟨rfl, rfl⟩
  refine ⟨hs_t2 h.1, _, s_X1_kind h, ?_⟩
  rintro _ _ _ ⟨rfl, rfl⟩
  refine ⟨fun q => ?_, fun q => ?_, fun q => ?_, fun q => ?_, fun q => ?_⟩
  · have e : pStF D (pS' D d) d t = pBlock D (pS' D d) d t := by rw [pStF, if_pos q]
    rw [e] at hE ⊢
    exact ⟨hs_t2 h.1, _, h1 A t E h hr hE, fun v B _ w => w⟩
  · have e : pStF D (pS' D d) d t = pTell D d t := by rw [pStF, if_neg (by rcases q with q | q <;> rw [q] <;> decide), if_pos q]
    rw [e] at hE ⊢
    exact ⟨hs_t2 h.1, _, s_X1_tell hop q h hr hE, fun v B _ w => w⟩
  · have e : pStF D (pS' D d) d t = pIf D (pS' D d) d t := by rw [pStF, if_neg (by rw [q]; decide), if_neg (by rw [q]; decide), if_pos q]
    rw [e] at hE ⊢
    exact ⟨hs_t2 h.1, _, h2 A t E h hr hE, fun v B _ w => w⟩
  · have e : pStF D (pS' D d) d t = pLoopS D (pS' D d) d t := by rw [pStF, if_neg (by rcases q with q | q | q <;> rw [q] <;> decide), if_neg (by rcases q with q | q | q <;> rw [q] <;> decide), if_neg (by rcases q with q | q | q <;> rw [q] <;> decide), if_pos q]
    rw [e] at hE ⊢
    exact ⟨hs_t2 h.1, _, h3 A t E q h hr hE, fun v B _ w => w⟩
  · obtain ⟨q66, q10, q11, q14, q16, q17, q18⟩ := q
    have e : pStF D (pS' D d) d t = pPlain D d t := by rw [pStF, if_neg q66, if_neg (fun q => q.elim q10 q11), if_neg q14, if_neg (fun q => q.elim q16 fun q => q.elim q17 q18)]
    rw [e] at hE ⊢
    refine ⟨hs_t2 h.1, _, s_X1_takes h, ?_⟩
    intro v14 A14 hok14 _ hv14
    refine ⟨j8 G x D A t op (pPlain D d t), fun y A8 hj => j8_q hE hxl hj, fun z14 => ?_, fun z14 => ?_⟩
    rotate_left
    · rcases hv14 with ⟨rfl, q, p3, f3⟩ | ⟨rfl, q, rfl⟩
      · exact s_leave hr hok14 p3 f3 hxl (Or.inr rfl) (by rw [pPlain, if_pos q]; rfl)
      · exact absurd rfl z14
    rcases hv14 with ⟨rfl, -⟩ | ⟨rfl, q19, rfl⟩
    · exact absurd z14 (by decide)
    refine ⟨hs_t2 h.1, _, s_X1_takes h, ?_⟩
    rintro v19 A19 hok19 _ (⟨rfl, q, p3, f3⟩ | ⟨rfl, q20, rfl⟩)
    · refine ⟨fun q => absurd q (by decide), fun _ => ?_⟩
      exact s_leave hr hok19 p3 f3 hxl (Or.inl rfl) (by rw [pPlain, if_neg q19, if_pos q]; rfl)
    refine ⟨fun _ => ?_, fun q => absurd rfl q⟩
    refine ⟨hs_t2 h.1, _, s_X1_takes h, ?_⟩
    rintro v21 A21 hok21 _ (⟨rfl, q21, p21, f21, n21, u21⟩ | ⟨rfl, q21, rfl⟩)
    · -- return
      refine ⟨fun q => absurd q (by decide), fun _ => ?_⟩
      have eP : pPlain D d t = pAnd (if tK D (t + 1) = 69 then .ok (nd 28 [tP D (t + 1)] lf lf, t + 1) else pAnd (pE D d (t + 1)) fun e t1 => .ok (nd 28 [tP D (t + 1)] e lf, t1)) fun s t1 => pNeed D 69 t1 (.ok (s, t1 + 1)) := by rw [pPlain, if_neg q19, if_neg q20, if_pos q21]
      rw [eP] at hE ⊢
      have ht21 := p21.lt
      have a21 := f21.1.1
      refine ⟨(hr.rr (A1 := A21) (t1 := t + 1) (c := 1) (s := 2) (by omega) (by omega) (by omega) (by omega)).o, ?_⟩
      rintro _ rfl
      have p8 : PS G (A21.new 31 0 2 0) x D (t + 1) op := p21.fr Fr.fn (fun a ha q => by omega)
      have f8 : pf x A (A21.new 31 0 2 0) := f21.own Fr.fn (fun a ha q => by omega) hxl
      have nn : (A21.new 31 0 2 0).n = A21.n + 1 := rfl
      have uu : (A21.new 31 0 2 0).u = A21.u + 2 := rfl
      have hok8 : xok G (A21.new 31 0 2 0) := hok21.new
      have tg8 : (A21.new 31 0 2 0).tg A21.n = 31 := by rw [gN_tg, if_pos rfl]
      generalize A21.new 31 0 2 0 = A8 at *
      refine ⟨hs_t2 p8.1, _, s_X1_here p8, ?_⟩
      rintro _ _ _ ⟨rfl, rfl⟩
      refine ⟨hs_t2 p8.1, _, s_X1_is p8, ?_⟩
      rintro v53 _ _ _ ⟨hv53, rfl⟩
      refine ⟨fun y B => ∃ tr tb, (if tK D (t + 1) = 69 then .ok (nd 28 [tP D (t + 1)] lf lf, t + 1) else pAnd (pE D d (t + 1)) fun e t1 => .ok (nd 28 [tP D (t + 1)] e lf, t1)) = (.ok (nd 28 [tP D (t + 1)] tr lf, tb) : pR) ∧ xok G B ∧ PS G B x D tb op ∧ pf x A B ∧ t + 1 ≤ tb ∧ B.n ≤ A.n + 24 * (tb - t) ∧ B.u ≤ A.u + 128 * (tb - t) ∧ A8.n ≤ B.n ∧ B.tg A21.n = 31 ∧ orX G B (fun a => A.n ≤ a ∧ a ≠ A21.n) tr y, ?_, fun z53 => ?_, fun z53 => ?_⟩
      · rintro y B ⟨tr, tb, eb, hokb, pb, fb, lb, nb, ub, ab, tgb, xb⟩
        rw [eb]
        refine ⟨_, s_X32_init tgb, ?_⟩
        rintro _ hok27 rfl
        have f27 : Fr (fun a => a = A21.n) B ((B.setI A21.n 0 (tP D (t + 1))).setP A21.n 1 y) := Fr.rf.fs.fp
        have hlb := pb.1.lt
        refine ⟨A21.n, nd 28 [tP D (t + 1)] tr lf, tb, rfl, rfl, pb.fr f27 (fun a ha q => by omega), fb.own f27 (fun a ha q => by omega) hxl, by omega, nb, ub, by right; right; decide, ⟨A21.n, rfl, by omega, tgb, ?_, ?_⟩, hok27⟩
        · grind [gI_I, gI_L, gI_P, gI_tg, gI_ln, gI_gh, gI_n, gI_u, gL_I, gL_L, gL_P, gL_tg, gL_ln, gL_gh, gL_n, gL_u, gP_I, gP_L, gP_P, gP_tg, gP_ln, gP_gh, gP_n, gP_u, gN_I, gN_L, gN_P, gN_tg, gN_ln, gN_gh, gN_n, gN_u]
        · have e1 : ((B.setI A21.n 0 (tP D (t + 1))).setP A21.n 1 y).P A21.n 1 = y := by grind [gI_I, gI_L, gI_P, gI_tg, gI_ln, gI_gh, gI_n, gI_u, gL_I, gL_L, gL_P, gL_tg, gL_ln, gL_gh, gL_n, gL_u, gP_I, gP_L, gP_P, gP_tg, gP_ln, gP_gh, gP_n, gP_u, gN_I, gN_L, gN_P, gN_tg, gN_ln, gN_gh, gN_n, gN_u]
          rw [e1]
          exact (xb.fr hokb hok27 f27 (Kp.one (by rw [tgb]; decide) (fun q => q.2 rfl))).mn hok27 (fun a q _ => q.1)
      · rcases hv53 with ⟨rfl, q⟩ | ⟨rfl, q⟩
        · exact absurd z53 (by decide)
        · rw [if_neg q] at hE ⊢
          refine ⟨hs_t2 p8.1, _, s_g0 hop A8 (t + 1) E p8 (hr.sub (by omega) (by omega) (by omega) (by omega)) (hE.sub f8 (by omega) (by omega) (by omega) (fun f e => by rw [e]; rfl)), ?_⟩
          rintro _ A28 hok28 ⟨e, tr, t28, r28, rfl, p28, f28, l28, n28, u28, i28, x28⟩
          have a28 := f28.1.1
          refine ⟨tr, t28, by rw [r28]; rfl, hok28, p28, f8.tr f28, by omega, by omega, by omega, by omega, ?_, Or.inr ⟨e, i28, rfl, rX.mn hok28 _ (fun a q _ => ⟨by omega, by omega⟩) x28⟩⟩
          rw [f28.1.tg (by omega)]
          exact tg8
      · rcases hv53 with ⟨rfl, q⟩ | ⟨rfl, q⟩
        · exact ⟨lf, t + 1, by rw [if_pos q], hok8, p8, f8, by omega, by omega, by omega, by omega, tg8, Or.inl ⟨rfl, rfl⟩⟩
        · exact absurd rfl z53
    refine ⟨fun _ => ?_, fun q => absurd rfl q⟩
    refine ⟨hs_t2 h.1, _, s_X1_is h, ?_⟩
    rintro v23 _ _ _ ⟨⟨rfl, q22⟩ | ⟨rfl, q22⟩, rfl⟩
    · refine ⟨fun q => absurd q (by decide), fun _ => ?_⟩
      refine ⟨hs_t2 h.1, _, s_X1_is h, ?_⟩
      rintro v25 _ _ _ ⟨hv25, rfl⟩
      exact s_out hop hr hok h hv25 (Or.inl q22) hE
    refine ⟨fun _ => ?_, fun q => absurd rfl q⟩
    refine ⟨hs_t2 h.1, _, s_X1_is h, ?_⟩
    rintro v33 _ _ _ ⟨⟨rfl, q24⟩ | ⟨rfl, q24⟩, rfl⟩
    · refine ⟨fun q => absurd q (by decide), fun _ => ?_⟩
      refine ⟨hs_t2 h.1, _, s_X1_is h, ?_⟩
      rintro v25 _ _ _ ⟨hv25, rfl⟩
      exact s_out hop hr hok h hv25 (Or.inr q24) hE
    refine ⟨fun _ => ?_, fun q => absurd rfl q⟩
    have eP : pPlain D d t = pAnd (if tK D t = 69 then .ok (nd 20 [] lf lf, t) else pSimple D d t) fun s t1 => pNeed D 69 t1 (.ok (s, t1 + 1)) := by rw [pPlain, if_neg q19, if_neg q20, if_neg q21, if_neg (fun q => q.elim q22 q24)]
    rw [eP] at hE ⊢
    refine ⟨hs_t2 h.1, _, s_X1_is h, ?_⟩
    rintro v35 _ _ _ ⟨hv35, rfl⟩
    refine ⟨_, fun y A37 hj => hj, fun z35 => ?_, fun z35 => ?_⟩
    · rcases hv35 with ⟨rfl, q⟩ | ⟨rfl, q⟩
      · exact absurd z35 (by decide)
      · rw [if_neg q] at hE ⊢
        refine ⟨hs_t2 h.1, _, s_X1_simple hO hop A t E h hr (hE.sub pf.rf (by omega) (by omega) (by omega) (fun f e => by rw [e]; rfl)), ?_⟩
        rintro _ A38 hok38 ⟨e, tr, t38, r38, rfl, p38, f38, l38, n38, u38, i38, x38⟩
        exact ⟨e, tr, t38, rfl, by rw [r38]; rfl, p38, f38, l38, by omega, by omega, i38, x38, hok38⟩
    · rcases hv35 with ⟨rfl, q⟩ | ⟨rfl, q⟩
      · rw [if_pos q, hs_P2_2 h.1]
        exact ⟨hs_t2 h.1, x + 12, nd 20 [] lf lf, t, rfl, rfl, h, pf.rf, Nat.le_refl _, by omega, by omega, Or.inl rfl, rfl, hok⟩
      · exact absurd rfl z35
end HQ
